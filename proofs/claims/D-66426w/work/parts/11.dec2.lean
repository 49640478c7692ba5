/-! decode rows (printed by wip/gen/links.py) -/
theorem d_Terms_make_0 : decode prog_17_method_5_code 0 = .ok (.iconst 0, 1) := by decide +kernel
theorem d_Terms_make_1 : decode prog_17_method_5_code 1 = .ok (.istore 7, 2) := by decide +kernel
theorem d_Terms_make_3 : decode prog_17_method_5_code 3 = .ok (.iload 7, 2) := by decide +kernel
theorem d_Terms_make_5 : decode prog_17_method_5_code 5 = .ok (.aload_n 0, 1) := by decide +kernel
theorem d_Terms_make_6 : decode prog_17_method_5_code 6 = .ok (.getfield 15, 3) := by decide +kernel
theorem d_Terms_make_9 : decode prog_17_method_5_code 9 = .ok (.if_icmp .ge 77, 3) := by decide +kernel
theorem d_Terms_make_12 : decode prog_17_method_5_code 12 = .ok (.aload_n 0, 1) := by decide +kernel
theorem d_Terms_make_13 : decode prog_17_method_5_code 13 = .ok (.iload 7, 2) := by decide +kernel
theorem d_Terms_make_15 : decode prog_17_method_5_code 15 = .ok (.iload_n 1, 1) := by decide +kernel
theorem d_Terms_make_16 : decode prog_17_method_5_code 16 = .ok (.invokevirtual 27, 3) := by decide +kernel
theorem d_Terms_make_19 : decode prog_17_method_5_code 19 = .ok (.ifCond .eq 61, 3) := by decide +kernel
theorem d_Terms_make_22 : decode prog_17_method_5_code 22 = .ok (.aload_n 0, 1) := by decide +kernel
theorem d_Terms_make_23 : decode prog_17_method_5_code 23 = .ok (.iload 7, 2) := by decide +kernel
theorem d_Terms_make_25 : decode prog_17_method_5_code 25 = .ok (.iconst 1, 1) := by decide +kernel
theorem d_Terms_make_26 : decode prog_17_method_5_code 26 = .ok (.invokevirtual 23, 3) := by decide +kernel
theorem d_Terms_make_29 : decode prog_17_method_5_code 29 = .ok (.iload_n 2, 1) := by decide +kernel
theorem d_Terms_make_30 : decode prog_17_method_5_code 30 = .ok (.if_icmp .ne 50, 3) := by decide +kernel
theorem d_Terms_make_33 : decode prog_17_method_5_code 33 = .ok (.aload_n 0, 1) := by decide +kernel
theorem d_Terms_make_34 : decode prog_17_method_5_code 34 = .ok (.iload 7, 2) := by decide +kernel
theorem d_Terms_make_36 : decode prog_17_method_5_code 36 = .ok (.iconst 2, 1) := by decide +kernel
theorem d_Terms_make_37 : decode prog_17_method_5_code 37 = .ok (.invokevirtual 23, 3) := by decide +kernel
theorem d_Terms_make_40 : decode prog_17_method_5_code 40 = .ok (.iload_n 3, 1) := by decide +kernel
theorem d_Terms_make_41 : decode prog_17_method_5_code 41 = .ok (.if_icmp .ne 39, 3) := by decide +kernel
theorem d_Terms_make_44 : decode prog_17_method_5_code 44 = .ok (.aload_n 0, 1) := by decide +kernel
theorem d_Terms_make_45 : decode prog_17_method_5_code 45 = .ok (.iload 7, 2) := by decide +kernel
theorem d_Terms_make_47 : decode prog_17_method_5_code 47 = .ok (.iconst 3, 1) := by decide +kernel
theorem d_Terms_make_48 : decode prog_17_method_5_code 48 = .ok (.invokevirtual 23, 3) := by decide +kernel
theorem d_Terms_make_51 : decode prog_17_method_5_code 51 = .ok (.iload 4, 2) := by decide +kernel
theorem d_Terms_make_53 : decode prog_17_method_5_code 53 = .ok (.if_icmp .ne 27, 3) := by decide +kernel
theorem d_Terms_make_56 : decode prog_17_method_5_code 56 = .ok (.aload_n 0, 1) := by decide +kernel
theorem d_Terms_make_57 : decode prog_17_method_5_code 57 = .ok (.iload 7, 2) := by decide +kernel
theorem d_Terms_make_59 : decode prog_17_method_5_code 59 = .ok (.iconst 4, 1) := by decide +kernel
theorem d_Terms_make_60 : decode prog_17_method_5_code 60 = .ok (.invokevirtual 23, 3) := by decide +kernel
theorem d_Terms_make_63 : decode prog_17_method_5_code 63 = .ok (.iload 5, 2) := by decide +kernel
theorem d_Terms_make_65 : decode prog_17_method_5_code 65 = .ok (.if_icmp .ne 15, 3) := by decide +kernel
theorem d_Terms_make_68 : decode prog_17_method_5_code 68 = .ok (.aload_n 0, 1) := by decide +kernel
theorem d_Terms_make_69 : decode prog_17_method_5_code 69 = .ok (.iload 7, 2) := by decide +kernel
theorem d_Terms_make_71 : decode prog_17_method_5_code 71 = .ok (.iconst 5, 1) := by decide +kernel
theorem d_Terms_make_72 : decode prog_17_method_5_code 72 = .ok (.invokevirtual 23, 3) := by decide +kernel
theorem d_Terms_make_75 : decode prog_17_method_5_code 75 = .ok (.iload 6, 2) := by decide +kernel
theorem d_Terms_make_77 : decode prog_17_method_5_code 77 = .ok (.if_icmp .eq 9, 3) := by decide +kernel
theorem d_Terms_make_80 : decode prog_17_method_5_code 80 = .ok (.iinc 7 1, 3) := by decide +kernel
theorem d_Terms_make_83 : decode prog_17_method_5_code 83 = .ok (.goto (-80), 3) := by decide +kernel
theorem d_Terms_make_86 : decode prog_17_method_5_code 86 = .ok (.iload 7, 2) := by decide +kernel
theorem d_Terms_make_88 : decode prog_17_method_5_code 88 = .ok (.aload_n 0, 1) := by decide +kernel
theorem d_Terms_make_89 : decode prog_17_method_5_code 89 = .ok (.getfield 15, 3) := by decide +kernel
theorem d_Terms_make_92 : decode prog_17_method_5_code 92 = .ok (.if_icmp .ne 92, 3) := by decide +kernel
theorem d_Terms_make_95 : decode prog_17_method_5_code 95 = .ok (.aload_n 0, 1) := by decide +kernel
theorem d_Terms_make_96 : decode prog_17_method_5_code 96 = .ok (.getfield 9, 3) := by decide +kernel
theorem d_Terms_make_99 : decode prog_17_method_5_code 99 = .ok (.bipush 6, 2) := by decide +kernel
theorem d_Terms_make_101 : decode prog_17_method_5_code 101 = .ok (.iload 7, 2) := by decide +kernel
theorem d_Terms_make_103 : decode prog_17_method_5_code 103 = .ok (.imul, 1) := by decide +kernel
theorem d_Terms_make_104 : decode prog_17_method_5_code 104 = .ok (.iload_n 1, 1) := by decide +kernel
theorem d_Terms_make_105 : decode prog_17_method_5_code 105 = .ok (.iastore, 1) := by decide +kernel
theorem d_Terms_make_106 : decode prog_17_method_5_code 106 = .ok (.aload_n 0, 1) := by decide +kernel
theorem d_Terms_make_107 : decode prog_17_method_5_code 107 = .ok (.getfield 9, 3) := by decide +kernel
theorem d_Terms_make_110 : decode prog_17_method_5_code 110 = .ok (.bipush 6, 2) := by decide +kernel
theorem d_Terms_make_112 : decode prog_17_method_5_code 112 = .ok (.iload 7, 2) := by decide +kernel
theorem d_Terms_make_114 : decode prog_17_method_5_code 114 = .ok (.imul, 1) := by decide +kernel
theorem d_Terms_make_115 : decode prog_17_method_5_code 115 = .ok (.iconst 1, 1) := by decide +kernel
theorem d_Terms_make_116 : decode prog_17_method_5_code 116 = .ok (.iadd, 1) := by decide +kernel
theorem d_Terms_make_117 : decode prog_17_method_5_code 117 = .ok (.iload_n 2, 1) := by decide +kernel
theorem d_Terms_make_118 : decode prog_17_method_5_code 118 = .ok (.iastore, 1) := by decide +kernel
theorem d_Terms_make_119 : decode prog_17_method_5_code 119 = .ok (.aload_n 0, 1) := by decide +kernel
theorem d_Terms_make_120 : decode prog_17_method_5_code 120 = .ok (.getfield 9, 3) := by decide +kernel
theorem d_Terms_make_123 : decode prog_17_method_5_code 123 = .ok (.bipush 6, 2) := by decide +kernel
theorem d_Terms_make_125 : decode prog_17_method_5_code 125 = .ok (.iload 7, 2) := by decide +kernel
theorem d_Terms_make_127 : decode prog_17_method_5_code 127 = .ok (.imul, 1) := by decide +kernel
theorem d_Terms_make_128 : decode prog_17_method_5_code 128 = .ok (.iconst 2, 1) := by decide +kernel
theorem d_Terms_make_129 : decode prog_17_method_5_code 129 = .ok (.iadd, 1) := by decide +kernel
theorem d_Terms_make_130 : decode prog_17_method_5_code 130 = .ok (.iload_n 3, 1) := by decide +kernel
theorem d_Terms_make_131 : decode prog_17_method_5_code 131 = .ok (.iastore, 1) := by decide +kernel
theorem d_Terms_make_132 : decode prog_17_method_5_code 132 = .ok (.aload_n 0, 1) := by decide +kernel
theorem d_Terms_make_133 : decode prog_17_method_5_code 133 = .ok (.getfield 9, 3) := by decide +kernel
theorem d_Terms_make_136 : decode prog_17_method_5_code 136 = .ok (.bipush 6, 2) := by decide +kernel
theorem d_Terms_make_138 : decode prog_17_method_5_code 138 = .ok (.iload 7, 2) := by decide +kernel
theorem d_Terms_make_140 : decode prog_17_method_5_code 140 = .ok (.imul, 1) := by decide +kernel
theorem d_Terms_make_141 : decode prog_17_method_5_code 141 = .ok (.iconst 3, 1) := by decide +kernel
theorem d_Terms_make_142 : decode prog_17_method_5_code 142 = .ok (.iadd, 1) := by decide +kernel
theorem d_Terms_make_143 : decode prog_17_method_5_code 143 = .ok (.iload 4, 2) := by decide +kernel
theorem d_Terms_make_145 : decode prog_17_method_5_code 145 = .ok (.iastore, 1) := by decide +kernel
theorem d_Terms_make_146 : decode prog_17_method_5_code 146 = .ok (.aload_n 0, 1) := by decide +kernel
theorem d_Terms_make_147 : decode prog_17_method_5_code 147 = .ok (.getfield 9, 3) := by decide +kernel
theorem d_Terms_make_150 : decode prog_17_method_5_code 150 = .ok (.bipush 6, 2) := by decide +kernel
theorem d_Terms_make_152 : decode prog_17_method_5_code 152 = .ok (.iload 7, 2) := by decide +kernel
theorem d_Terms_make_154 : decode prog_17_method_5_code 154 = .ok (.imul, 1) := by decide +kernel
theorem d_Terms_make_155 : decode prog_17_method_5_code 155 = .ok (.iconst 4, 1) := by decide +kernel
theorem d_Terms_make_156 : decode prog_17_method_5_code 156 = .ok (.iadd, 1) := by decide +kernel
theorem d_Terms_make_157 : decode prog_17_method_5_code 157 = .ok (.iload 5, 2) := by decide +kernel
theorem d_Terms_make_159 : decode prog_17_method_5_code 159 = .ok (.iastore, 1) := by decide +kernel
theorem d_Terms_make_160 : decode prog_17_method_5_code 160 = .ok (.aload_n 0, 1) := by decide +kernel
theorem d_Terms_make_161 : decode prog_17_method_5_code 161 = .ok (.getfield 9, 3) := by decide +kernel
theorem d_Terms_make_164 : decode prog_17_method_5_code 164 = .ok (.bipush 6, 2) := by decide +kernel
theorem d_Terms_make_166 : decode prog_17_method_5_code 166 = .ok (.iload 7, 2) := by decide +kernel
theorem d_Terms_make_168 : decode prog_17_method_5_code 168 = .ok (.imul, 1) := by decide +kernel
theorem d_Terms_make_169 : decode prog_17_method_5_code 169 = .ok (.iconst 5, 1) := by decide +kernel
theorem d_Terms_make_170 : decode prog_17_method_5_code 170 = .ok (.iadd, 1) := by decide +kernel
theorem d_Terms_make_171 : decode prog_17_method_5_code 171 = .ok (.iload 6, 2) := by decide +kernel
theorem d_Terms_make_173 : decode prog_17_method_5_code 173 = .ok (.iastore, 1) := by decide +kernel
theorem d_Terms_make_174 : decode prog_17_method_5_code 174 = .ok (.aload_n 0, 1) := by decide +kernel
theorem d_Terms_make_175 : decode prog_17_method_5_code 175 = .ok (.dup, 1) := by decide +kernel
theorem d_Terms_make_176 : decode prog_17_method_5_code 176 = .ok (.getfield 15, 3) := by decide +kernel
theorem d_Terms_make_179 : decode prog_17_method_5_code 179 = .ok (.iconst 1, 1) := by decide +kernel
theorem d_Terms_make_180 : decode prog_17_method_5_code 180 = .ok (.iadd, 1) := by decide +kernel
theorem d_Terms_make_181 : decode prog_17_method_5_code 181 = .ok (.putfield 15, 3) := by decide +kernel
theorem d_Terms_make_184 : decode prog_17_method_5_code 184 = .ok (.iload 7, 2) := by decide +kernel
theorem d_Terms_make_186 : decode prog_17_method_5_code 186 = .ok (.ireturn, 1) := by decide +kernel
theorem d_Terms_number_0 : decode prog_17_method_6_code 0 = .ok (.aload_n 0, 1) := by decide +kernel
theorem d_Terms_number_1 : decode prog_17_method_6_code 1 = .ok (.iconst 1, 1) := by decide +kernel
theorem d_Terms_number_2 : decode prog_17_method_6_code 2 = .ok (.iload_n 1, 1) := by decide +kernel
theorem d_Terms_number_3 : decode prog_17_method_6_code 3 = .ok (.iconst 0, 1) := by decide +kernel
theorem d_Terms_number_4 : decode prog_17_method_6_code 4 = .ok (.iconst 0, 1) := by decide +kernel
theorem d_Terms_number_5 : decode prog_17_method_6_code 5 = .ok (.iconst 0, 1) := by decide +kernel
theorem d_Terms_number_6 : decode prog_17_method_6_code 6 = .ok (.iconst 0, 1) := by decide +kernel
theorem d_Terms_number_7 : decode prog_17_method_6_code 7 = .ok (.invokevirtual 19, 3) := by decide +kernel
theorem d_Terms_number_10 : decode prog_17_method_6_code 10 = .ok (.ireturn, 1) := by decide +kernel
theorem d_Terms_come1_0 : decode prog_17_method_7_code 0 = .ok (.aload_n 1, 1) := by decide +kernel
theorem d_Terms_come1_1 : decode prog_17_method_7_code 1 = .ok (.aload_n 2, 1) := by decide +kernel
theorem d_Terms_come1_2 : decode prog_17_method_7_code 2 = .ok (.getfield 31, 3) := by decide +kernel
theorem d_Terms_come1_5 : decode prog_17_method_7_code 5 = .ok (.iconst 1, 1) := by decide +kernel
theorem d_Terms_come1_6 : decode prog_17_method_7_code 6 = .ok (.if_icmp .ne 16, 3) := by decide +kernel
theorem d_Terms_come1_9 : decode prog_17_method_7_code 9 = .ok (.aload_n 0, 1) := by decide +kernel
theorem d_Terms_come1_10 : decode prog_17_method_7_code 10 = .ok (.iconst 2, 1) := by decide +kernel
theorem d_Terms_come1_11 : decode prog_17_method_7_code 11 = .ok (.iconst 0, 1) := by decide +kernel
theorem d_Terms_come1_12 : decode prog_17_method_7_code 12 = .ok (.iconst 0, 1) := by decide +kernel
theorem d_Terms_come1_13 : decode prog_17_method_7_code 13 = .ok (.iconst 0, 1) := by decide +kernel
theorem d_Terms_come1_14 : decode prog_17_method_7_code 14 = .ok (.iconst 0, 1) := by decide +kernel
theorem d_Terms_come1_15 : decode prog_17_method_7_code 15 = .ok (.iconst 0, 1) := by decide +kernel
theorem d_Terms_come1_16 : decode prog_17_method_7_code 16 = .ok (.invokevirtual 19, 3) := by decide +kernel
theorem d_Terms_come1_19 : decode prog_17_method_7_code 19 = .ok (.goto 11, 3) := by decide +kernel
theorem d_Terms_come1_22 : decode prog_17_method_7_code 22 = .ok (.aload_n 0, 1) := by decide +kernel
theorem d_Terms_come1_23 : decode prog_17_method_7_code 23 = .ok (.aload_n 2, 1) := by decide +kernel
theorem d_Terms_come1_24 : decode prog_17_method_7_code 24 = .ok (.invokevirtual 36, 3) := by decide +kernel
theorem d_Terms_come1_27 : decode prog_17_method_7_code 27 = .ok (.invokevirtual 40, 3) := by decide +kernel
theorem d_Terms_come1_30 : decode prog_17_method_7_code 30 = .ok (.putfield 44, 3) := by decide +kernel
theorem d_Terms_come1_33 : decode prog_17_method_7_code 33 = .ok (.return_, 1) := by decide +kernel
theorem d_Terms_come2_0 : decode prog_17_method_21_code 0 = .ok (.aload_n 0, 1) := by decide +kernel
theorem d_Terms_come2_1 : decode prog_17_method_21_code 1 = .ok (.aload_n 1, 1) := by decide +kernel
theorem d_Terms_come2_2 : decode prog_17_method_21_code 2 = .ok (.checkcast 45, 3) := by decide +kernel
theorem d_Terms_come2_5 : decode prog_17_method_21_code 5 = .ok (.aload_n 2, 1) := by decide +kernel
theorem d_Terms_come2_6 : decode prog_17_method_21_code 6 = .ok (.iload_n 3, 1) := by decide +kernel
theorem d_Terms_come2_7 : decode prog_17_method_21_code 7 = .ok (.invokevirtual 102, 3) := by decide +kernel
theorem d_Terms_come2_10 : decode prog_17_method_21_code 10 = .ok (.return_, 1) := by decide +kernel
theorem d_Terms_go1_0 : decode prog_17_method_8_code 0 = .ok (.return_, 1) := by decide +kernel
theorem d_Terms_go2_0 : decode prog_17_method_20_code 0 = .ok (.aload_n 0, 1) := by decide +kernel
theorem d_Terms_go2_1 : decode prog_17_method_20_code 1 = .ok (.aload_n 1, 1) := by decide +kernel
theorem d_Terms_go2_2 : decode prog_17_method_20_code 2 = .ok (.checkcast 45, 3) := by decide +kernel
theorem d_Terms_go2_5 : decode prog_17_method_20_code 5 = .ok (.aload_n 2, 1) := by decide +kernel
theorem d_Terms_go2_6 : decode prog_17_method_20_code 6 = .ok (.iload_n 3, 1) := by decide +kernel
theorem d_Terms_go2_7 : decode prog_17_method_20_code 7 = .ok (.invokevirtual 99, 3) := by decide +kernel
theorem d_Terms_go2_10 : decode prog_17_method_20_code 10 = .ok (.return_, 1) := by decide +kernel
theorem d_Terms_wrap1_0 : decode prog_17_method_9_code 0 = .ok (.aload_n 1, 1) := by decide +kernel
theorem d_Terms_wrap1_1 : decode prog_17_method_9_code 1 = .ok (.aload_n 0, 1) := by decide +kernel
theorem d_Terms_wrap1_2 : decode prog_17_method_9_code 2 = .ok (.iconst 3, 1) := by decide +kernel
theorem d_Terms_wrap1_3 : decode prog_17_method_9_code 3 = .ok (.aload_n 1, 1) := by decide +kernel
theorem d_Terms_wrap1_4 : decode prog_17_method_9_code 4 = .ok (.getfield 44, 3) := by decide +kernel
theorem d_Terms_wrap1_7 : decode prog_17_method_9_code 7 = .ok (.iconst 0, 1) := by decide +kernel
theorem d_Terms_wrap1_8 : decode prog_17_method_9_code 8 = .ok (.iconst 0, 1) := by decide +kernel
theorem d_Terms_wrap1_9 : decode prog_17_method_9_code 9 = .ok (.iconst 0, 1) := by decide +kernel
theorem d_Terms_wrap1_10 : decode prog_17_method_9_code 10 = .ok (.iconst 0, 1) := by decide +kernel
theorem d_Terms_wrap1_11 : decode prog_17_method_9_code 11 = .ok (.invokevirtual 19, 3) := by decide +kernel
theorem d_Terms_wrap1_14 : decode prog_17_method_9_code 14 = .ok (.putfield 44, 3) := by decide +kernel
theorem d_Terms_wrap1_17 : decode prog_17_method_9_code 17 = .ok (.return_, 1) := by decide +kernel
theorem d_Terms_wrap2_0 : decode prog_17_method_19_code 0 = .ok (.aload_n 0, 1) := by decide +kernel
theorem d_Terms_wrap2_1 : decode prog_17_method_19_code 1 = .ok (.aload_n 1, 1) := by decide +kernel
theorem d_Terms_wrap2_2 : decode prog_17_method_19_code 2 = .ok (.checkcast 45, 3) := by decide +kernel
theorem d_Terms_wrap2_5 : decode prog_17_method_19_code 5 = .ok (.aload_n 2, 1) := by decide +kernel
theorem d_Terms_wrap2_6 : decode prog_17_method_19_code 6 = .ok (.iload_n 3, 1) := by decide +kernel
theorem d_Terms_wrap2_7 : decode prog_17_method_19_code 7 = .ok (.invokevirtual 96, 3) := by decide +kernel
theorem d_Terms_wrap2_10 : decode prog_17_method_19_code 10 = .ok (.return_, 1) := by decide +kernel
theorem d_Terms_unwrap1_0 : decode prog_17_method_10_code 0 = .ok (.aload_n 1, 1) := by decide +kernel
theorem d_Terms_unwrap1_1 : decode prog_17_method_10_code 1 = .ok (.getfield 44, 3) := by decide +kernel
theorem d_Terms_unwrap1_4 : decode prog_17_method_10_code 4 = .ok (.istore 4, 2) := by decide +kernel
theorem d_Terms_unwrap1_6 : decode prog_17_method_10_code 6 = .ok (.aload_n 1, 1) := by decide +kernel
theorem d_Terms_unwrap1_7 : decode prog_17_method_10_code 7 = .ok (.aload_n 0, 1) := by decide +kernel
theorem d_Terms_unwrap1_8 : decode prog_17_method_10_code 8 = .ok (.iload 4, 2) := by decide +kernel
theorem d_Terms_unwrap1_10 : decode prog_17_method_10_code 10 = .ok (.iconst 3, 1) := by decide +kernel
theorem d_Terms_unwrap1_11 : decode prog_17_method_10_code 11 = .ok (.invokevirtual 27, 3) := by decide +kernel
theorem d_Terms_unwrap1_14 : decode prog_17_method_10_code 14 = .ok (.ifCond .eq 13, 3) := by decide +kernel
theorem d_Terms_unwrap1_17 : decode prog_17_method_10_code 17 = .ok (.aload_n 0, 1) := by decide +kernel
theorem d_Terms_unwrap1_18 : decode prog_17_method_10_code 18 = .ok (.iload 4, 2) := by decide +kernel
theorem d_Terms_unwrap1_20 : decode prog_17_method_10_code 20 = .ok (.iconst 1, 1) := by decide +kernel
theorem d_Terms_unwrap1_21 : decode prog_17_method_10_code 21 = .ok (.invokevirtual 23, 3) := by decide +kernel
theorem d_Terms_unwrap1_24 : decode prog_17_method_10_code 24 = .ok (.goto 35, 3) := by decide +kernel
theorem d_Terms_unwrap1_27 : decode prog_17_method_10_code 27 = .ok (.aload_n 0, 1) := by decide +kernel
theorem d_Terms_unwrap1_28 : decode prog_17_method_10_code 28 = .ok (.iload 4, 2) := by decide +kernel
theorem d_Terms_unwrap1_30 : decode prog_17_method_10_code 30 = .ok (.iconst 2, 1) := by decide +kernel
theorem d_Terms_unwrap1_31 : decode prog_17_method_10_code 31 = .ok (.invokevirtual 27, 3) := by decide +kernel
theorem d_Terms_unwrap1_34 : decode prog_17_method_10_code 34 = .ok (.ifCond .eq 14, 3) := by decide +kernel
theorem d_Terms_unwrap1_37 : decode prog_17_method_10_code 37 = .ok (.aload_n 0, 1) := by decide +kernel
theorem d_Terms_unwrap1_38 : decode prog_17_method_10_code 38 = .ok (.aload_n 2, 1) := by decide +kernel
theorem d_Terms_unwrap1_39 : decode prog_17_method_10_code 39 = .ok (.invokevirtual 36, 3) := by decide +kernel
theorem d_Terms_unwrap1_42 : decode prog_17_method_10_code 42 = .ok (.invokevirtual 40, 3) := by decide +kernel
theorem d_Terms_unwrap1_45 : decode prog_17_method_10_code 45 = .ok (.goto 14, 3) := by decide +kernel
theorem d_Terms_unwrap1_48 : decode prog_17_method_10_code 48 = .ok (.aload_n 0, 1) := by decide +kernel
theorem d_Terms_unwrap1_49 : decode prog_17_method_10_code 49 = .ok (.iconst 4, 1) := by decide +kernel
theorem d_Terms_unwrap1_50 : decode prog_17_method_10_code 50 = .ok (.iload 4, 2) := by decide +kernel
theorem d_Terms_unwrap1_52 : decode prog_17_method_10_code 52 = .ok (.iconst 0, 1) := by decide +kernel
theorem d_Terms_unwrap1_53 : decode prog_17_method_10_code 53 = .ok (.iconst 0, 1) := by decide +kernel
theorem d_Terms_unwrap1_54 : decode prog_17_method_10_code 54 = .ok (.iconst 0, 1) := by decide +kernel
theorem d_Terms_unwrap1_55 : decode prog_17_method_10_code 55 = .ok (.iconst 0, 1) := by decide +kernel
theorem d_Terms_unwrap1_56 : decode prog_17_method_10_code 56 = .ok (.invokevirtual 19, 3) := by decide +kernel
theorem d_Terms_unwrap1_59 : decode prog_17_method_10_code 59 = .ok (.putfield 44, 3) := by decide +kernel
theorem d_Terms_unwrap1_62 : decode prog_17_method_10_code 62 = .ok (.return_, 1) := by decide +kernel
theorem d_Terms_unwrap2_0 : decode prog_17_method_18_code 0 = .ok (.aload_n 0, 1) := by decide +kernel
theorem d_Terms_unwrap2_1 : decode prog_17_method_18_code 1 = .ok (.aload_n 1, 1) := by decide +kernel
theorem d_Terms_unwrap2_2 : decode prog_17_method_18_code 2 = .ok (.checkcast 45, 3) := by decide +kernel
theorem d_Terms_unwrap2_5 : decode prog_17_method_18_code 5 = .ok (.aload_n 2, 1) := by decide +kernel
theorem d_Terms_unwrap2_6 : decode prog_17_method_18_code 6 = .ok (.iload_n 3, 1) := by decide +kernel
theorem d_Terms_unwrap2_7 : decode prog_17_method_18_code 7 = .ok (.invokevirtual 92, 3) := by decide +kernel
theorem d_Terms_unwrap2_10 : decode prog_17_method_18_code 10 = .ok (.return_, 1) := by decide +kernel
theorem d_Terms_split1_0 : decode prog_17_method_11_code 0 = .ok (.aload_n 1, 1) := by decide +kernel
theorem d_Terms_split1_1 : decode prog_17_method_11_code 1 = .ok (.getfield 44, 3) := by decide +kernel
theorem d_Terms_split1_4 : decode prog_17_method_11_code 4 = .ok (.istore 4, 2) := by decide +kernel
theorem d_Terms_split1_6 : decode prog_17_method_11_code 6 = .ok (.aload_n 0, 1) := by decide +kernel
theorem d_Terms_split1_7 : decode prog_17_method_11_code 7 = .ok (.iload 4, 2) := by decide +kernel
theorem d_Terms_split1_9 : decode prog_17_method_11_code 9 = .ok (.iconst 1, 1) := by decide +kernel
theorem d_Terms_split1_10 : decode prog_17_method_11_code 10 = .ok (.invokevirtual 27, 3) := by decide +kernel
theorem d_Terms_split1_13 : decode prog_17_method_11_code 13 = .ok (.ifCond .eq 50, 3) := by decide +kernel
theorem d_Terms_split1_16 : decode prog_17_method_11_code 16 = .ok (.aload_n 1, 1) := by decide +kernel
theorem d_Terms_split1_17 : decode prog_17_method_11_code 17 = .ok (.aload_n 0, 1) := by decide +kernel
theorem d_Terms_split1_18 : decode prog_17_method_11_code 18 = .ok (.aload_n 0, 1) := by decide +kernel
theorem d_Terms_split1_19 : decode prog_17_method_11_code 19 = .ok (.iload 4, 2) := by decide +kernel
theorem d_Terms_split1_21 : decode prog_17_method_11_code 21 = .ok (.iconst 1, 1) := by decide +kernel
theorem d_Terms_split1_22 : decode prog_17_method_11_code 22 = .ok (.invokevirtual 23, 3) := by decide +kernel
theorem d_Terms_split1_25 : decode prog_17_method_11_code 25 = .ok (.aload_n 3, 1) := by decide +kernel
theorem d_Terms_split1_26 : decode prog_17_method_11_code 26 = .ok (.getfield 49, 3) := by decide +kernel
theorem d_Terms_split1_29 : decode prog_17_method_11_code 29 = .ok (.invokestatic 52, 3) := by decide +kernel
theorem d_Terms_split1_32 : decode prog_17_method_11_code 32 = .ok (.invokevirtual 40, 3) := by decide +kernel
theorem d_Terms_split1_35 : decode prog_17_method_11_code 35 = .ok (.putfield 44, 3) := by decide +kernel
theorem d_Terms_split1_38 : decode prog_17_method_11_code 38 = .ok (.aload_n 2, 1) := by decide +kernel
theorem d_Terms_split1_39 : decode prog_17_method_11_code 39 = .ok (.aload_n 0, 1) := by decide +kernel
theorem d_Terms_split1_40 : decode prog_17_method_11_code 40 = .ok (.aload_n 0, 1) := by decide +kernel
theorem d_Terms_split1_41 : decode prog_17_method_11_code 41 = .ok (.iload 4, 2) := by decide +kernel
theorem d_Terms_split1_43 : decode prog_17_method_11_code 43 = .ok (.iconst 1, 1) := by decide +kernel
theorem d_Terms_split1_44 : decode prog_17_method_11_code 44 = .ok (.invokevirtual 23, 3) := by decide +kernel
theorem d_Terms_split1_47 : decode prog_17_method_11_code 47 = .ok (.aload_n 3, 1) := by decide +kernel
theorem d_Terms_split1_48 : decode prog_17_method_11_code 48 = .ok (.getfield 49, 3) := by decide +kernel
theorem d_Terms_split1_51 : decode prog_17_method_11_code 51 = .ok (.invokestatic 57, 3) := by decide +kernel
theorem d_Terms_split1_54 : decode prog_17_method_11_code 54 = .ok (.invokevirtual 40, 3) := by decide +kernel
theorem d_Terms_split1_57 : decode prog_17_method_11_code 57 = .ok (.putfield 44, 3) := by decide +kernel
theorem d_Terms_split1_60 : decode prog_17_method_11_code 60 = .ok (.goto 90, 3) := by decide +kernel
theorem d_Terms_split1_63 : decode prog_17_method_11_code 63 = .ok (.aload_n 0, 1) := by decide +kernel
theorem d_Terms_split1_64 : decode prog_17_method_11_code 64 = .ok (.iload 4, 2) := by decide +kernel
theorem d_Terms_split1_66 : decode prog_17_method_11_code 66 = .ok (.bipush 7, 2) := by decide +kernel
theorem d_Terms_split1_68 : decode prog_17_method_11_code 68 = .ok (.invokevirtual 27, 3) := by decide +kernel
theorem d_Terms_split1_71 : decode prog_17_method_11_code 71 = .ok (.ifCond .eq 42, 3) := by decide +kernel
theorem d_Terms_split1_74 : decode prog_17_method_11_code 74 = .ok (.aload_n 0, 1) := by decide +kernel
theorem d_Terms_split1_75 : decode prog_17_method_11_code 75 = .ok (.iload 4, 2) := by decide +kernel
theorem d_Terms_split1_77 : decode prog_17_method_11_code 77 = .ok (.iconst 3, 1) := by decide +kernel
theorem d_Terms_split1_78 : decode prog_17_method_11_code 78 = .ok (.invokevirtual 23, 3) := by decide +kernel
theorem d_Terms_split1_81 : decode prog_17_method_11_code 81 = .ok (.aload_n 3, 1) := by decide +kernel
theorem d_Terms_split1_82 : decode prog_17_method_11_code 82 = .ok (.getfield 49, 3) := by decide +kernel
theorem d_Terms_split1_85 : decode prog_17_method_11_code 85 = .ok (.if_icmp .ne 28, 3) := by decide +kernel
theorem d_Terms_split1_88 : decode prog_17_method_11_code 88 = .ok (.aload_n 1, 1) := by decide +kernel
theorem d_Terms_split1_89 : decode prog_17_method_11_code 89 = .ok (.aload_n 0, 1) := by decide +kernel
theorem d_Terms_split1_90 : decode prog_17_method_11_code 90 = .ok (.iload 4, 2) := by decide +kernel
theorem d_Terms_split1_92 : decode prog_17_method_11_code 92 = .ok (.iconst 1, 1) := by decide +kernel
theorem d_Terms_split1_93 : decode prog_17_method_11_code 93 = .ok (.invokevirtual 23, 3) := by decide +kernel
theorem d_Terms_split1_96 : decode prog_17_method_11_code 96 = .ok (.putfield 44, 3) := by decide +kernel
theorem d_Terms_split1_99 : decode prog_17_method_11_code 99 = .ok (.aload_n 2, 1) := by decide +kernel
theorem d_Terms_split1_100 : decode prog_17_method_11_code 100 = .ok (.aload_n 0, 1) := by decide +kernel
theorem d_Terms_split1_101 : decode prog_17_method_11_code 101 = .ok (.iload 4, 2) := by decide +kernel
theorem d_Terms_split1_103 : decode prog_17_method_11_code 103 = .ok (.iconst 2, 1) := by decide +kernel
theorem d_Terms_split1_104 : decode prog_17_method_11_code 104 = .ok (.invokevirtual 23, 3) := by decide +kernel
theorem d_Terms_split1_107 : decode prog_17_method_11_code 107 = .ok (.putfield 44, 3) := by decide +kernel
theorem d_Terms_split1_110 : decode prog_17_method_11_code 110 = .ok (.goto 40, 3) := by decide +kernel
theorem d_Terms_split1_113 : decode prog_17_method_11_code 113 = .ok (.aload_n 1, 1) := by decide +kernel
theorem d_Terms_split1_114 : decode prog_17_method_11_code 114 = .ok (.aload_n 0, 1) := by decide +kernel
theorem d_Terms_split1_115 : decode prog_17_method_11_code 115 = .ok (.iconst 5, 1) := by decide +kernel
theorem d_Terms_split1_116 : decode prog_17_method_11_code 116 = .ok (.iload 4, 2) := by decide +kernel
theorem d_Terms_split1_118 : decode prog_17_method_11_code 118 = .ok (.aload_n 3, 1) := by decide +kernel
theorem d_Terms_split1_119 : decode prog_17_method_11_code 119 = .ok (.getfield 49, 3) := by decide +kernel
theorem d_Terms_split1_122 : decode prog_17_method_11_code 122 = .ok (.iconst 0, 1) := by decide +kernel
theorem d_Terms_split1_123 : decode prog_17_method_11_code 123 = .ok (.iconst 0, 1) := by decide +kernel
theorem d_Terms_split1_124 : decode prog_17_method_11_code 124 = .ok (.iconst 0, 1) := by decide +kernel
theorem d_Terms_split1_125 : decode prog_17_method_11_code 125 = .ok (.invokevirtual 19, 3) := by decide +kernel
theorem d_Terms_split1_128 : decode prog_17_method_11_code 128 = .ok (.putfield 44, 3) := by decide +kernel
theorem d_Terms_split1_131 : decode prog_17_method_11_code 131 = .ok (.aload_n 2, 1) := by decide +kernel
theorem d_Terms_split1_132 : decode prog_17_method_11_code 132 = .ok (.aload_n 0, 1) := by decide +kernel
theorem d_Terms_split1_133 : decode prog_17_method_11_code 133 = .ok (.bipush 6, 2) := by decide +kernel
theorem d_Terms_split1_135 : decode prog_17_method_11_code 135 = .ok (.iload 4, 2) := by decide +kernel
theorem d_Terms_split1_137 : decode prog_17_method_11_code 137 = .ok (.aload_n 3, 1) := by decide +kernel
theorem d_Terms_split1_138 : decode prog_17_method_11_code 138 = .ok (.getfield 49, 3) := by decide +kernel
theorem d_Terms_split1_141 : decode prog_17_method_11_code 141 = .ok (.iconst 0, 1) := by decide +kernel
theorem d_Terms_split1_142 : decode prog_17_method_11_code 142 = .ok (.iconst 0, 1) := by decide +kernel
theorem d_Terms_split1_143 : decode prog_17_method_11_code 143 = .ok (.iconst 0, 1) := by decide +kernel
theorem d_Terms_split1_144 : decode prog_17_method_11_code 144 = .ok (.invokevirtual 19, 3) := by decide +kernel
theorem d_Terms_split1_147 : decode prog_17_method_11_code 147 = .ok (.putfield 44, 3) := by decide +kernel
theorem d_Terms_split1_150 : decode prog_17_method_11_code 150 = .ok (.return_, 1) := by decide +kernel
theorem d_Terms_split2_0 : decode prog_17_method_17_code 0 = .ok (.aload_n 0, 1) := by decide +kernel
theorem d_Terms_split2_1 : decode prog_17_method_17_code 1 = .ok (.aload_n 1, 1) := by decide +kernel
theorem d_Terms_split2_2 : decode prog_17_method_17_code 2 = .ok (.checkcast 45, 3) := by decide +kernel
theorem d_Terms_split2_5 : decode prog_17_method_17_code 5 = .ok (.aload_n 2, 1) := by decide +kernel
theorem d_Terms_split2_6 : decode prog_17_method_17_code 6 = .ok (.checkcast 45, 3) := by decide +kernel
theorem d_Terms_split2_9 : decode prog_17_method_17_code 9 = .ok (.aload_n 3, 1) := by decide +kernel
theorem d_Terms_split2_10 : decode prog_17_method_17_code 10 = .ok (.invokevirtual 89, 3) := by decide +kernel
theorem d_Terms_split2_13 : decode prog_17_method_17_code 13 = .ok (.return_, 1) := by decide +kernel
theorem d_Terms_join1_0 : decode prog_17_method_12_code 0 = .ok (.aload_n 1, 1) := by decide +kernel
theorem d_Terms_join1_1 : decode prog_17_method_12_code 1 = .ok (.getfield 44, 3) := by decide +kernel
theorem d_Terms_join1_4 : decode prog_17_method_12_code 4 = .ok (.istore 4, 2) := by decide +kernel
theorem d_Terms_join1_6 : decode prog_17_method_12_code 6 = .ok (.aload_n 2, 1) := by decide +kernel
theorem d_Terms_join1_7 : decode prog_17_method_12_code 7 = .ok (.getfield 44, 3) := by decide +kernel
theorem d_Terms_join1_10 : decode prog_17_method_12_code 10 = .ok (.istore 5, 2) := by decide +kernel
theorem d_Terms_join1_12 : decode prog_17_method_12_code 12 = .ok (.aload_n 0, 1) := by decide +kernel
theorem d_Terms_join1_13 : decode prog_17_method_12_code 13 = .ok (.iload 4, 2) := by decide +kernel
theorem d_Terms_join1_15 : decode prog_17_method_12_code 15 = .ok (.iconst 1, 1) := by decide +kernel
theorem d_Terms_join1_16 : decode prog_17_method_12_code 16 = .ok (.invokevirtual 27, 3) := by decide +kernel
theorem d_Terms_join1_19 : decode prog_17_method_12_code 19 = .ok (.ifCond .eq 44, 3) := by decide +kernel
theorem d_Terms_join1_22 : decode prog_17_method_12_code 22 = .ok (.aload_n 0, 1) := by decide +kernel
theorem d_Terms_join1_23 : decode prog_17_method_12_code 23 = .ok (.iload 5, 2) := by decide +kernel
theorem d_Terms_join1_25 : decode prog_17_method_12_code 25 = .ok (.iconst 1, 1) := by decide +kernel
theorem d_Terms_join1_26 : decode prog_17_method_12_code 26 = .ok (.invokevirtual 27, 3) := by decide +kernel
theorem d_Terms_join1_29 : decode prog_17_method_12_code 29 = .ok (.ifCond .eq 34, 3) := by decide +kernel
theorem d_Terms_join1_32 : decode prog_17_method_12_code 32 = .ok (.aload_n 1, 1) := by decide +kernel
theorem d_Terms_join1_33 : decode prog_17_method_12_code 33 = .ok (.aload_n 0, 1) := by decide +kernel
theorem d_Terms_join1_34 : decode prog_17_method_12_code 34 = .ok (.aload_n 0, 1) := by decide +kernel
theorem d_Terms_join1_35 : decode prog_17_method_12_code 35 = .ok (.iload 4, 2) := by decide +kernel
theorem d_Terms_join1_37 : decode prog_17_method_12_code 37 = .ok (.iconst 1, 1) := by decide +kernel
theorem d_Terms_join1_38 : decode prog_17_method_12_code 38 = .ok (.invokevirtual 23, 3) := by decide +kernel
theorem d_Terms_join1_41 : decode prog_17_method_12_code 41 = .ok (.aload_n 3, 1) := by decide +kernel
theorem d_Terms_join1_42 : decode prog_17_method_12_code 42 = .ok (.getfield 49, 3) := by decide +kernel
theorem d_Terms_join1_45 : decode prog_17_method_12_code 45 = .ok (.imul, 1) := by decide +kernel
theorem d_Terms_join1_46 : decode prog_17_method_12_code 46 = .ok (.aload_n 0, 1) := by decide +kernel
theorem d_Terms_join1_47 : decode prog_17_method_12_code 47 = .ok (.iload 5, 2) := by decide +kernel
theorem d_Terms_join1_49 : decode prog_17_method_12_code 49 = .ok (.iconst 1, 1) := by decide +kernel
theorem d_Terms_join1_50 : decode prog_17_method_12_code 50 = .ok (.invokevirtual 23, 3) := by decide +kernel
theorem d_Terms_join1_53 : decode prog_17_method_12_code 53 = .ok (.iadd, 1) := by decide +kernel
theorem d_Terms_join1_54 : decode prog_17_method_12_code 54 = .ok (.invokevirtual 40, 3) := by decide +kernel
theorem d_Terms_join1_57 : decode prog_17_method_12_code 57 = .ok (.putfield 44, 3) := by decide +kernel
theorem d_Terms_join1_60 : decode prog_17_method_12_code 60 = .ok (.goto 103, 3) := by decide +kernel
theorem d_Terms_join1_63 : decode prog_17_method_12_code 63 = .ok (.aload_n 0, 1) := by decide +kernel
theorem d_Terms_join1_64 : decode prog_17_method_12_code 64 = .ok (.iload 4, 2) := by decide +kernel
theorem d_Terms_join1_66 : decode prog_17_method_12_code 66 = .ok (.iconst 5, 1) := by decide +kernel
theorem d_Terms_join1_67 : decode prog_17_method_12_code 67 = .ok (.invokevirtual 27, 3) := by decide +kernel
theorem d_Terms_join1_70 : decode prog_17_method_12_code 70 = .ok (.ifCond .eq 73, 3) := by decide +kernel
theorem d_Terms_join1_73 : decode prog_17_method_12_code 73 = .ok (.aload_n 0, 1) := by decide +kernel
theorem d_Terms_join1_74 : decode prog_17_method_12_code 74 = .ok (.iload 5, 2) := by decide +kernel
theorem d_Terms_join1_76 : decode prog_17_method_12_code 76 = .ok (.bipush 6, 2) := by decide +kernel
theorem d_Terms_join1_78 : decode prog_17_method_12_code 78 = .ok (.invokevirtual 27, 3) := by decide +kernel
theorem d_Terms_join1_81 : decode prog_17_method_12_code 81 = .ok (.ifCond .eq 62, 3) := by decide +kernel
theorem d_Terms_join1_84 : decode prog_17_method_12_code 84 = .ok (.aload_n 0, 1) := by decide +kernel
theorem d_Terms_join1_85 : decode prog_17_method_12_code 85 = .ok (.iload 4, 2) := by decide +kernel
theorem d_Terms_join1_87 : decode prog_17_method_12_code 87 = .ok (.iconst 1, 1) := by decide +kernel
theorem d_Terms_join1_88 : decode prog_17_method_12_code 88 = .ok (.invokevirtual 23, 3) := by decide +kernel
theorem d_Terms_join1_91 : decode prog_17_method_12_code 91 = .ok (.aload_n 0, 1) := by decide +kernel
theorem d_Terms_join1_92 : decode prog_17_method_12_code 92 = .ok (.iload 5, 2) := by decide +kernel
theorem d_Terms_join1_94 : decode prog_17_method_12_code 94 = .ok (.iconst 1, 1) := by decide +kernel
theorem d_Terms_join1_95 : decode prog_17_method_12_code 95 = .ok (.invokevirtual 23, 3) := by decide +kernel
theorem d_Terms_join1_98 : decode prog_17_method_12_code 98 = .ok (.if_icmp .ne 45, 3) := by decide +kernel
theorem d_Terms_join1_101 : decode prog_17_method_12_code 101 = .ok (.aload_n 0, 1) := by decide +kernel
theorem d_Terms_join1_102 : decode prog_17_method_12_code 102 = .ok (.iload 4, 2) := by decide +kernel
theorem d_Terms_join1_104 : decode prog_17_method_12_code 104 = .ok (.iconst 2, 1) := by decide +kernel
theorem d_Terms_join1_105 : decode prog_17_method_12_code 105 = .ok (.invokevirtual 23, 3) := by decide +kernel
theorem d_Terms_join1_108 : decode prog_17_method_12_code 108 = .ok (.aload_n 3, 1) := by decide +kernel
theorem d_Terms_join1_109 : decode prog_17_method_12_code 109 = .ok (.getfield 49, 3) := by decide +kernel
theorem d_Terms_join1_112 : decode prog_17_method_12_code 112 = .ok (.if_icmp .ne 31, 3) := by decide +kernel
theorem d_Terms_join1_115 : decode prog_17_method_12_code 115 = .ok (.aload_n 0, 1) := by decide +kernel
theorem d_Terms_join1_116 : decode prog_17_method_12_code 116 = .ok (.iload 5, 2) := by decide +kernel
theorem d_Terms_join1_118 : decode prog_17_method_12_code 118 = .ok (.iconst 2, 1) := by decide +kernel
theorem d_Terms_join1_119 : decode prog_17_method_12_code 119 = .ok (.invokevirtual 23, 3) := by decide +kernel
theorem d_Terms_join1_122 : decode prog_17_method_12_code 122 = .ok (.aload_n 3, 1) := by decide +kernel
theorem d_Terms_join1_123 : decode prog_17_method_12_code 123 = .ok (.getfield 49, 3) := by decide +kernel
theorem d_Terms_join1_126 : decode prog_17_method_12_code 126 = .ok (.if_icmp .ne 17, 3) := by decide +kernel
theorem d_Terms_join1_129 : decode prog_17_method_12_code 129 = .ok (.aload_n 1, 1) := by decide +kernel
theorem d_Terms_join1_130 : decode prog_17_method_12_code 130 = .ok (.aload_n 0, 1) := by decide +kernel
theorem d_Terms_join1_131 : decode prog_17_method_12_code 131 = .ok (.iload 4, 2) := by decide +kernel
theorem d_Terms_join1_133 : decode prog_17_method_12_code 133 = .ok (.iconst 1, 1) := by decide +kernel
theorem d_Terms_join1_134 : decode prog_17_method_12_code 134 = .ok (.invokevirtual 23, 3) := by decide +kernel
theorem d_Terms_join1_137 : decode prog_17_method_12_code 137 = .ok (.putfield 44, 3) := by decide +kernel
theorem d_Terms_join1_140 : decode prog_17_method_12_code 140 = .ok (.goto 23, 3) := by decide +kernel
theorem d_Terms_join1_143 : decode prog_17_method_12_code 143 = .ok (.aload_n 1, 1) := by decide +kernel
theorem d_Terms_join1_144 : decode prog_17_method_12_code 144 = .ok (.aload_n 0, 1) := by decide +kernel
theorem d_Terms_join1_145 : decode prog_17_method_12_code 145 = .ok (.bipush 7, 2) := by decide +kernel
theorem d_Terms_join1_147 : decode prog_17_method_12_code 147 = .ok (.iload 4, 2) := by decide +kernel
theorem d_Terms_join1_149 : decode prog_17_method_12_code 149 = .ok (.iload 5, 2) := by decide +kernel
theorem d_Terms_join1_151 : decode prog_17_method_12_code 151 = .ok (.aload_n 3, 1) := by decide +kernel
theorem d_Terms_join1_152 : decode prog_17_method_12_code 152 = .ok (.getfield 49, 3) := by decide +kernel
theorem d_Terms_join1_155 : decode prog_17_method_12_code 155 = .ok (.iconst 0, 1) := by decide +kernel
theorem d_Terms_join1_156 : decode prog_17_method_12_code 156 = .ok (.iconst 0, 1) := by decide +kernel
theorem d_Terms_join1_157 : decode prog_17_method_12_code 157 = .ok (.invokevirtual 19, 3) := by decide +kernel
theorem d_Terms_join1_160 : decode prog_17_method_12_code 160 = .ok (.putfield 44, 3) := by decide +kernel
theorem d_Terms_join1_163 : decode prog_17_method_12_code 163 = .ok (.return_, 1) := by decide +kernel
theorem d_Terms_join2_0 : decode prog_17_method_16_code 0 = .ok (.aload_n 0, 1) := by decide +kernel
theorem d_Terms_join2_1 : decode prog_17_method_16_code 1 = .ok (.aload_n 1, 1) := by decide +kernel
theorem d_Terms_join2_2 : decode prog_17_method_16_code 2 = .ok (.checkcast 45, 3) := by decide +kernel
theorem d_Terms_join2_5 : decode prog_17_method_16_code 5 = .ok (.aload_n 2, 1) := by decide +kernel
theorem d_Terms_join2_6 : decode prog_17_method_16_code 6 = .ok (.checkcast 45, 3) := by decide +kernel
theorem d_Terms_join2_9 : decode prog_17_method_16_code 9 = .ok (.aload_n 3, 1) := by decide +kernel
theorem d_Terms_join2_10 : decode prog_17_method_16_code 10 = .ok (.invokevirtual 85, 3) := by decide +kernel
theorem d_Terms_join2_13 : decode prog_17_method_16_code 13 = .ok (.return_, 1) := by decide +kernel
theorem d_Terms_turn1_0 : decode prog_17_method_13_code 0 = .ok (.aload_n 1, 1) := by decide +kernel
theorem d_Terms_turn1_1 : decode prog_17_method_13_code 1 = .ok (.getfield 44, 3) := by decide +kernel
theorem d_Terms_turn1_4 : decode prog_17_method_13_code 4 = .ok (.istore 4, 2) := by decide +kernel
theorem d_Terms_turn1_6 : decode prog_17_method_13_code 6 = .ok (.aload_n 2, 1) := by decide +kernel
theorem d_Terms_turn1_7 : decode prog_17_method_13_code 7 = .ok (.getfield 60, 3) := by decide +kernel
theorem d_Terms_turn1_10 : decode prog_17_method_13_code 10 = .ok (.bipush 6, 2) := by decide +kernel
theorem d_Terms_turn1_12 : decode prog_17_method_13_code 12 = .ok (.if_icmp .ne 86, 3) := by decide +kernel
theorem d_Terms_turn1_15 : decode prog_17_method_13_code 15 = .ok (.aload_n 1, 1) := by decide +kernel
theorem d_Terms_turn1_16 : decode prog_17_method_13_code 16 = .ok (.aload_n 2, 1) := by decide +kernel
theorem d_Terms_turn1_17 : decode prog_17_method_13_code 17 = .ok (.getfield 49, 3) := by decide +kernel
theorem d_Terms_turn1_20 : decode prog_17_method_13_code 20 = .ok (.aload_n 2, 1) := by decide +kernel
theorem d_Terms_turn1_21 : decode prog_17_method_13_code 21 = .ok (.getfield 63, 3) := by decide +kernel
theorem d_Terms_turn1_24 : decode prog_17_method_13_code 24 = .ok (.if_icmp .ne 8, 3) := by decide +kernel
theorem d_Terms_turn1_27 : decode prog_17_method_13_code 27 = .ok (.iload 4, 2) := by decide +kernel
theorem d_Terms_turn1_29 : decode prog_17_method_13_code 29 = .ok (.goto 63, 3) := by decide +kernel
theorem d_Terms_turn1_32 : decode prog_17_method_13_code 32 = .ok (.iload_n 3, 1) := by decide +kernel
theorem d_Terms_turn1_33 : decode prog_17_method_13_code 33 = .ok (.ifCond .eq 13, 3) := by decide +kernel
theorem d_Terms_turn1_36 : decode prog_17_method_13_code 36 = .ok (.aload_n 0, 1) := by decide +kernel
theorem d_Terms_turn1_37 : decode prog_17_method_13_code 37 = .ok (.iload 4, 2) := by decide +kernel
theorem d_Terms_turn1_39 : decode prog_17_method_13_code 39 = .ok (.aload_n 2, 1) := by decide +kernel
theorem d_Terms_turn1_40 : decode prog_17_method_13_code 40 = .ok (.invokevirtual 66, 3) := by decide +kernel
theorem d_Terms_turn1_43 : decode prog_17_method_13_code 43 = .ok (.goto 49, 3) := by decide +kernel
theorem d_Terms_turn1_46 : decode prog_17_method_13_code 46 = .ok (.aload_n 0, 1) := by decide +kernel
theorem d_Terms_turn1_47 : decode prog_17_method_13_code 47 = .ok (.iload 4, 2) := by decide +kernel
theorem d_Terms_turn1_49 : decode prog_17_method_13_code 49 = .ok (.iconst 1, 1) := by decide +kernel
theorem d_Terms_turn1_50 : decode prog_17_method_13_code 50 = .ok (.invokevirtual 27, 3) := by decide +kernel
theorem d_Terms_turn1_53 : decode prog_17_method_13_code 53 = .ok (.ifCond .eq 21, 3) := by decide +kernel
theorem d_Terms_turn1_56 : decode prog_17_method_13_code 56 = .ok (.aload_n 0, 1) := by decide +kernel
theorem d_Terms_turn1_57 : decode prog_17_method_13_code 57 = .ok (.aload_n 2, 1) := by decide +kernel
theorem d_Terms_turn1_58 : decode prog_17_method_13_code 58 = .ok (.aload_n 0, 1) := by decide +kernel
theorem d_Terms_turn1_59 : decode prog_17_method_13_code 59 = .ok (.iload 4, 2) := by decide +kernel
theorem d_Terms_turn1_61 : decode prog_17_method_13_code 61 = .ok (.iconst 1, 1) := by decide +kernel
theorem d_Terms_turn1_62 : decode prog_17_method_13_code 62 = .ok (.invokevirtual 23, 3) := by decide +kernel
theorem d_Terms_turn1_65 : decode prog_17_method_13_code 65 = .ok (.invokevirtual 70, 3) := by decide +kernel
theorem d_Terms_turn1_68 : decode prog_17_method_13_code 68 = .ok (.invokevirtual 40, 3) := by decide +kernel
theorem d_Terms_turn1_71 : decode prog_17_method_13_code 71 = .ok (.goto 21, 3) := by decide +kernel
theorem d_Terms_turn1_74 : decode prog_17_method_13_code 74 = .ok (.aload_n 0, 1) := by decide +kernel
theorem d_Terms_turn1_75 : decode prog_17_method_13_code 75 = .ok (.bipush 8, 2) := by decide +kernel
theorem d_Terms_turn1_77 : decode prog_17_method_13_code 77 = .ok (.iload 4, 2) := by decide +kernel
theorem d_Terms_turn1_79 : decode prog_17_method_13_code 79 = .ok (.aload_n 2, 1) := by decide +kernel
theorem d_Terms_turn1_80 : decode prog_17_method_13_code 80 = .ok (.getfield 49, 3) := by decide +kernel
theorem d_Terms_turn1_83 : decode prog_17_method_13_code 83 = .ok (.aload_n 2, 1) := by decide +kernel
theorem d_Terms_turn1_84 : decode prog_17_method_13_code 84 = .ok (.getfield 63, 3) := by decide +kernel
theorem d_Terms_turn1_87 : decode prog_17_method_13_code 87 = .ok (.iconst 0, 1) := by decide +kernel
theorem d_Terms_turn1_88 : decode prog_17_method_13_code 88 = .ok (.iconst 0, 1) := by decide +kernel
theorem d_Terms_turn1_89 : decode prog_17_method_13_code 89 = .ok (.invokevirtual 19, 3) := by decide +kernel
theorem d_Terms_turn1_92 : decode prog_17_method_13_code 92 = .ok (.putfield 44, 3) := by decide +kernel
theorem d_Terms_turn1_95 : decode prog_17_method_13_code 95 = .ok (.goto 147, 3) := by decide +kernel
theorem d_Terms_turn1_98 : decode prog_17_method_13_code 98 = .ok (.iload_n 3, 1) := by decide +kernel
theorem d_Terms_turn1_99 : decode prog_17_method_13_code 99 = .ok (.ifCond .eq 12, 3) := by decide +kernel
theorem d_Terms_turn1_102 : decode prog_17_method_13_code 102 = .ok (.aload_n 1, 1) := by decide +kernel
theorem d_Terms_turn1_103 : decode prog_17_method_13_code 103 = .ok (.iload 4, 2) := by decide +kernel
theorem d_Terms_turn1_105 : decode prog_17_method_13_code 105 = .ok (.putfield 44, 3) := by decide +kernel
theorem d_Terms_turn1_108 : decode prog_17_method_13_code 108 = .ok (.goto 134, 3) := by decide +kernel
theorem d_Terms_turn1_111 : decode prog_17_method_13_code 111 = .ok (.aload_n 2, 1) := by decide +kernel
theorem d_Terms_turn1_112 : decode prog_17_method_13_code 112 = .ok (.getfield 60, 3) := by decide +kernel
theorem d_Terms_turn1_115 : decode prog_17_method_13_code 115 = .ok (.bipush 7, 2) := by decide +kernel
theorem d_Terms_turn1_117 : decode prog_17_method_13_code 117 = .ok (.if_icmp .ne 73, 3) := by decide +kernel
theorem d_Terms_turn1_120 : decode prog_17_method_13_code 120 = .ok (.aload_n 1, 1) := by decide +kernel
theorem d_Terms_turn1_121 : decode prog_17_method_13_code 121 = .ok (.aload_n 0, 1) := by decide +kernel
theorem d_Terms_turn1_122 : decode prog_17_method_13_code 122 = .ok (.iload 4, 2) := by decide +kernel
theorem d_Terms_turn1_124 : decode prog_17_method_13_code 124 = .ok (.iconst 1, 1) := by decide +kernel
theorem d_Terms_turn1_125 : decode prog_17_method_13_code 125 = .ok (.invokevirtual 27, 3) := by decide +kernel
theorem d_Terms_turn1_128 : decode prog_17_method_13_code 128 = .ok (.ifCond .eq 38, 3) := by decide +kernel
theorem d_Terms_turn1_131 : decode prog_17_method_13_code 131 = .ok (.aload_n 0, 1) := by decide +kernel
theorem d_Terms_turn1_132 : decode prog_17_method_13_code 132 = .ok (.aload_n 0, 1) := by decide +kernel
theorem d_Terms_turn1_133 : decode prog_17_method_13_code 133 = .ok (.iload 4, 2) := by decide +kernel
theorem d_Terms_turn1_135 : decode prog_17_method_13_code 135 = .ok (.iconst 1, 1) := by decide +kernel
theorem d_Terms_turn1_136 : decode prog_17_method_13_code 136 = .ok (.invokevirtual 23, 3) := by decide +kernel
theorem d_Terms_turn1_139 : decode prog_17_method_13_code 139 = .ok (.aload_n 2, 1) := by decide +kernel
theorem d_Terms_turn1_140 : decode prog_17_method_13_code 140 = .ok (.getfield 49, 3) := by decide +kernel
theorem d_Terms_turn1_143 : decode prog_17_method_13_code 143 = .ok (.if_icmp .ne 10, 3) := by decide +kernel
theorem d_Terms_turn1_146 : decode prog_17_method_13_code 146 = .ok (.aload_n 2, 1) := by decide +kernel
theorem d_Terms_turn1_147 : decode prog_17_method_13_code 147 = .ok (.getfield 63, 3) := by decide +kernel
theorem d_Terms_turn1_150 : decode prog_17_method_13_code 150 = .ok (.goto 10, 3) := by decide +kernel
theorem d_Terms_turn1_153 : decode prog_17_method_13_code 153 = .ok (.aload_n 0, 1) := by decide +kernel
theorem d_Terms_turn1_154 : decode prog_17_method_13_code 154 = .ok (.iload 4, 2) := by decide +kernel
theorem d_Terms_turn1_156 : decode prog_17_method_13_code 156 = .ok (.iconst 1, 1) := by decide +kernel
theorem d_Terms_turn1_157 : decode prog_17_method_13_code 157 = .ok (.invokevirtual 23, 3) := by decide +kernel
theorem d_Terms_turn1_160 : decode prog_17_method_13_code 160 = .ok (.invokevirtual 40, 3) := by decide +kernel
theorem d_Terms_turn1_163 : decode prog_17_method_13_code 163 = .ok (.goto 21, 3) := by decide +kernel
theorem d_Terms_turn1_166 : decode prog_17_method_13_code 166 = .ok (.aload_n 0, 1) := by decide +kernel
theorem d_Terms_turn1_167 : decode prog_17_method_13_code 167 = .ok (.bipush 10, 2) := by decide +kernel
theorem d_Terms_turn1_169 : decode prog_17_method_13_code 169 = .ok (.iload 4, 2) := by decide +kernel
theorem d_Terms_turn1_171 : decode prog_17_method_13_code 171 = .ok (.aload_n 2, 1) := by decide +kernel
theorem d_Terms_turn1_172 : decode prog_17_method_13_code 172 = .ok (.getfield 49, 3) := by decide +kernel
theorem d_Terms_turn1_175 : decode prog_17_method_13_code 175 = .ok (.aload_n 2, 1) := by decide +kernel
theorem d_Terms_turn1_176 : decode prog_17_method_13_code 176 = .ok (.getfield 63, 3) := by decide +kernel
theorem d_Terms_turn1_179 : decode prog_17_method_13_code 179 = .ok (.iconst 0, 1) := by decide +kernel
theorem d_Terms_turn1_180 : decode prog_17_method_13_code 180 = .ok (.iconst 0, 1) := by decide +kernel
theorem d_Terms_turn1_181 : decode prog_17_method_13_code 181 = .ok (.invokevirtual 19, 3) := by decide +kernel
theorem d_Terms_turn1_184 : decode prog_17_method_13_code 184 = .ok (.putfield 44, 3) := by decide +kernel
theorem d_Terms_turn1_187 : decode prog_17_method_13_code 187 = .ok (.goto 55, 3) := by decide +kernel
theorem d_Terms_turn1_190 : decode prog_17_method_13_code 190 = .ok (.aload_n 1, 1) := by decide +kernel
theorem d_Terms_turn1_191 : decode prog_17_method_13_code 191 = .ok (.aload_n 0, 1) := by decide +kernel
theorem d_Terms_turn1_192 : decode prog_17_method_13_code 192 = .ok (.iload 4, 2) := by decide +kernel
theorem d_Terms_turn1_194 : decode prog_17_method_13_code 194 = .ok (.iconst 2, 1) := by decide +kernel
theorem d_Terms_turn1_195 : decode prog_17_method_13_code 195 = .ok (.invokevirtual 27, 3) := by decide +kernel
theorem d_Terms_turn1_198 : decode prog_17_method_13_code 198 = .ok (.ifCond .ne 24, 3) := by decide +kernel
theorem d_Terms_turn1_201 : decode prog_17_method_13_code 201 = .ok (.aload_n 0, 1) := by decide +kernel
theorem d_Terms_turn1_202 : decode prog_17_method_13_code 202 = .ok (.iload 4, 2) := by decide +kernel
theorem d_Terms_turn1_204 : decode prog_17_method_13_code 204 = .ok (.iconst 3, 1) := by decide +kernel
theorem d_Terms_turn1_205 : decode prog_17_method_13_code 205 = .ok (.invokevirtual 27, 3) := by decide +kernel
theorem d_Terms_turn1_208 : decode prog_17_method_13_code 208 = .ok (.ifCond .ne 14, 3) := by decide +kernel
theorem d_Terms_turn1_211 : decode prog_17_method_13_code 211 = .ok (.aload_n 0, 1) := by decide +kernel
theorem d_Terms_turn1_212 : decode prog_17_method_13_code 212 = .ok (.iload 4, 2) := by decide +kernel
theorem d_Terms_turn1_214 : decode prog_17_method_13_code 214 = .ok (.bipush 11, 2) := by decide +kernel
theorem d_Terms_turn1_216 : decode prog_17_method_13_code 216 = .ok (.invokevirtual 27, 3) := by decide +kernel
theorem d_Terms_turn1_219 : decode prog_17_method_13_code 219 = .ok (.ifCond .eq 8, 3) := by decide +kernel
theorem d_Terms_turn1_222 : decode prog_17_method_13_code 222 = .ok (.iload 4, 2) := by decide +kernel
theorem d_Terms_turn1_224 : decode prog_17_method_13_code 224 = .ok (.goto 15, 3) := by decide +kernel
theorem d_Terms_turn1_227 : decode prog_17_method_13_code 227 = .ok (.aload_n 0, 1) := by decide +kernel
theorem d_Terms_turn1_228 : decode prog_17_method_13_code 228 = .ok (.bipush 11, 2) := by decide +kernel
theorem d_Terms_turn1_230 : decode prog_17_method_13_code 230 = .ok (.iload 4, 2) := by decide +kernel
theorem d_Terms_turn1_232 : decode prog_17_method_13_code 232 = .ok (.iconst 0, 1) := by decide +kernel
theorem d_Terms_turn1_233 : decode prog_17_method_13_code 233 = .ok (.iconst 0, 1) := by decide +kernel
theorem d_Terms_turn1_234 : decode prog_17_method_13_code 234 = .ok (.iconst 0, 1) := by decide +kernel
theorem d_Terms_turn1_235 : decode prog_17_method_13_code 235 = .ok (.iconst 0, 1) := by decide +kernel
theorem d_Terms_turn1_236 : decode prog_17_method_13_code 236 = .ok (.invokevirtual 19, 3) := by decide +kernel
theorem d_Terms_turn1_239 : decode prog_17_method_13_code 239 = .ok (.putfield 44, 3) := by decide +kernel
theorem d_Terms_turn1_242 : decode prog_17_method_13_code 242 = .ok (.return_, 1) := by decide +kernel
theorem d_Terms_turn2_0 : decode prog_17_method_15_code 0 = .ok (.aload_n 0, 1) := by decide +kernel
theorem d_Terms_turn2_1 : decode prog_17_method_15_code 1 = .ok (.aload_n 1, 1) := by decide +kernel
theorem d_Terms_turn2_2 : decode prog_17_method_15_code 2 = .ok (.checkcast 45, 3) := by decide +kernel
theorem d_Terms_turn2_5 : decode prog_17_method_15_code 5 = .ok (.aload_n 2, 1) := by decide +kernel
theorem d_Terms_turn2_6 : decode prog_17_method_15_code 6 = .ok (.iload_n 3, 1) := by decide +kernel
theorem d_Terms_turn2_7 : decode prog_17_method_15_code 7 = .ok (.invokevirtual 81, 3) := by decide +kernel
theorem d_Terms_turn2_10 : decode prog_17_method_15_code 10 = .ok (.return_, 1) := by decide +kernel
theorem d_Terms_unscaled_0 : decode prog_17_method_14_code 0 = .ok (.aload_n 0, 1) := by decide +kernel
theorem d_Terms_unscaled_1 : decode prog_17_method_14_code 1 = .ok (.iload_n 1, 1) := by decide +kernel
theorem d_Terms_unscaled_2 : decode prog_17_method_14_code 2 = .ok (.iconst 1, 1) := by decide +kernel
theorem d_Terms_unscaled_3 : decode prog_17_method_14_code 3 = .ok (.invokevirtual 27, 3) := by decide +kernel
theorem d_Terms_unscaled_6 : decode prog_17_method_14_code 6 = .ok (.ifCond .eq 20, 3) := by decide +kernel
theorem d_Terms_unscaled_9 : decode prog_17_method_14_code 9 = .ok (.aload_n 0, 1) := by decide +kernel
theorem d_Terms_unscaled_10 : decode prog_17_method_14_code 10 = .ok (.aload_n 2, 1) := by decide +kernel
theorem d_Terms_unscaled_11 : decode prog_17_method_14_code 11 = .ok (.aload_n 0, 1) := by decide +kernel
theorem d_Terms_unscaled_12 : decode prog_17_method_14_code 12 = .ok (.iload_n 1, 1) := by decide +kernel
theorem d_Terms_unscaled_13 : decode prog_17_method_14_code 13 = .ok (.iconst 1, 1) := by decide +kernel
theorem d_Terms_unscaled_14 : decode prog_17_method_14_code 14 = .ok (.invokevirtual 23, 3) := by decide +kernel
theorem d_Terms_unscaled_17 : decode prog_17_method_14_code 17 = .ok (.invokevirtual 73, 3) := by decide +kernel
theorem d_Terms_unscaled_20 : decode prog_17_method_14_code 20 = .ok (.invokevirtual 40, 3) := by decide +kernel
theorem d_Terms_unscaled_23 : decode prog_17_method_14_code 23 = .ok (.goto 26, 3) := by decide +kernel
theorem d_Terms_unscaled_26 : decode prog_17_method_14_code 26 = .ok (.aload_n 0, 1) := by decide +kernel
theorem d_Terms_unscaled_27 : decode prog_17_method_14_code 27 = .ok (.bipush 9, 2) := by decide +kernel
theorem d_Terms_unscaled_29 : decode prog_17_method_14_code 29 = .ok (.iload_n 1, 1) := by decide +kernel
theorem d_Terms_unscaled_30 : decode prog_17_method_14_code 30 = .ok (.aload_n 2, 1) := by decide +kernel
theorem d_Terms_unscaled_31 : decode prog_17_method_14_code 31 = .ok (.getfield 49, 3) := by decide +kernel
theorem d_Terms_unscaled_34 : decode prog_17_method_14_code 34 = .ok (.aload_n 2, 1) := by decide +kernel
theorem d_Terms_unscaled_35 : decode prog_17_method_14_code 35 = .ok (.getfield 63, 3) := by decide +kernel
theorem d_Terms_unscaled_38 : decode prog_17_method_14_code 38 = .ok (.aload_n 2, 1) := by decide +kernel
theorem d_Terms_unscaled_39 : decode prog_17_method_14_code 39 = .ok (.getfield 75, 3) := by decide +kernel
theorem d_Terms_unscaled_42 : decode prog_17_method_14_code 42 = .ok (.aload_n 2, 1) := by decide +kernel
theorem d_Terms_unscaled_43 : decode prog_17_method_14_code 43 = .ok (.getfield 78, 3) := by decide +kernel
theorem d_Terms_unscaled_46 : decode prog_17_method_14_code 46 = .ok (.invokevirtual 19, 3) := by decide +kernel
theorem d_Terms_unscaled_49 : decode prog_17_method_14_code 49 = .ok (.ireturn, 1) := by decide +kernel
theorem d_Walker_init_0 : decode prog_18_method_1_code 0 = .ok (.aload_n 0, 1) := by decide +kernel
theorem d_Walker_init_1 : decode prog_18_method_1_code 1 = .ok (.invokespecial 3, 3) := by decide +kernel
theorem d_Walker_init_4 : decode prog_18_method_1_code 4 = .ok (.return_, 1) := by decide +kernel
theorem d_Walker_over_0 : decode prog_18_method_2_code 0 = .ok (.aload_n 0, 1) := by decide +kernel
theorem d_Walker_over_1 : decode prog_18_method_2_code 1 = .ok (.aload_n 1, 1) := by decide +kernel
theorem d_Walker_over_2 : decode prog_18_method_2_code 2 = .ok (.putfield 9, 3) := by decide +kernel
theorem d_Walker_over_5 : decode prog_18_method_2_code 5 = .ok (.iconst 0, 1) := by decide +kernel
theorem d_Walker_over_6 : decode prog_18_method_2_code 6 = .ok (.istore 6, 2) := by decide +kernel
theorem d_Walker_over_8 : decode prog_18_method_2_code 8 = .ok (.iload 6, 2) := by decide +kernel
theorem d_Walker_over_10 : decode prog_18_method_2_code 10 = .ok (.aload_n 3, 1) := by decide +kernel
theorem d_Walker_over_11 : decode prog_18_method_2_code 11 = .ok (.getfield 15, 3) := by decide +kernel
theorem d_Walker_over_14 : decode prog_18_method_2_code 14 = .ok (.if_icmp .ge 51, 3) := by decide +kernel
theorem d_Walker_over_17 : decode prog_18_method_2_code 17 = .ok (.iload 5, 2) := by decide +kernel
theorem d_Walker_over_19 : decode prog_18_method_2_code 19 = .ok (.ifCond .eq 15, 3) := by decide +kernel
theorem d_Walker_over_22 : decode prog_18_method_2_code 22 = .ok (.aload_n 3, 1) := by decide +kernel
theorem d_Walker_over_23 : decode prog_18_method_2_code 23 = .ok (.getfield 15, 3) := by decide +kernel
theorem d_Walker_over_26 : decode prog_18_method_2_code 26 = .ok (.iconst 1, 1) := by decide +kernel
theorem d_Walker_over_27 : decode prog_18_method_2_code 27 = .ok (.isub, 1) := by decide +kernel
theorem d_Walker_over_28 : decode prog_18_method_2_code 28 = .ok (.iload 6, 2) := by decide +kernel
theorem d_Walker_over_30 : decode prog_18_method_2_code 30 = .ok (.isub, 1) := by decide +kernel
theorem d_Walker_over_31 : decode prog_18_method_2_code 31 = .ok (.goto 5, 3) := by decide +kernel
theorem d_Walker_over_34 : decode prog_18_method_2_code 34 = .ok (.iload 6, 2) := by decide +kernel
theorem d_Walker_over_36 : decode prog_18_method_2_code 36 = .ok (.istore 7, 2) := by decide +kernel
theorem d_Walker_over_38 : decode prog_18_method_2_code 38 = .ok (.aload_n 0, 1) := by decide +kernel
theorem d_Walker_over_39 : decode prog_18_method_2_code 39 = .ok (.aload_n 2, 1) := by decide +kernel
theorem d_Walker_over_40 : decode prog_18_method_2_code 40 = .ok (.aload_n 3, 1) := by decide +kernel
theorem d_Walker_over_41 : decode prog_18_method_2_code 41 = .ok (.getfield 21, 3) := by decide +kernel
theorem d_Walker_over_44 : decode prog_18_method_2_code 44 = .ok (.iload 7, 2) := by decide +kernel
theorem d_Walker_over_46 : decode prog_18_method_2_code 46 = .ok (.aaload, 1) := by decide +kernel
theorem d_Walker_over_47 : decode prog_18_method_2_code 47 = .ok (.iload 4, 2) := by decide +kernel
theorem d_Walker_over_49 : decode prog_18_method_2_code 49 = .ok (.iload 7, 2) := by decide +kernel
theorem d_Walker_over_51 : decode prog_18_method_2_code 51 = .ok (.invokestatic 25, 3) := by decide +kernel
theorem d_Walker_over_54 : decode prog_18_method_2_code 54 = .ok (.iload 5, 2) := by decide +kernel
theorem d_Walker_over_56 : decode prog_18_method_2_code 56 = .ok (.invokevirtual 31, 3) := by decide +kernel
theorem d_Walker_over_59 : decode prog_18_method_2_code 59 = .ok (.iinc 6 1, 3) := by decide +kernel
theorem d_Walker_over_62 : decode prog_18_method_2_code 62 = .ok (.goto (-54), 3) := by decide +kernel
theorem d_Walker_over_65 : decode prog_18_method_2_code 65 = .ok (.return_, 1) := by decide +kernel
theorem d_Walker_one_0 : decode prog_18_method_3_code 0 = .ok (.aload_n 2, 1) := by decide +kernel
theorem d_Walker_one_1 : decode prog_18_method_3_code 1 = .ok (.getfield 35, 3) := by decide +kernel
theorem d_Walker_one_4 : decode prog_18_method_3_code 4 = .ok (.ifCond .ne 45, 3) := by decide +kernel
theorem d_Walker_one_7 : decode prog_18_method_3_code 7 = .ok (.aload_n 1, 1) := by decide +kernel
theorem d_Walker_one_8 : decode prog_18_method_3_code 8 = .ok (.iload 4, 2) := by decide +kernel
theorem d_Walker_one_10 : decode prog_18_method_3_code 10 = .ok (.ifCond .eq 10, 3) := by decide +kernel
theorem d_Walker_one_13 : decode prog_18_method_3_code 13 = .ok (.aload_n 2, 1) := by decide +kernel
theorem d_Walker_one_14 : decode prog_18_method_3_code 14 = .ok (.invokevirtual 40, 3) := by decide +kernel
theorem d_Walker_one_17 : decode prog_18_method_3_code 17 = .ok (.goto 7, 3) := by decide +kernel
theorem d_Walker_one_20 : decode prog_18_method_3_code 20 = .ok (.aload_n 2, 1) := by decide +kernel
theorem d_Walker_one_21 : decode prog_18_method_3_code 21 = .ok (.getfield 44, 3) := by decide +kernel
theorem d_Walker_one_24 : decode prog_18_method_3_code 24 = .ok (.iload 4, 2) := by decide +kernel
theorem d_Walker_one_26 : decode prog_18_method_3_code 26 = .ok (.ifCond .eq 13, 3) := by decide +kernel
theorem d_Walker_one_29 : decode prog_18_method_3_code 29 = .ok (.aload_n 2, 1) := by decide +kernel
theorem d_Walker_one_30 : decode prog_18_method_3_code 30 = .ok (.getfield 44, 3) := by decide +kernel
theorem d_Walker_one_33 : decode prog_18_method_3_code 33 = .ok (.invokestatic 47, 3) := by decide +kernel
theorem d_Walker_one_36 : decode prog_18_method_3_code 36 = .ok (.goto 7, 3) := by decide +kernel
theorem d_Walker_one_39 : decode prog_18_method_3_code 39 = .ok (.aload_n 2, 1) := by decide +kernel
theorem d_Walker_one_40 : decode prog_18_method_3_code 40 = .ok (.getfield 53, 3) := by decide +kernel
theorem d_Walker_one_43 : decode prog_18_method_3_code 43 = .ok (.invokevirtual 56, 3) := by decide +kernel
theorem d_Walker_one_46 : decode prog_18_method_3_code 46 = .ok (.goto 177, 3) := by decide +kernel
theorem d_Walker_one_49 : decode prog_18_method_3_code 49 = .ok (.aload_n 2, 1) := by decide +kernel
theorem d_Walker_one_50 : decode prog_18_method_3_code 50 = .ok (.getfield 35, 3) := by decide +kernel
theorem d_Walker_one_53 : decode prog_18_method_3_code 53 = .ok (.iconst 4, 1) := by decide +kernel
theorem d_Walker_one_54 : decode prog_18_method_3_code 54 = .ok (.if_icmp .ne 40, 3) := by decide +kernel
theorem d_Walker_one_57 : decode prog_18_method_3_code 57 = .ok (.iload 4, 2) := by decide +kernel
theorem d_Walker_one_59 : decode prog_18_method_3_code 59 = .ok (.ifCond .eq 24, 3) := by decide +kernel
theorem d_Walker_one_62 : decode prog_18_method_3_code 62 = .ok (.aload_n 1, 1) := by decide +kernel
theorem d_Walker_one_63 : decode prog_18_method_3_code 63 = .ok (.aload_n 2, 1) := by decide +kernel
theorem d_Walker_one_64 : decode prog_18_method_3_code 64 = .ok (.invokevirtual 40, 3) := by decide +kernel
theorem d_Walker_one_67 : decode prog_18_method_3_code 67 = .ok (.aload_n 2, 1) := by decide +kernel
theorem d_Walker_one_68 : decode prog_18_method_3_code 68 = .ok (.getfield 44, 3) := by decide +kernel
theorem d_Walker_one_71 : decode prog_18_method_3_code 71 = .ok (.invokestatic 62, 3) := by decide +kernel
theorem d_Walker_one_74 : decode prog_18_method_3_code 74 = .ok (.invokestatic 47, 3) := by decide +kernel
theorem d_Walker_one_77 : decode prog_18_method_3_code 77 = .ok (.invokevirtual 65, 3) := by decide +kernel
theorem d_Walker_one_80 : decode prog_18_method_3_code 80 = .ok (.goto 143, 3) := by decide +kernel
theorem d_Walker_one_83 : decode prog_18_method_3_code 83 = .ok (.aload_n 1, 1) := by decide +kernel
theorem d_Walker_one_84 : decode prog_18_method_3_code 84 = .ok (.aload_n 2, 1) := by decide +kernel
theorem d_Walker_one_85 : decode prog_18_method_3_code 85 = .ok (.getfield 44, 3) := by decide +kernel
theorem d_Walker_one_88 : decode prog_18_method_3_code 88 = .ok (.invokevirtual 68, 3) := by decide +kernel
theorem d_Walker_one_91 : decode prog_18_method_3_code 91 = .ok (.goto 132, 3) := by decide +kernel
theorem d_Walker_one_94 : decode prog_18_method_3_code 94 = .ok (.aload_n 2, 1) := by decide +kernel
theorem d_Walker_one_95 : decode prog_18_method_3_code 95 = .ok (.getfield 35, 3) := by decide +kernel
theorem d_Walker_one_98 : decode prog_18_method_3_code 98 = .ok (.iconst 1, 1) := by decide +kernel
theorem d_Walker_one_99 : decode prog_18_method_3_code 99 = .ok (.if_icmp .eq 11, 3) := by decide +kernel
theorem d_Walker_one_102 : decode prog_18_method_3_code 102 = .ok (.aload_n 2, 1) := by decide +kernel
theorem d_Walker_one_103 : decode prog_18_method_3_code 103 = .ok (.getfield 35, 3) := by decide +kernel
theorem d_Walker_one_106 : decode prog_18_method_3_code 106 = .ok (.iconst 2, 1) := by decide +kernel
theorem d_Walker_one_107 : decode prog_18_method_3_code 107 = .ok (.if_icmp .ne 44, 3) := by decide +kernel
theorem d_Walker_one_110 : decode prog_18_method_3_code 110 = .ok (.aload_n 2, 1) := by decide +kernel
theorem d_Walker_one_111 : decode prog_18_method_3_code 111 = .ok (.getfield 72, 3) := by decide +kernel
theorem d_Walker_one_114 : decode prog_18_method_3_code 114 = .ok (.iconst 2, 1) := by decide +kernel
theorem d_Walker_one_115 : decode prog_18_method_3_code 115 = .ok (.if_icmp .eq 108, 3) := by decide +kernel
theorem d_Walker_one_118 : decode prog_18_method_3_code 118 = .ok (.aload_n 0, 1) := by decide +kernel
theorem d_Walker_one_119 : decode prog_18_method_3_code 119 = .ok (.aload_n 1, 1) := by decide +kernel
theorem d_Walker_one_120 : decode prog_18_method_3_code 120 = .ok (.aload_n 2, 1) := by decide +kernel
theorem d_Walker_one_121 : decode prog_18_method_3_code 121 = .ok (.iload_n 3, 1) := by decide +kernel
theorem d_Walker_one_122 : decode prog_18_method_3_code 122 = .ok (.aload_n 2, 1) := by decide +kernel
theorem d_Walker_one_123 : decode prog_18_method_3_code 123 = .ok (.getfield 35, 3) := by decide +kernel
theorem d_Walker_one_126 : decode prog_18_method_3_code 126 = .ok (.iconst 1, 1) := by decide +kernel
theorem d_Walker_one_127 : decode prog_18_method_3_code 127 = .ok (.if_icmp .ne 7, 3) := by decide +kernel
theorem d_Walker_one_130 : decode prog_18_method_3_code 130 = .ok (.iconst 1, 1) := by decide +kernel
theorem d_Walker_one_131 : decode prog_18_method_3_code 131 = .ok (.goto 4, 3) := by decide +kernel
theorem d_Walker_one_134 : decode prog_18_method_3_code 134 = .ok (.iconst 0, 1) := by decide +kernel
theorem d_Walker_one_135 : decode prog_18_method_3_code 135 = .ok (.iload 4, 2) := by decide +kernel
theorem d_Walker_one_137 : decode prog_18_method_3_code 137 = .ok (.if_icmp .eq 7, 3) := by decide +kernel
theorem d_Walker_one_140 : decode prog_18_method_3_code 140 = .ok (.iconst 1, 1) := by decide +kernel
theorem d_Walker_one_141 : decode prog_18_method_3_code 141 = .ok (.goto 4, 3) := by decide +kernel
theorem d_Walker_one_144 : decode prog_18_method_3_code 144 = .ok (.iconst 0, 1) := by decide +kernel
theorem d_Walker_one_145 : decode prog_18_method_3_code 145 = .ok (.invokevirtual 75, 3) := by decide +kernel
theorem d_Walker_one_148 : decode prog_18_method_3_code 148 = .ok (.goto 75, 3) := by decide +kernel
theorem d_Walker_one_151 : decode prog_18_method_3_code 151 = .ok (.aload_n 2, 1) := by decide +kernel
theorem d_Walker_one_152 : decode prog_18_method_3_code 152 = .ok (.getfield 35, 3) := by decide +kernel
theorem d_Walker_one_155 : decode prog_18_method_3_code 155 = .ok (.iconst 3, 1) := by decide +kernel
theorem d_Walker_one_156 : decode prog_18_method_3_code 156 = .ok (.if_icmp .ne 27, 3) := by decide +kernel
theorem d_Walker_one_159 : decode prog_18_method_3_code 159 = .ok (.aload_n 0, 1) := by decide +kernel
theorem d_Walker_one_160 : decode prog_18_method_3_code 160 = .ok (.getfield 9, 3) := by decide +kernel
theorem d_Walker_one_163 : decode prog_18_method_3_code 163 = .ok (.aload_n 1, 1) := by decide +kernel
theorem d_Walker_one_164 : decode prog_18_method_3_code 164 = .ok (.aload_n 2, 1) := by decide +kernel
theorem d_Walker_one_165 : decode prog_18_method_3_code 165 = .ok (.getfield 44, 3) := by decide +kernel
theorem d_Walker_one_168 : decode prog_18_method_3_code 168 = .ok (.invokevirtual 78, 3) := by decide +kernel
theorem d_Walker_one_171 : decode prog_18_method_3_code 171 = .ok (.aload_n 2, 1) := by decide +kernel
theorem d_Walker_one_172 : decode prog_18_method_3_code 172 = .ok (.iload_n 3, 1) := by decide +kernel
theorem d_Walker_one_173 : decode prog_18_method_3_code 173 = .ok (.iload 4, 2) := by decide +kernel
theorem d_Walker_one_175 : decode prog_18_method_3_code 175 = .ok (.invokeinterface 82 5, 5) := by decide +kernel
theorem d_Walker_one_180 : decode prog_18_method_3_code 180 = .ok (.goto 43, 3) := by decide +kernel
theorem d_Walker_one_183 : decode prog_18_method_3_code 183 = .ok (.aload_n 2, 1) := by decide +kernel
theorem d_Walker_one_184 : decode prog_18_method_3_code 184 = .ok (.getfield 35, 3) := by decide +kernel
theorem d_Walker_one_187 : decode prog_18_method_3_code 187 = .ok (.iconst 5, 1) := by decide +kernel
theorem d_Walker_one_188 : decode prog_18_method_3_code 188 = .ok (.if_icmp .ne 14, 3) := by decide +kernel
theorem d_Walker_one_191 : decode prog_18_method_3_code 191 = .ok (.aload_n 0, 1) := by decide +kernel
theorem d_Walker_one_192 : decode prog_18_method_3_code 192 = .ok (.aload_n 1, 1) := by decide +kernel
theorem d_Walker_one_193 : decode prog_18_method_3_code 193 = .ok (.aload_n 2, 1) := by decide +kernel
theorem d_Walker_one_194 : decode prog_18_method_3_code 194 = .ok (.iload 4, 2) := by decide +kernel
theorem d_Walker_one_196 : decode prog_18_method_3_code 196 = .ok (.invokevirtual 86, 3) := by decide +kernel
theorem d_Walker_one_199 : decode prog_18_method_3_code 199 = .ok (.goto 24, 3) := by decide +kernel
theorem d_Walker_one_202 : decode prog_18_method_3_code 202 = .ok (.aload_n 0, 1) := by decide +kernel
theorem d_Walker_one_203 : decode prog_18_method_3_code 203 = .ok (.getfield 9, 3) := by decide +kernel
theorem d_Walker_one_206 : decode prog_18_method_3_code 206 = .ok (.aload_n 1, 1) := by decide +kernel
theorem d_Walker_one_207 : decode prog_18_method_3_code 207 = .ok (.aload_n 2, 1) := by decide +kernel
theorem d_Walker_one_208 : decode prog_18_method_3_code 208 = .ok (.getfield 44, 3) := by decide +kernel
theorem d_Walker_one_211 : decode prog_18_method_3_code 211 = .ok (.invokevirtual 78, 3) := by decide +kernel
theorem d_Walker_one_214 : decode prog_18_method_3_code 214 = .ok (.aload_n 2, 1) := by decide +kernel
theorem d_Walker_one_215 : decode prog_18_method_3_code 215 = .ok (.iload_n 3, 1) := by decide +kernel
theorem d_Walker_one_216 : decode prog_18_method_3_code 216 = .ok (.iload 4, 2) := by decide +kernel
theorem d_Walker_one_218 : decode prog_18_method_3_code 218 = .ok (.invokeinterface 90 5, 5) := by decide +kernel
theorem d_Walker_one_223 : decode prog_18_method_3_code 223 = .ok (.return_, 1) := by decide +kernel
theorem d_Walker_change_0 : decode prog_18_method_4_code 0 = .ok (.iload 4, 2) := by decide +kernel
theorem d_Walker_change_2 : decode prog_18_method_4_code 2 = .ok (.ifCond .eq 25, 3) := by decide +kernel
theorem d_Walker_change_5 : decode prog_18_method_4_code 5 = .ok (.aload_n 0, 1) := by decide +kernel
theorem d_Walker_change_6 : decode prog_18_method_4_code 6 = .ok (.getfield 9, 3) := by decide +kernel
theorem d_Walker_change_9 : decode prog_18_method_4_code 9 = .ok (.aload_n 1, 1) := by decide +kernel
theorem d_Walker_change_10 : decode prog_18_method_4_code 10 = .ok (.aload_n 2, 1) := by decide +kernel
theorem d_Walker_change_11 : decode prog_18_method_4_code 11 = .ok (.getfield 44, 3) := by decide +kernel
theorem d_Walker_change_14 : decode prog_18_method_4_code 14 = .ok (.invokevirtual 93, 3) := by decide +kernel
theorem d_Walker_change_17 : decode prog_18_method_4_code 17 = .ok (.aload_n 2, 1) := by decide +kernel
theorem d_Walker_change_18 : decode prog_18_method_4_code 18 = .ok (.iload_n 3, 1) := by decide +kernel
theorem d_Walker_change_19 : decode prog_18_method_4_code 19 = .ok (.invokeinterface 96 4, 5) := by decide +kernel
theorem d_Walker_change_24 : decode prog_18_method_4_code 24 = .ok (.goto 30, 3) := by decide +kernel
theorem d_Walker_change_27 : decode prog_18_method_4_code 27 = .ok (.aload_n 0, 1) := by decide +kernel
theorem d_Walker_change_28 : decode prog_18_method_4_code 28 = .ok (.getfield 9, 3) := by decide +kernel
theorem d_Walker_change_31 : decode prog_18_method_4_code 31 = .ok (.aload_n 1, 1) := by decide +kernel
theorem d_Walker_change_32 : decode prog_18_method_4_code 32 = .ok (.aload_n 2, 1) := by decide +kernel
theorem d_Walker_change_33 : decode prog_18_method_4_code 33 = .ok (.getfield 44, 3) := by decide +kernel
theorem d_Walker_change_36 : decode prog_18_method_4_code 36 = .ok (.invokevirtual 78, 3) := by decide +kernel
theorem d_Walker_change_39 : decode prog_18_method_4_code 39 = .ok (.aload_n 2, 1) := by decide +kernel
theorem d_Walker_change_40 : decode prog_18_method_4_code 40 = .ok (.iload_n 3, 1) := by decide +kernel
theorem d_Walker_change_41 : decode prog_18_method_4_code 41 = .ok (.invokeinterface 100 4, 5) := by decide +kernel
theorem d_Walker_change_46 : decode prog_18_method_4_code 46 = .ok (.aload_n 1, 1) := by decide +kernel
theorem d_Walker_change_47 : decode prog_18_method_4_code 47 = .ok (.aload_n 2, 1) := by decide +kernel
theorem d_Walker_change_48 : decode prog_18_method_4_code 48 = .ok (.getfield 44, 3) := by decide +kernel
theorem d_Walker_change_51 : decode prog_18_method_4_code 51 = .ok (.invokevirtual 103, 3) := by decide +kernel
theorem d_Walker_change_54 : decode prog_18_method_4_code 54 = .ok (.return_, 1) := by decide +kernel
theorem d_Walker_part_0 : decode prog_18_method_5_code 0 = .ok (.iload_n 3, 1) := by decide +kernel
theorem d_Walker_part_1 : decode prog_18_method_5_code 1 = .ok (.ifCond .eq 40, 3) := by decide +kernel
theorem d_Walker_part_4 : decode prog_18_method_5_code 4 = .ok (.aload_n 0, 1) := by decide +kernel
theorem d_Walker_part_5 : decode prog_18_method_5_code 5 = .ok (.getfield 9, 3) := by decide +kernel
theorem d_Walker_part_8 : decode prog_18_method_5_code 8 = .ok (.aload_n 1, 1) := by decide +kernel
theorem d_Walker_part_9 : decode prog_18_method_5_code 9 = .ok (.aload_n 2, 1) := by decide +kernel
theorem d_Walker_part_10 : decode prog_18_method_5_code 10 = .ok (.getfield 44, 3) := by decide +kernel
theorem d_Walker_part_13 : decode prog_18_method_5_code 13 = .ok (.invokevirtual 78, 3) := by decide +kernel
theorem d_Walker_part_16 : decode prog_18_method_5_code 16 = .ok (.aload_n 1, 1) := by decide +kernel
theorem d_Walker_part_17 : decode prog_18_method_5_code 17 = .ok (.aload_n 2, 1) := by decide +kernel
theorem d_Walker_part_18 : decode prog_18_method_5_code 18 = .ok (.invokevirtual 106, 3) := by decide +kernel
theorem d_Walker_part_21 : decode prog_18_method_5_code 21 = .ok (.invokevirtual 78, 3) := by decide +kernel
theorem d_Walker_part_24 : decode prog_18_method_5_code 24 = .ok (.aload_n 2, 1) := by decide +kernel
theorem d_Walker_part_25 : decode prog_18_method_5_code 25 = .ok (.invokeinterface 109 4, 5) := by decide +kernel
theorem d_Walker_part_30 : decode prog_18_method_5_code 30 = .ok (.aload_n 1, 1) := by decide +kernel
theorem d_Walker_part_31 : decode prog_18_method_5_code 31 = .ok (.aload_n 2, 1) := by decide +kernel
theorem d_Walker_part_32 : decode prog_18_method_5_code 32 = .ok (.invokevirtual 106, 3) := by decide +kernel
theorem d_Walker_part_35 : decode prog_18_method_5_code 35 = .ok (.invokevirtual 103, 3) := by decide +kernel
theorem d_Walker_part_38 : decode prog_18_method_5_code 38 = .ok (.goto 29, 3) := by decide +kernel
theorem d_Walker_part_41 : decode prog_18_method_5_code 41 = .ok (.aload_n 0, 1) := by decide +kernel
theorem d_Walker_part_42 : decode prog_18_method_5_code 42 = .ok (.getfield 9, 3) := by decide +kernel
theorem d_Walker_part_45 : decode prog_18_method_5_code 45 = .ok (.aload_n 1, 1) := by decide +kernel
theorem d_Walker_part_46 : decode prog_18_method_5_code 46 = .ok (.aload_n 2, 1) := by decide +kernel
theorem d_Walker_part_47 : decode prog_18_method_5_code 47 = .ok (.getfield 44, 3) := by decide +kernel
theorem d_Walker_part_50 : decode prog_18_method_5_code 50 = .ok (.invokevirtual 78, 3) := by decide +kernel
theorem d_Walker_part_53 : decode prog_18_method_5_code 53 = .ok (.aload_n 1, 1) := by decide +kernel
theorem d_Walker_part_54 : decode prog_18_method_5_code 54 = .ok (.aload_n 2, 1) := by decide +kernel
theorem d_Walker_part_55 : decode prog_18_method_5_code 55 = .ok (.invokevirtual 106, 3) := by decide +kernel
theorem d_Walker_part_58 : decode prog_18_method_5_code 58 = .ok (.invokevirtual 93, 3) := by decide +kernel
theorem d_Walker_part_61 : decode prog_18_method_5_code 61 = .ok (.aload_n 2, 1) := by decide +kernel
theorem d_Walker_part_62 : decode prog_18_method_5_code 62 = .ok (.invokeinterface 113 4, 5) := by decide +kernel
theorem d_Walker_part_67 : decode prog_18_method_5_code 67 = .ok (.return_, 1) := by decide +kernel
theorem d_Math_floorDivI_0 : decode prog_27_method_47_code 0 = .ok (.iload_n 0, 1) := by decide +kernel
theorem d_Math_floorDivI_1 : decode prog_27_method_47_code 1 = .ok (.iload_n 1, 1) := by decide +kernel
theorem d_Math_floorDivI_2 : decode prog_27_method_47_code 2 = .ok (.idiv, 1) := by decide +kernel
theorem d_Math_floorDivI_3 : decode prog_27_method_47_code 3 = .ok (.istore_n 2, 1) := by decide +kernel
theorem d_Math_floorDivI_4 : decode prog_27_method_47_code 4 = .ok (.iload_n 0, 1) := by decide +kernel
theorem d_Math_floorDivI_5 : decode prog_27_method_47_code 5 = .ok (.iload_n 1, 1) := by decide +kernel
theorem d_Math_floorDivI_6 : decode prog_27_method_47_code 6 = .ok (.ixor, 1) := by decide +kernel
theorem d_Math_floorDivI_7 : decode prog_27_method_47_code 7 = .ok (.ifCond .ge 14, 3) := by decide +kernel
theorem d_Math_floorDivI_10 : decode prog_27_method_47_code 10 = .ok (.iload_n 2, 1) := by decide +kernel
theorem d_Math_floorDivI_11 : decode prog_27_method_47_code 11 = .ok (.iload_n 1, 1) := by decide +kernel
theorem d_Math_floorDivI_12 : decode prog_27_method_47_code 12 = .ok (.imul, 1) := by decide +kernel
theorem d_Math_floorDivI_13 : decode prog_27_method_47_code 13 = .ok (.iload_n 0, 1) := by decide +kernel
theorem d_Math_floorDivI_14 : decode prog_27_method_47_code 14 = .ok (.if_icmp .eq 7, 3) := by decide +kernel
theorem d_Math_floorDivI_17 : decode prog_27_method_47_code 17 = .ok (.iload_n 2, 1) := by decide +kernel
theorem d_Math_floorDivI_18 : decode prog_27_method_47_code 18 = .ok (.iconst 1, 1) := by decide +kernel
theorem d_Math_floorDivI_19 : decode prog_27_method_47_code 19 = .ok (.isub, 1) := by decide +kernel
theorem d_Math_floorDivI_20 : decode prog_27_method_47_code 20 = .ok (.ireturn, 1) := by decide +kernel
theorem d_Math_floorDivI_21 : decode prog_27_method_47_code 21 = .ok (.iload_n 2, 1) := by decide +kernel
theorem d_Math_floorDivI_22 : decode prog_27_method_47_code 22 = .ok (.ireturn, 1) := by decide +kernel
theorem d_Math_floorDivJ_0 : decode prog_27_method_49_code 0 = .ok (.lload_n 0, 1) := by decide +kernel
theorem d_Math_floorDivJ_1 : decode prog_27_method_49_code 1 = .ok (.lload_n 2, 1) := by decide +kernel
theorem d_Math_floorDivJ_2 : decode prog_27_method_49_code 2 = .ok (.ldiv, 1) := by decide +kernel
theorem d_Math_floorDivJ_3 : decode prog_27_method_49_code 3 = .ok (.lstore 4, 2) := by decide +kernel
theorem d_Math_floorDivJ_5 : decode prog_27_method_49_code 5 = .ok (.lload_n 0, 1) := by decide +kernel
theorem d_Math_floorDivJ_6 : decode prog_27_method_49_code 6 = .ok (.lload_n 2, 1) := by decide +kernel
theorem d_Math_floorDivJ_7 : decode prog_27_method_49_code 7 = .ok (.lxor, 1) := by decide +kernel
theorem d_Math_floorDivJ_8 : decode prog_27_method_49_code 8 = .ok (.lconst 0, 1) := by decide +kernel
theorem d_Math_floorDivJ_9 : decode prog_27_method_49_code 9 = .ok (.lcmp, 1) := by decide +kernel
theorem d_Math_floorDivJ_10 : decode prog_27_method_49_code 10 = .ok (.ifCond .ge 17, 3) := by decide +kernel
theorem d_Math_floorDivJ_13 : decode prog_27_method_49_code 13 = .ok (.lload 4, 2) := by decide +kernel
theorem d_Math_floorDivJ_15 : decode prog_27_method_49_code 15 = .ok (.lload_n 2, 1) := by decide +kernel
theorem d_Math_floorDivJ_16 : decode prog_27_method_49_code 16 = .ok (.lmul, 1) := by decide +kernel
theorem d_Math_floorDivJ_17 : decode prog_27_method_49_code 17 = .ok (.lload_n 0, 1) := by decide +kernel
theorem d_Math_floorDivJ_18 : decode prog_27_method_49_code 18 = .ok (.lcmp, 1) := by decide +kernel
theorem d_Math_floorDivJ_19 : decode prog_27_method_49_code 19 = .ok (.ifCond .eq 8, 3) := by decide +kernel
theorem d_Math_floorDivJ_22 : decode prog_27_method_49_code 22 = .ok (.lload 4, 2) := by decide +kernel
theorem d_Math_floorDivJ_24 : decode prog_27_method_49_code 24 = .ok (.lconst 1, 1) := by decide +kernel
theorem d_Math_floorDivJ_25 : decode prog_27_method_49_code 25 = .ok (.lsub, 1) := by decide +kernel
theorem d_Math_floorDivJ_26 : decode prog_27_method_49_code 26 = .ok (.lreturn, 1) := by decide +kernel
theorem d_Math_floorDivJ_27 : decode prog_27_method_49_code 27 = .ok (.lload 4, 2) := by decide +kernel
theorem d_Math_floorDivJ_29 : decode prog_27_method_49_code 29 = .ok (.lreturn, 1) := by decide +kernel
theorem d_Math_floorModI_0 : decode prog_27_method_50_code 0 = .ok (.iload_n 0, 1) := by decide +kernel
theorem d_Math_floorModI_1 : decode prog_27_method_50_code 1 = .ok (.iload_n 1, 1) := by decide +kernel
theorem d_Math_floorModI_2 : decode prog_27_method_50_code 2 = .ok (.irem, 1) := by decide +kernel
theorem d_Math_floorModI_3 : decode prog_27_method_50_code 3 = .ok (.istore_n 2, 1) := by decide +kernel
theorem d_Math_floorModI_4 : decode prog_27_method_50_code 4 = .ok (.iload_n 0, 1) := by decide +kernel
theorem d_Math_floorModI_5 : decode prog_27_method_50_code 5 = .ok (.iload_n 1, 1) := by decide +kernel
theorem d_Math_floorModI_6 : decode prog_27_method_50_code 6 = .ok (.ixor, 1) := by decide +kernel
theorem d_Math_floorModI_7 : decode prog_27_method_50_code 7 = .ok (.ifCond .ge 11, 3) := by decide +kernel
theorem d_Math_floorModI_10 : decode prog_27_method_50_code 10 = .ok (.iload_n 2, 1) := by decide +kernel
theorem d_Math_floorModI_11 : decode prog_27_method_50_code 11 = .ok (.ifCond .eq 7, 3) := by decide +kernel
theorem d_Math_floorModI_14 : decode prog_27_method_50_code 14 = .ok (.iload_n 2, 1) := by decide +kernel
theorem d_Math_floorModI_15 : decode prog_27_method_50_code 15 = .ok (.iload_n 1, 1) := by decide +kernel
theorem d_Math_floorModI_16 : decode prog_27_method_50_code 16 = .ok (.iadd, 1) := by decide +kernel
theorem d_Math_floorModI_17 : decode prog_27_method_50_code 17 = .ok (.ireturn, 1) := by decide +kernel
theorem d_Math_floorModI_18 : decode prog_27_method_50_code 18 = .ok (.iload_n 2, 1) := by decide +kernel
theorem d_Math_floorModI_19 : decode prog_27_method_50_code 19 = .ok (.ireturn, 1) := by decide +kernel
theorem d_Math_maxI_0 : decode prog_27_method_65_code 0 = .ok (.iload_n 0, 1) := by decide +kernel
theorem d_Math_maxI_1 : decode prog_27_method_65_code 1 = .ok (.iload_n 1, 1) := by decide +kernel
theorem d_Math_maxI_2 : decode prog_27_method_65_code 2 = .ok (.if_icmp .lt 7, 3) := by decide +kernel
theorem d_Math_maxI_5 : decode prog_27_method_65_code 5 = .ok (.iload_n 0, 1) := by decide +kernel
theorem d_Math_maxI_6 : decode prog_27_method_65_code 6 = .ok (.goto 4, 3) := by decide +kernel
theorem d_Math_maxI_9 : decode prog_27_method_65_code 9 = .ok (.iload_n 1, 1) := by decide +kernel
theorem d_Math_maxI_10 : decode prog_27_method_65_code 10 = .ok (.ireturn, 1) := by decide +kernel
theorem d_Math_maxJ_0 : decode prog_27_method_66_code 0 = .ok (.lload_n 0, 1) := by decide +kernel
theorem d_Math_maxJ_1 : decode prog_27_method_66_code 1 = .ok (.lload_n 2, 1) := by decide +kernel
theorem d_Math_maxJ_2 : decode prog_27_method_66_code 2 = .ok (.lcmp, 1) := by decide +kernel
theorem d_Math_maxJ_3 : decode prog_27_method_66_code 3 = .ok (.ifCond .lt 7, 3) := by decide +kernel
theorem d_Math_maxJ_6 : decode prog_27_method_66_code 6 = .ok (.lload_n 0, 1) := by decide +kernel
theorem d_Math_maxJ_7 : decode prog_27_method_66_code 7 = .ok (.goto 4, 3) := by decide +kernel
theorem d_Math_maxJ_10 : decode prog_27_method_66_code 10 = .ok (.lload_n 2, 1) := by decide +kernel
theorem d_Math_maxJ_11 : decode prog_27_method_66_code 11 = .ok (.lreturn, 1) := by decide +kernel
theorem d_Math_minI_0 : decode prog_27_method_69_code 0 = .ok (.iload_n 0, 1) := by decide +kernel
theorem d_Math_minI_1 : decode prog_27_method_69_code 1 = .ok (.iload_n 1, 1) := by decide +kernel
theorem d_Math_minI_2 : decode prog_27_method_69_code 2 = .ok (.if_icmp .gt 7, 3) := by decide +kernel
theorem d_Math_minI_5 : decode prog_27_method_69_code 5 = .ok (.iload_n 0, 1) := by decide +kernel
theorem d_Math_minI_6 : decode prog_27_method_69_code 6 = .ok (.goto 4, 3) := by decide +kernel
theorem d_Math_minI_9 : decode prog_27_method_69_code 9 = .ok (.iload_n 1, 1) := by decide +kernel
theorem d_Math_minI_10 : decode prog_27_method_69_code 10 = .ok (.ireturn, 1) := by decide +kernel
theorem d_Math_minJ_0 : decode prog_27_method_70_code 0 = .ok (.lload_n 0, 1) := by decide +kernel
theorem d_Math_minJ_1 : decode prog_27_method_70_code 1 = .ok (.lload_n 2, 1) := by decide +kernel
theorem d_Math_minJ_2 : decode prog_27_method_70_code 2 = .ok (.lcmp, 1) := by decide +kernel
theorem d_Math_minJ_3 : decode prog_27_method_70_code 3 = .ok (.ifCond .gt 7, 3) := by decide +kernel
theorem d_Math_minJ_6 : decode prog_27_method_70_code 6 = .ok (.lload_n 0, 1) := by decide +kernel
theorem d_Math_minJ_7 : decode prog_27_method_70_code 7 = .ok (.goto 4, 3) := by decide +kernel
theorem d_Math_minJ_10 : decode prog_27_method_70_code 10 = .ok (.lload_n 2, 1) := by decide +kernel
theorem d_Math_minJ_11 : decode prog_27_method_70_code 11 = .ok (.lreturn, 1) := by decide +kernel
