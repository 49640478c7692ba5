/-! decode rows (printed by wip/gen/links.py) -/
theorem d_MD_about_0 : decode prog_20_method_52_code 0 = .ok (.aload_n 0, 1) := by decide +kernel
theorem d_MD_about_1 : decode prog_20_method_52_code 1 = .ok (.aload_n 0, 1) := by decide +kernel
theorem d_MD_about_2 : decode prog_20_method_52_code 2 = .ok (.iload_n 1, 1) := by decide +kernel
theorem d_MD_about_3 : decode prog_20_method_52_code 3 = .ok (.invokevirtual 254, 3) := by decide +kernel
theorem d_MD_about_6 : decode prog_20_method_52_code 6 = .ok (.ifCond .ne 7, 3) := by decide +kernel
theorem d_MD_about_9 : decode prog_20_method_52_code 9 = .ok (.iconst 1, 1) := by decide +kernel
theorem d_MD_about_10 : decode prog_20_method_52_code 10 = .ok (.goto 17, 3) := by decide +kernel
theorem d_MD_about_13 : decode prog_20_method_52_code 13 = .ok (.iload_n 3, 1) := by decide +kernel
theorem d_MD_about_14 : decode prog_20_method_52_code 14 = .ok (.ifCond .lt 8, 3) := by decide +kernel
theorem d_MD_about_17 : decode prog_20_method_52_code 17 = .ok (.iload_n 3, 1) := by decide +kernel
theorem d_MD_about_18 : decode prog_20_method_52_code 18 = .ok (.iconst 3, 1) := by decide +kernel
theorem d_MD_about_19 : decode prog_20_method_52_code 19 = .ok (.if_icmp .le 7, 3) := by decide +kernel
theorem d_MD_about_22 : decode prog_20_method_52_code 22 = .ok (.iconst 2, 1) := by decide +kernel
theorem d_MD_about_23 : decode prog_20_method_52_code 23 = .ok (.goto 4, 3) := by decide +kernel
theorem d_MD_about_26 : decode prog_20_method_52_code 26 = .ok (.iconst 0, 1) := by decide +kernel
theorem d_MD_about_27 : decode prog_20_method_52_code 27 = .ok (.putfield 101, 3) := by decide +kernel
theorem d_MD_about_30 : decode prog_20_method_52_code 30 = .ok (.aload_n 0, 1) := by decide +kernel
theorem d_MD_about_31 : decode prog_20_method_52_code 31 = .ok (.getfield 101, 3) := by decide +kernel
theorem d_MD_about_34 : decode prog_20_method_52_code 34 = .ok (.ifCond .le 5, 3) := by decide +kernel
theorem d_MD_about_37 : decode prog_20_method_52_code 37 = .ok (.iconst 0, 1) := by decide +kernel
theorem d_MD_about_38 : decode prog_20_method_52_code 38 = .ok (.ireturn, 1) := by decide +kernel
theorem d_MD_about_39 : decode prog_20_method_52_code 39 = .ok (.aload_n 0, 1) := by decide +kernel
theorem d_MD_about_40 : decode prog_20_method_52_code 40 = .ok (.iconst 0, 1) := by decide +kernel
theorem d_MD_about_41 : decode prog_20_method_52_code 41 = .ok (.putfield 118, 3) := by decide +kernel
theorem d_MD_about_44 : decode prog_20_method_52_code 44 = .ok (.aload_n 0, 1) := by decide +kernel
theorem d_MD_about_45 : decode prog_20_method_52_code 45 = .ok (.iload_n 1, 1) := by decide +kernel
theorem d_MD_about_46 : decode prog_20_method_52_code 46 = .ok (.invokevirtual 237, 3) := by decide +kernel
theorem d_MD_about_49 : decode prog_20_method_52_code 49 = .ok (.iload_n 2, 1) := by decide +kernel
theorem d_MD_about_50 : decode prog_20_method_52_code 50 = .ok (.ifCond .ne 7, 3) := by decide +kernel
theorem d_MD_about_53 : decode prog_20_method_52_code 53 = .ok (.iconst (-1), 1) := by decide +kernel
theorem d_MD_about_54 : decode prog_20_method_52_code 54 = .ok (.goto 8, 3) := by decide +kernel
theorem d_MD_about_57 : decode prog_20_method_52_code 57 = .ok (.aload_n 0, 1) := by decide +kernel
theorem d_MD_about_58 : decode prog_20_method_52_code 58 = .ok (.iload_n 2, 1) := by decide +kernel
theorem d_MD_about_59 : decode prog_20_method_52_code 59 = .ok (.invokevirtual 111, 3) := by decide +kernel
theorem d_MD_about_62 : decode prog_20_method_52_code 62 = .ok (.istore 4, 2) := by decide +kernel
theorem d_MD_about_64 : decode prog_20_method_52_code 64 = .ok (.iload_n 2, 1) := by decide +kernel
theorem d_MD_about_65 : decode prog_20_method_52_code 65 = .ok (.ifCond .eq 8, 3) := by decide +kernel
theorem d_MD_about_68 : decode prog_20_method_52_code 68 = .ok (.iload 4, 2) := by decide +kernel
theorem d_MD_about_70 : decode prog_20_method_52_code 70 = .ok (.ifCond .lt 7, 3) := by decide +kernel
theorem d_MD_about_73 : decode prog_20_method_52_code 73 = .ok (.iconst 1, 1) := by decide +kernel
theorem d_MD_about_74 : decode prog_20_method_52_code 74 = .ok (.goto 4, 3) := by decide +kernel
theorem d_MD_about_77 : decode prog_20_method_52_code 77 = .ok (.iconst 0, 1) := by decide +kernel
theorem d_MD_about_78 : decode prog_20_method_52_code 78 = .ok (.istore 5, 2) := by decide +kernel
theorem d_MD_about_80 : decode prog_20_method_52_code 80 = .ok (.iload_n 3, 1) := by decide +kernel
theorem d_MD_about_81 : decode prog_20_method_52_code 81 = .ok (.ifCond .ne 28, 3) := by decide +kernel
theorem d_MD_about_84 : decode prog_20_method_52_code 84 = .ok (.iload 5, 2) := by decide +kernel
theorem d_MD_about_86 : decode prog_20_method_52_code 86 = .ok (.ifCond .ne 7, 3) := by decide +kernel
theorem d_MD_about_89 : decode prog_20_method_52_code 89 = .ok (.iconst (-1), 1) := by decide +kernel
theorem d_MD_about_90 : decode prog_20_method_52_code 90 = .ok (.goto 18, 3) := by decide +kernel
theorem d_MD_about_93 : decode prog_20_method_52_code 93 = .ok (.iload_n 2, 1) := by decide +kernel
theorem d_MD_about_94 : decode prog_20_method_52_code 94 = .ok (.ifCond .ne 7, 3) := by decide +kernel
theorem d_MD_about_97 : decode prog_20_method_52_code 97 = .ok (.iconst 2, 1) := by decide +kernel
theorem d_MD_about_98 : decode prog_20_method_52_code 98 = .ok (.goto 10, 3) := by decide +kernel
theorem d_MD_about_101 : decode prog_20_method_52_code 101 = .ok (.aload_n 0, 1) := by decide +kernel
theorem d_MD_about_102 : decode prog_20_method_52_code 102 = .ok (.getfield 56, 3) := by decide +kernel
theorem d_MD_about_105 : decode prog_20_method_52_code 105 = .ok (.iload 4, 2) := by decide +kernel
theorem d_MD_about_107 : decode prog_20_method_52_code 107 = .ok (.iaload, 1) := by decide +kernel
theorem d_MD_about_108 : decode prog_20_method_52_code 108 = .ok (.ireturn, 1) := by decide +kernel
theorem d_MD_about_109 : decode prog_20_method_52_code 109 = .ok (.iload_n 3, 1) := by decide +kernel
theorem d_MD_about_110 : decode prog_20_method_52_code 110 = .ok (.iconst 3, 1) := by decide +kernel
theorem d_MD_about_111 : decode prog_20_method_52_code 111 = .ok (.if_icmp .ge 35, 3) := by decide +kernel
theorem d_MD_about_114 : decode prog_20_method_52_code 114 = .ok (.iload 4, 2) := by decide +kernel
theorem d_MD_about_116 : decode prog_20_method_52_code 116 = .ok (.ifCond .ge 7, 3) := by decide +kernel
theorem d_MD_about_119 : decode prog_20_method_52_code 119 = .ok (.iconst 0, 1) := by decide +kernel
theorem d_MD_about_120 : decode prog_20_method_52_code 120 = .ok (.goto 25, 3) := by decide +kernel
theorem d_MD_about_123 : decode prog_20_method_52_code 123 = .ok (.iload_n 3, 1) := by decide +kernel
theorem d_MD_about_124 : decode prog_20_method_52_code 124 = .ok (.iconst 1, 1) := by decide +kernel
theorem d_MD_about_125 : decode prog_20_method_52_code 125 = .ok (.if_icmp .ne 13, 3) := by decide +kernel
theorem d_MD_about_128 : decode prog_20_method_52_code 128 = .ok (.aload_n 0, 1) := by decide +kernel
theorem d_MD_about_129 : decode prog_20_method_52_code 129 = .ok (.getfield 59, 3) := by decide +kernel
theorem d_MD_about_132 : decode prog_20_method_52_code 132 = .ok (.iload 4, 2) := by decide +kernel
theorem d_MD_about_134 : decode prog_20_method_52_code 134 = .ok (.iaload, 1) := by decide +kernel
theorem d_MD_about_135 : decode prog_20_method_52_code 135 = .ok (.goto 10, 3) := by decide +kernel
theorem d_MD_about_138 : decode prog_20_method_52_code 138 = .ok (.aload_n 0, 1) := by decide +kernel
theorem d_MD_about_139 : decode prog_20_method_52_code 139 = .ok (.getfield 62, 3) := by decide +kernel
theorem d_MD_about_142 : decode prog_20_method_52_code 142 = .ok (.iload 4, 2) := by decide +kernel
theorem d_MD_about_144 : decode prog_20_method_52_code 144 = .ok (.iaload, 1) := by decide +kernel
theorem d_MD_about_145 : decode prog_20_method_52_code 145 = .ok (.ireturn, 1) := by decide +kernel
theorem d_MD_about_146 : decode prog_20_method_52_code 146 = .ok (.iconst 0, 1) := by decide +kernel
theorem d_MD_about_147 : decode prog_20_method_52_code 147 = .ok (.istore 6, 2) := by decide +kernel
theorem d_MD_about_149 : decode prog_20_method_52_code 149 = .ok (.iconst 0, 1) := by decide +kernel
theorem d_MD_about_150 : decode prog_20_method_52_code 150 = .ok (.istore 7, 2) := by decide +kernel
theorem d_MD_about_152 : decode prog_20_method_52_code 152 = .ok (.iload 7, 2) := by decide +kernel
theorem d_MD_about_154 : decode prog_20_method_52_code 154 = .ok (.aload_n 0, 1) := by decide +kernel
theorem d_MD_about_155 : decode prog_20_method_52_code 155 = .ok (.getfield 108, 3) := by decide +kernel
theorem d_MD_about_158 : decode prog_20_method_52_code 158 = .ok (.if_icmp .ge 54, 3) := by decide +kernel
theorem d_MD_about_161 : decode prog_20_method_52_code 161 = .ok (.iload 5, 2) := by decide +kernel
theorem d_MD_about_163 : decode prog_20_method_52_code 163 = .ok (.ifCond .eq 49, 3) := by decide +kernel
theorem d_MD_about_166 : decode prog_20_method_52_code 166 = .ok (.aload_n 0, 1) := by decide +kernel
theorem d_MD_about_167 : decode prog_20_method_52_code 167 = .ok (.getfield 53, 3) := by decide +kernel
theorem d_MD_about_170 : decode prog_20_method_52_code 170 = .ok (.iload 7, 2) := by decide +kernel
theorem d_MD_about_172 : decode prog_20_method_52_code 172 = .ok (.iaload, 1) := by decide +kernel
theorem d_MD_about_173 : decode prog_20_method_52_code 173 = .ok (.iload_n 2, 1) := by decide +kernel
theorem d_MD_about_174 : decode prog_20_method_52_code 174 = .ok (.if_icmp .eq 28, 3) := by decide +kernel
theorem d_MD_about_177 : decode prog_20_method_52_code 177 = .ok (.aload_n 0, 1) := by decide +kernel
theorem d_MD_about_178 : decode prog_20_method_52_code 178 = .ok (.getfield 53, 3) := by decide +kernel
theorem d_MD_about_181 : decode prog_20_method_52_code 181 = .ok (.iload 7, 2) := by decide +kernel
theorem d_MD_about_183 : decode prog_20_method_52_code 183 = .ok (.iaload, 1) := by decide +kernel
theorem d_MD_about_184 : decode prog_20_method_52_code 184 = .ok (.iload_n 2, 1) := by decide +kernel
theorem d_MD_about_185 : decode prog_20_method_52_code 185 = .ok (.iload_n 2, 1) := by decide +kernel
theorem d_MD_about_186 : decode prog_20_method_52_code 186 = .ok (.invokestatic 132, 3) := by decide +kernel
theorem d_MD_about_189 : decode prog_20_method_52_code 189 = .ok (.invokestatic 135, 3) := by decide +kernel
theorem d_MD_about_192 : decode prog_20_method_52_code 192 = .ok (.ifCond .eq 10, 3) := by decide +kernel
theorem d_MD_about_195 : decode prog_20_method_52_code 195 = .ok (.iload 6, 2) := by decide +kernel
theorem d_MD_about_197 : decode prog_20_method_52_code 197 = .ok (.iconst 1, 1) := by decide +kernel
theorem d_MD_about_198 : decode prog_20_method_52_code 198 = .ok (.iadd, 1) := by decide +kernel
theorem d_MD_about_199 : decode prog_20_method_52_code 199 = .ok (.goto 5, 3) := by decide +kernel
theorem d_MD_about_202 : decode prog_20_method_52_code 202 = .ok (.iload 6, 2) := by decide +kernel
theorem d_MD_about_204 : decode prog_20_method_52_code 204 = .ok (.istore 6, 2) := by decide +kernel
theorem d_MD_about_206 : decode prog_20_method_52_code 206 = .ok (.iinc 7 1, 3) := by decide +kernel
theorem d_MD_about_209 : decode prog_20_method_52_code 209 = .ok (.goto (-57), 3) := by decide +kernel
theorem d_MD_about_212 : decode prog_20_method_52_code 212 = .ok (.iload 6, 2) := by decide +kernel
theorem d_MD_about_214 : decode prog_20_method_52_code 214 = .ok (.ireturn, 1) := by decide +kernel
theorem d_MD_count_0 : decode prog_20_method_53_code 0 = .ok (.aload_n 0, 1) := by decide +kernel
theorem d_MD_count_1 : decode prog_20_method_53_code 1 = .ok (.iload_n 1, 1) := by decide +kernel
theorem d_MD_count_2 : decode prog_20_method_53_code 2 = .ok (.ifCond .lt 8, 3) := by decide +kernel
theorem d_MD_count_5 : decode prog_20_method_53_code 5 = .ok (.iload_n 1, 1) := by decide +kernel
theorem d_MD_count_6 : decode prog_20_method_53_code 6 = .ok (.iconst 3, 1) := by decide +kernel
theorem d_MD_count_7 : decode prog_20_method_53_code 7 = .ok (.if_icmp .le 7, 3) := by decide +kernel
theorem d_MD_count_10 : decode prog_20_method_53_code 10 = .ok (.iconst 1, 1) := by decide +kernel
theorem d_MD_count_11 : decode prog_20_method_53_code 11 = .ok (.goto 4, 3) := by decide +kernel
theorem d_MD_count_14 : decode prog_20_method_53_code 14 = .ok (.iconst 0, 1) := by decide +kernel
theorem d_MD_count_15 : decode prog_20_method_53_code 15 = .ok (.putfield 101, 3) := by decide +kernel
theorem d_MD_count_18 : decode prog_20_method_53_code 18 = .ok (.aload_n 0, 1) := by decide +kernel
theorem d_MD_count_19 : decode prog_20_method_53_code 19 = .ok (.getfield 101, 3) := by decide +kernel
theorem d_MD_count_22 : decode prog_20_method_53_code 22 = .ok (.ifCond .le 5, 3) := by decide +kernel
theorem d_MD_count_25 : decode prog_20_method_53_code 25 = .ok (.iconst 0, 1) := by decide +kernel
theorem d_MD_count_26 : decode prog_20_method_53_code 26 = .ok (.ireturn, 1) := by decide +kernel
theorem d_MD_count_27 : decode prog_20_method_53_code 27 = .ok (.iconst 0, 1) := by decide +kernel
theorem d_MD_count_28 : decode prog_20_method_53_code 28 = .ok (.istore_n 2, 1) := by decide +kernel
theorem d_MD_count_29 : decode prog_20_method_53_code 29 = .ok (.iconst 0, 1) := by decide +kernel
theorem d_MD_count_30 : decode prog_20_method_53_code 30 = .ok (.istore_n 3, 1) := by decide +kernel
theorem d_MD_count_31 : decode prog_20_method_53_code 31 = .ok (.iload_n 3, 1) := by decide +kernel
theorem d_MD_count_32 : decode prog_20_method_53_code 32 = .ok (.bipush 16, 2) := by decide +kernel
theorem d_MD_count_34 : decode prog_20_method_53_code 34 = .ok (.if_icmp .ge 26, 3) := by decide +kernel
theorem d_MD_count_37 : decode prog_20_method_53_code 37 = .ok (.aload_n 0, 1) := by decide +kernel
theorem d_MD_count_38 : decode prog_20_method_53_code 38 = .ok (.getfield 41, 3) := by decide +kernel
theorem d_MD_count_41 : decode prog_20_method_53_code 41 = .ok (.iload_n 3, 1) := by decide +kernel
theorem d_MD_count_42 : decode prog_20_method_53_code 42 = .ok (.iaload, 1) := by decide +kernel
theorem d_MD_count_43 : decode prog_20_method_53_code 43 = .ok (.ifCond .lt 9, 3) := by decide +kernel
theorem d_MD_count_46 : decode prog_20_method_53_code 46 = .ok (.iload_n 2, 1) := by decide +kernel
theorem d_MD_count_47 : decode prog_20_method_53_code 47 = .ok (.iconst 1, 1) := by decide +kernel
theorem d_MD_count_48 : decode prog_20_method_53_code 48 = .ok (.iadd, 1) := by decide +kernel
theorem d_MD_count_49 : decode prog_20_method_53_code 49 = .ok (.goto 4, 3) := by decide +kernel
theorem d_MD_count_52 : decode prog_20_method_53_code 52 = .ok (.iload_n 2, 1) := by decide +kernel
theorem d_MD_count_53 : decode prog_20_method_53_code 53 = .ok (.istore_n 2, 1) := by decide +kernel
theorem d_MD_count_54 : decode prog_20_method_53_code 54 = .ok (.iinc 3 1, 3) := by decide +kernel
theorem d_MD_count_57 : decode prog_20_method_53_code 57 = .ok (.goto (-26), 3) := by decide +kernel
theorem d_MD_count_60 : decode prog_20_method_53_code 60 = .ok (.iload_n 1, 1) := by decide +kernel
theorem d_MD_count_61 : decode prog_20_method_53_code 61 = .ok (.ifCond .ne 10, 3) := by decide +kernel
theorem d_MD_count_64 : decode prog_20_method_53_code 64 = .ok (.aload_n 0, 1) := by decide +kernel
theorem d_MD_count_65 : decode prog_20_method_53_code 65 = .ok (.getfield 7, 3) := by decide +kernel
theorem d_MD_count_68 : decode prog_20_method_53_code 68 = .ok (.goto 44, 3) := by decide +kernel
theorem d_MD_count_71 : decode prog_20_method_53_code 71 = .ok (.iload_n 1, 1) := by decide +kernel
theorem d_MD_count_72 : decode prog_20_method_53_code 72 = .ok (.iconst 1, 1) := by decide +kernel
theorem d_MD_count_73 : decode prog_20_method_53_code 73 = .ok (.if_icmp .ne 10, 3) := by decide +kernel
theorem d_MD_count_76 : decode prog_20_method_53_code 76 = .ok (.aload_n 0, 1) := by decide +kernel
theorem d_MD_count_77 : decode prog_20_method_53_code 77 = .ok (.getfield 260, 3) := by decide +kernel
theorem d_MD_count_80 : decode prog_20_method_53_code 80 = .ok (.goto 32, 3) := by decide +kernel
theorem d_MD_count_83 : decode prog_20_method_53_code 83 = .ok (.iload_n 1, 1) := by decide +kernel
theorem d_MD_count_84 : decode prog_20_method_53_code 84 = .ok (.iconst 2, 1) := by decide +kernel
theorem d_MD_count_85 : decode prog_20_method_53_code 85 = .ok (.if_icmp .ne 7, 3) := by decide +kernel
theorem d_MD_count_88 : decode prog_20_method_53_code 88 = .ok (.iload_n 2, 1) := by decide +kernel
theorem d_MD_count_89 : decode prog_20_method_53_code 89 = .ok (.goto 23, 3) := by decide +kernel
theorem d_MD_count_92 : decode prog_20_method_53_code 92 = .ok (.aload_n 0, 1) := by decide +kernel
theorem d_MD_count_93 : decode prog_20_method_53_code 93 = .ok (.getfield 257, 3) := by decide +kernel
theorem d_MD_count_96 : decode prog_20_method_53_code 96 = .ok (.ifCond .eq 15, 3) := by decide +kernel
theorem d_MD_count_99 : decode prog_20_method_53_code 99 = .ok (.aload_n 0, 1) := by decide +kernel
theorem d_MD_count_100 : decode prog_20_method_53_code 100 = .ok (.getfield 35, 3) := by decide +kernel
theorem d_MD_count_103 : decode prog_20_method_53_code 103 = .ok (.aload_n 0, 1) := by decide +kernel
theorem d_MD_count_104 : decode prog_20_method_53_code 104 = .ok (.getfield 260, 3) := by decide +kernel
theorem d_MD_count_107 : decode prog_20_method_53_code 107 = .ok (.iaload, 1) := by decide +kernel
theorem d_MD_count_108 : decode prog_20_method_53_code 108 = .ok (.goto 4, 3) := by decide +kernel
theorem d_MD_count_111 : decode prog_20_method_53_code 111 = .ok (.iconst (-1), 1) := by decide +kernel
theorem d_MD_count_112 : decode prog_20_method_53_code 112 = .ok (.ireturn, 1) := by decide +kernel
theorem d_MD_isRecordHandle_0 : decode prog_20_method_54_code 0 = .ok (.iload_n 1, 1) := by decide +kernel
theorem d_MD_isRecordHandle_1 : decode prog_20_method_54_code 1 = .ok (.ifCond .lt 22, 3) := by decide +kernel
theorem d_MD_isRecordHandle_4 : decode prog_20_method_54_code 4 = .ok (.iload_n 1, 1) := by decide +kernel
theorem d_MD_isRecordHandle_5 : decode prog_20_method_54_code 5 = .ok (.bipush 16, 2) := by decide +kernel
theorem d_MD_isRecordHandle_7 : decode prog_20_method_54_code 7 = .ok (.if_icmp .ge 16, 3) := by decide +kernel
theorem d_MD_isRecordHandle_10 : decode prog_20_method_54_code 10 = .ok (.aload_n 0, 1) := by decide +kernel
theorem d_MD_isRecordHandle_11 : decode prog_20_method_54_code 11 = .ok (.getfield 41, 3) := by decide +kernel
theorem d_MD_isRecordHandle_14 : decode prog_20_method_54_code 14 = .ok (.iload_n 1, 1) := by decide +kernel
theorem d_MD_isRecordHandle_15 : decode prog_20_method_54_code 15 = .ok (.iaload, 1) := by decide +kernel
theorem d_MD_isRecordHandle_16 : decode prog_20_method_54_code 16 = .ok (.ifCond .lt 7, 3) := by decide +kernel
theorem d_MD_isRecordHandle_19 : decode prog_20_method_54_code 19 = .ok (.iconst 1, 1) := by decide +kernel
theorem d_MD_isRecordHandle_20 : decode prog_20_method_54_code 20 = .ok (.goto 4, 3) := by decide +kernel
theorem d_MD_isRecordHandle_23 : decode prog_20_method_54_code 23 = .ok (.iconst 0, 1) := by decide +kernel
theorem d_MD_isRecordHandle_24 : decode prog_20_method_54_code 24 = .ok (.ireturn, 1) := by decide +kernel
theorem d_MD_free_0 : decode prog_20_method_55_code 0 = .ok (.iconst 0, 1) := by decide +kernel
theorem d_MD_free_1 : decode prog_20_method_55_code 1 = .ok (.istore_n 1, 1) := by decide +kernel
theorem d_MD_free_2 : decode prog_20_method_55_code 2 = .ok (.iload_n 1, 1) := by decide +kernel
theorem d_MD_free_3 : decode prog_20_method_55_code 3 = .ok (.bipush 16, 2) := by decide +kernel
theorem d_MD_free_5 : decode prog_20_method_55_code 5 = .ok (.if_icmp .ge 20, 3) := by decide +kernel
theorem d_MD_free_8 : decode prog_20_method_55_code 8 = .ok (.aload_n 0, 1) := by decide +kernel
theorem d_MD_free_9 : decode prog_20_method_55_code 9 = .ok (.getfield 41, 3) := by decide +kernel
theorem d_MD_free_12 : decode prog_20_method_55_code 12 = .ok (.iload_n 1, 1) := by decide +kernel
theorem d_MD_free_13 : decode prog_20_method_55_code 13 = .ok (.iaload, 1) := by decide +kernel
theorem d_MD_free_14 : decode prog_20_method_55_code 14 = .ok (.ifCond .ge 5, 3) := by decide +kernel
theorem d_MD_free_17 : decode prog_20_method_55_code 17 = .ok (.iload_n 1, 1) := by decide +kernel
theorem d_MD_free_18 : decode prog_20_method_55_code 18 = .ok (.ireturn, 1) := by decide +kernel
theorem d_MD_free_19 : decode prog_20_method_55_code 19 = .ok (.iinc 1 1, 3) := by decide +kernel
theorem d_MD_free_22 : decode prog_20_method_55_code 22 = .ok (.goto (-20), 3) := by decide +kernel
theorem d_MD_free_25 : decode prog_20_method_55_code 25 = .ok (.iconst (-1), 1) := by decide +kernel
theorem d_MD_free_26 : decode prog_20_method_55_code 26 = .ok (.ireturn, 1) := by decide +kernel
theorem d_MD_record_0 : decode prog_20_method_56_code 0 = .ok (.aload_n 0, 1) := by decide +kernel
theorem d_MD_record_1 : decode prog_20_method_56_code 1 = .ok (.invokevirtual 280, 3) := by decide +kernel
theorem d_MD_record_4 : decode prog_20_method_56_code 4 = .ok (.istore_n 2, 1) := by decide +kernel
theorem d_MD_record_5 : decode prog_20_method_56_code 5 = .ok (.aload_n 0, 1) := by decide +kernel
theorem d_MD_record_6 : decode prog_20_method_56_code 6 = .ok (.aload_n 0, 1) := by decide +kernel
theorem d_MD_record_7 : decode prog_20_method_56_code 7 = .ok (.iload_n 1, 1) := by decide +kernel
theorem d_MD_record_8 : decode prog_20_method_56_code 8 = .ok (.invokevirtual 254, 3) := by decide +kernel
theorem d_MD_record_11 : decode prog_20_method_56_code 11 = .ok (.ifCond .ne 7, 3) := by decide +kernel
theorem d_MD_record_14 : decode prog_20_method_56_code 14 = .ok (.iconst 1, 1) := by decide +kernel
theorem d_MD_record_15 : decode prog_20_method_56_code 15 = .ok (.goto 12, 3) := by decide +kernel
theorem d_MD_record_18 : decode prog_20_method_56_code 18 = .ok (.iload_n 2, 1) := by decide +kernel
theorem d_MD_record_19 : decode prog_20_method_56_code 19 = .ok (.ifCond .ge 7, 3) := by decide +kernel
theorem d_MD_record_22 : decode prog_20_method_56_code 22 = .ok (.iconst 2, 1) := by decide +kernel
theorem d_MD_record_23 : decode prog_20_method_56_code 23 = .ok (.goto 4, 3) := by decide +kernel
theorem d_MD_record_26 : decode prog_20_method_56_code 26 = .ok (.iconst 0, 1) := by decide +kernel
theorem d_MD_record_27 : decode prog_20_method_56_code 27 = .ok (.putfield 101, 3) := by decide +kernel
theorem d_MD_record_30 : decode prog_20_method_56_code 30 = .ok (.aload_n 0, 1) := by decide +kernel
theorem d_MD_record_31 : decode prog_20_method_56_code 31 = .ok (.getfield 101, 3) := by decide +kernel
theorem d_MD_record_34 : decode prog_20_method_56_code 34 = .ok (.ifCond .le 5, 3) := by decide +kernel
theorem d_MD_record_37 : decode prog_20_method_56_code 37 = .ok (.iconst 0, 1) := by decide +kernel
theorem d_MD_record_38 : decode prog_20_method_56_code 38 = .ok (.ireturn, 1) := by decide +kernel
theorem d_MD_record_39 : decode prog_20_method_56_code 39 = .ok (.aload_n 0, 1) := by decide +kernel
theorem d_MD_record_40 : decode prog_20_method_56_code 40 = .ok (.iconst 1, 1) := by decide +kernel
theorem d_MD_record_41 : decode prog_20_method_56_code 41 = .ok (.putfield 234, 3) := by decide +kernel
theorem d_MD_record_44 : decode prog_20_method_56_code 44 = .ok (.aload_n 0, 1) := by decide +kernel
theorem d_MD_record_45 : decode prog_20_method_56_code 45 = .ok (.iconst 0, 1) := by decide +kernel
theorem d_MD_record_46 : decode prog_20_method_56_code 46 = .ok (.putfield 118, 3) := by decide +kernel
theorem d_MD_record_49 : decode prog_20_method_56_code 49 = .ok (.aload_n 0, 1) := by decide +kernel
theorem d_MD_record_50 : decode prog_20_method_56_code 50 = .ok (.iload_n 1, 1) := by decide +kernel
theorem d_MD_record_51 : decode prog_20_method_56_code 51 = .ok (.invokevirtual 237, 3) := by decide +kernel
theorem d_MD_record_54 : decode prog_20_method_56_code 54 = .ok (.aload_n 0, 1) := by decide +kernel
theorem d_MD_record_55 : decode prog_20_method_56_code 55 = .ok (.getfield 41, 3) := by decide +kernel
theorem d_MD_record_58 : decode prog_20_method_56_code 58 = .ok (.iload_n 2, 1) := by decide +kernel
theorem d_MD_record_59 : decode prog_20_method_56_code 59 = .ok (.iload_n 1, 1) := by decide +kernel
theorem d_MD_record_60 : decode prog_20_method_56_code 60 = .ok (.iastore, 1) := by decide +kernel
theorem d_MD_record_61 : decode prog_20_method_56_code 61 = .ok (.iconst 0, 1) := by decide +kernel
theorem d_MD_record_62 : decode prog_20_method_56_code 62 = .ok (.istore_n 3, 1) := by decide +kernel
theorem d_MD_record_63 : decode prog_20_method_56_code 63 = .ok (.iload_n 3, 1) := by decide +kernel
theorem d_MD_record_64 : decode prog_20_method_56_code 64 = .ok (.aload_n 0, 1) := by decide +kernel
theorem d_MD_record_65 : decode prog_20_method_56_code 65 = .ok (.getfield 108, 3) := by decide +kernel
theorem d_MD_record_68 : decode prog_20_method_56_code 68 = .ok (.if_icmp .ge 33, 3) := by decide +kernel
theorem d_MD_record_71 : decode prog_20_method_56_code 71 = .ok (.aload_n 0, 1) := by decide +kernel
theorem d_MD_record_72 : decode prog_20_method_56_code 72 = .ok (.getfield 65, 3) := by decide +kernel
theorem d_MD_record_75 : decode prog_20_method_56_code 75 = .ok (.bipush 7, 2) := by decide +kernel
theorem d_MD_record_77 : decode prog_20_method_56_code 77 = .ok (.iload_n 3, 1) := by decide +kernel
theorem d_MD_record_78 : decode prog_20_method_56_code 78 = .ok (.imul, 1) := by decide +kernel
theorem d_MD_record_79 : decode prog_20_method_56_code 79 = .ok (.aload_n 0, 1) := by decide +kernel
theorem d_MD_record_80 : decode prog_20_method_56_code 80 = .ok (.getfield 44, 3) := by decide +kernel
theorem d_MD_record_83 : decode prog_20_method_56_code 83 = .ok (.bipush 7, 2) := by decide +kernel
theorem d_MD_record_85 : decode prog_20_method_56_code 85 = .ok (.bipush 24, 2) := by decide +kernel
theorem d_MD_record_87 : decode prog_20_method_56_code 87 = .ok (.iload_n 2, 1) := by decide +kernel
theorem d_MD_record_88 : decode prog_20_method_56_code 88 = .ok (.imul, 1) := by decide +kernel
theorem d_MD_record_89 : decode prog_20_method_56_code 89 = .ok (.iload_n 3, 1) := by decide +kernel
theorem d_MD_record_90 : decode prog_20_method_56_code 90 = .ok (.iadd, 1) := by decide +kernel
theorem d_MD_record_91 : decode prog_20_method_56_code 91 = .ok (.imul, 1) := by decide +kernel
theorem d_MD_record_92 : decode prog_20_method_56_code 92 = .ok (.invokestatic 128, 3) := by decide +kernel
theorem d_MD_record_95 : decode prog_20_method_56_code 95 = .ok (.iinc 3 1, 3) := by decide +kernel
theorem d_MD_record_98 : decode prog_20_method_56_code 98 = .ok (.goto (-35), 3) := by decide +kernel
theorem d_MD_record_101 : decode prog_20_method_56_code 101 = .ok (.iconst 0, 1) := by decide +kernel
theorem d_MD_record_102 : decode prog_20_method_56_code 102 = .ok (.istore_n 3, 1) := by decide +kernel
theorem d_MD_record_103 : decode prog_20_method_56_code 103 = .ok (.iload_n 3, 1) := by decide +kernel
theorem d_MD_record_104 : decode prog_20_method_56_code 104 = .ok (.sipush 128, 3) := by decide +kernel
theorem d_MD_record_107 : decode prog_20_method_56_code 107 = .ok (.if_icmp .ge 22, 3) := by decide +kernel
theorem d_MD_record_110 : decode prog_20_method_56_code 110 = .ok (.aload_n 0, 1) := by decide +kernel
theorem d_MD_record_111 : decode prog_20_method_56_code 111 = .ok (.getfield 47, 3) := by decide +kernel
theorem d_MD_record_114 : decode prog_20_method_56_code 114 = .ok (.sipush 128, 3) := by decide +kernel
theorem d_MD_record_117 : decode prog_20_method_56_code 117 = .ok (.iload_n 2, 1) := by decide +kernel
theorem d_MD_record_118 : decode prog_20_method_56_code 118 = .ok (.imul, 1) := by decide +kernel
theorem d_MD_record_119 : decode prog_20_method_56_code 119 = .ok (.iload_n 3, 1) := by decide +kernel
theorem d_MD_record_120 : decode prog_20_method_56_code 120 = .ok (.iadd, 1) := by decide +kernel
theorem d_MD_record_121 : decode prog_20_method_56_code 121 = .ok (.iconst 0, 1) := by decide +kernel
theorem d_MD_record_122 : decode prog_20_method_56_code 122 = .ok (.iastore, 1) := by decide +kernel
theorem d_MD_record_123 : decode prog_20_method_56_code 123 = .ok (.iinc 3 1, 3) := by decide +kernel
theorem d_MD_record_126 : decode prog_20_method_56_code 126 = .ok (.goto (-23), 3) := by decide +kernel
theorem d_MD_record_129 : decode prog_20_method_56_code 129 = .ok (.iload_n 2, 1) := by decide +kernel
theorem d_MD_record_130 : decode prog_20_method_56_code 130 = .ok (.ireturn, 1) := by decide +kernel
theorem d_MD_copy_0 : decode prog_20_method_57_code 0 = .ok (.aload_n 0, 1) := by decide +kernel
theorem d_MD_copy_1 : decode prog_20_method_57_code 1 = .ok (.invokevirtual 280, 3) := by decide +kernel
theorem d_MD_copy_4 : decode prog_20_method_57_code 4 = .ok (.istore_n 2, 1) := by decide +kernel
theorem d_MD_copy_5 : decode prog_20_method_57_code 5 = .ok (.aload_n 0, 1) := by decide +kernel
theorem d_MD_copy_6 : decode prog_20_method_57_code 6 = .ok (.aload_n 0, 1) := by decide +kernel
theorem d_MD_copy_7 : decode prog_20_method_57_code 7 = .ok (.iload_n 1, 1) := by decide +kernel
theorem d_MD_copy_8 : decode prog_20_method_57_code 8 = .ok (.invokevirtual 284, 3) := by decide +kernel
theorem d_MD_copy_11 : decode prog_20_method_57_code 11 = .ok (.ifCond .ne 7, 3) := by decide +kernel
theorem d_MD_copy_14 : decode prog_20_method_57_code 14 = .ok (.iconst 1, 1) := by decide +kernel
theorem d_MD_copy_15 : decode prog_20_method_57_code 15 = .ok (.goto 12, 3) := by decide +kernel
theorem d_MD_copy_18 : decode prog_20_method_57_code 18 = .ok (.iload_n 2, 1) := by decide +kernel
theorem d_MD_copy_19 : decode prog_20_method_57_code 19 = .ok (.ifCond .ge 7, 3) := by decide +kernel
theorem d_MD_copy_22 : decode prog_20_method_57_code 22 = .ok (.iconst 2, 1) := by decide +kernel
theorem d_MD_copy_23 : decode prog_20_method_57_code 23 = .ok (.goto 4, 3) := by decide +kernel
theorem d_MD_copy_26 : decode prog_20_method_57_code 26 = .ok (.iconst 0, 1) := by decide +kernel
theorem d_MD_copy_27 : decode prog_20_method_57_code 27 = .ok (.putfield 101, 3) := by decide +kernel
theorem d_MD_copy_30 : decode prog_20_method_57_code 30 = .ok (.aload_n 0, 1) := by decide +kernel
theorem d_MD_copy_31 : decode prog_20_method_57_code 31 = .ok (.getfield 101, 3) := by decide +kernel
theorem d_MD_copy_34 : decode prog_20_method_57_code 34 = .ok (.ifCond .le 5, 3) := by decide +kernel
theorem d_MD_copy_37 : decode prog_20_method_57_code 37 = .ok (.iconst 0, 1) := by decide +kernel
theorem d_MD_copy_38 : decode prog_20_method_57_code 38 = .ok (.ireturn, 1) := by decide +kernel
theorem d_MD_copy_39 : decode prog_20_method_57_code 39 = .ok (.aload_n 0, 1) := by decide +kernel
theorem d_MD_copy_40 : decode prog_20_method_57_code 40 = .ok (.getfield 41, 3) := by decide +kernel
theorem d_MD_copy_43 : decode prog_20_method_57_code 43 = .ok (.iload_n 2, 1) := by decide +kernel
theorem d_MD_copy_44 : decode prog_20_method_57_code 44 = .ok (.aload_n 0, 1) := by decide +kernel
theorem d_MD_copy_45 : decode prog_20_method_57_code 45 = .ok (.getfield 41, 3) := by decide +kernel
theorem d_MD_copy_48 : decode prog_20_method_57_code 48 = .ok (.iload_n 1, 1) := by decide +kernel
theorem d_MD_copy_49 : decode prog_20_method_57_code 49 = .ok (.iaload, 1) := by decide +kernel
theorem d_MD_copy_50 : decode prog_20_method_57_code 50 = .ok (.iastore, 1) := by decide +kernel
theorem d_MD_copy_51 : decode prog_20_method_57_code 51 = .ok (.iconst 0, 1) := by decide +kernel
theorem d_MD_copy_52 : decode prog_20_method_57_code 52 = .ok (.istore_n 3, 1) := by decide +kernel
theorem d_MD_copy_53 : decode prog_20_method_57_code 53 = .ok (.iload_n 3, 1) := by decide +kernel
theorem d_MD_copy_54 : decode prog_20_method_57_code 54 = .ok (.sipush 168, 3) := by decide +kernel
theorem d_MD_copy_57 : decode prog_20_method_57_code 57 = .ok (.if_icmp .ge 33, 3) := by decide +kernel
theorem d_MD_copy_60 : decode prog_20_method_57_code 60 = .ok (.aload_n 0, 1) := by decide +kernel
theorem d_MD_copy_61 : decode prog_20_method_57_code 61 = .ok (.getfield 44, 3) := by decide +kernel
theorem d_MD_copy_64 : decode prog_20_method_57_code 64 = .ok (.sipush 168, 3) := by decide +kernel
theorem d_MD_copy_67 : decode prog_20_method_57_code 67 = .ok (.iload_n 2, 1) := by decide +kernel
theorem d_MD_copy_68 : decode prog_20_method_57_code 68 = .ok (.imul, 1) := by decide +kernel
theorem d_MD_copy_69 : decode prog_20_method_57_code 69 = .ok (.iload_n 3, 1) := by decide +kernel
theorem d_MD_copy_70 : decode prog_20_method_57_code 70 = .ok (.iadd, 1) := by decide +kernel
theorem d_MD_copy_71 : decode prog_20_method_57_code 71 = .ok (.aload_n 0, 1) := by decide +kernel
theorem d_MD_copy_72 : decode prog_20_method_57_code 72 = .ok (.getfield 44, 3) := by decide +kernel
theorem d_MD_copy_75 : decode prog_20_method_57_code 75 = .ok (.sipush 168, 3) := by decide +kernel
theorem d_MD_copy_78 : decode prog_20_method_57_code 78 = .ok (.iload_n 1, 1) := by decide +kernel
theorem d_MD_copy_79 : decode prog_20_method_57_code 79 = .ok (.imul, 1) := by decide +kernel
theorem d_MD_copy_80 : decode prog_20_method_57_code 80 = .ok (.iload_n 3, 1) := by decide +kernel
theorem d_MD_copy_81 : decode prog_20_method_57_code 81 = .ok (.iadd, 1) := by decide +kernel
theorem d_MD_copy_82 : decode prog_20_method_57_code 82 = .ok (.iaload, 1) := by decide +kernel
theorem d_MD_copy_83 : decode prog_20_method_57_code 83 = .ok (.iastore, 1) := by decide +kernel
theorem d_MD_copy_84 : decode prog_20_method_57_code 84 = .ok (.iinc 3 1, 3) := by decide +kernel
theorem d_MD_copy_87 : decode prog_20_method_57_code 87 = .ok (.goto (-34), 3) := by decide +kernel
theorem d_MD_copy_90 : decode prog_20_method_57_code 90 = .ok (.sipush 128, 3) := by decide +kernel
theorem d_MD_copy_93 : decode prog_20_method_57_code 93 = .ok (.istore_n 3, 1) := by decide +kernel
theorem d_MD_copy_94 : decode prog_20_method_57_code 94 = .ok (.iconst 0, 1) := by decide +kernel
theorem d_MD_copy_95 : decode prog_20_method_57_code 95 = .ok (.istore 4, 2) := by decide +kernel
theorem d_MD_copy_97 : decode prog_20_method_57_code 97 = .ok (.iload 4, 2) := by decide +kernel
theorem d_MD_copy_99 : decode prog_20_method_57_code 99 = .ok (.iload_n 3, 1) := by decide +kernel
theorem d_MD_copy_100 : decode prog_20_method_57_code 100 = .ok (.if_icmp .ge 31, 3) := by decide +kernel
theorem d_MD_copy_103 : decode prog_20_method_57_code 103 = .ok (.aload_n 0, 1) := by decide +kernel
theorem d_MD_copy_104 : decode prog_20_method_57_code 104 = .ok (.getfield 47, 3) := by decide +kernel
theorem d_MD_copy_107 : decode prog_20_method_57_code 107 = .ok (.iload_n 3, 1) := by decide +kernel
theorem d_MD_copy_108 : decode prog_20_method_57_code 108 = .ok (.iload_n 2, 1) := by decide +kernel
theorem d_MD_copy_109 : decode prog_20_method_57_code 109 = .ok (.imul, 1) := by decide +kernel
theorem d_MD_copy_110 : decode prog_20_method_57_code 110 = .ok (.iload 4, 2) := by decide +kernel
theorem d_MD_copy_112 : decode prog_20_method_57_code 112 = .ok (.iadd, 1) := by decide +kernel
theorem d_MD_copy_113 : decode prog_20_method_57_code 113 = .ok (.aload_n 0, 1) := by decide +kernel
theorem d_MD_copy_114 : decode prog_20_method_57_code 114 = .ok (.getfield 47, 3) := by decide +kernel
theorem d_MD_copy_117 : decode prog_20_method_57_code 117 = .ok (.iload_n 3, 1) := by decide +kernel
theorem d_MD_copy_118 : decode prog_20_method_57_code 118 = .ok (.iload_n 1, 1) := by decide +kernel
theorem d_MD_copy_119 : decode prog_20_method_57_code 119 = .ok (.imul, 1) := by decide +kernel
theorem d_MD_copy_120 : decode prog_20_method_57_code 120 = .ok (.iload 4, 2) := by decide +kernel
theorem d_MD_copy_122 : decode prog_20_method_57_code 122 = .ok (.iadd, 1) := by decide +kernel
theorem d_MD_copy_123 : decode prog_20_method_57_code 123 = .ok (.iaload, 1) := by decide +kernel
theorem d_MD_copy_124 : decode prog_20_method_57_code 124 = .ok (.iastore, 1) := by decide +kernel
theorem d_MD_copy_125 : decode prog_20_method_57_code 125 = .ok (.iinc 4 1, 3) := by decide +kernel
theorem d_MD_copy_128 : decode prog_20_method_57_code 128 = .ok (.goto (-31), 3) := by decide +kernel
theorem d_MD_copy_131 : decode prog_20_method_57_code 131 = .ok (.iconst 0, 1) := by decide +kernel
theorem d_MD_copy_132 : decode prog_20_method_57_code 132 = .ok (.istore 4, 2) := by decide +kernel
theorem d_MD_copy_134 : decode prog_20_method_57_code 134 = .ok (.iload 4, 2) := by decide +kernel
theorem d_MD_copy_136 : decode prog_20_method_57_code 136 = .ok (.bipush 14, 2) := by decide +kernel
theorem d_MD_copy_138 : decode prog_20_method_57_code 138 = .ok (.iload_n 3, 1) := by decide +kernel
theorem d_MD_copy_139 : decode prog_20_method_57_code 139 = .ok (.imul, 1) := by decide +kernel
theorem d_MD_copy_140 : decode prog_20_method_57_code 140 = .ok (.if_icmp .ge 37, 3) := by decide +kernel
theorem d_MD_copy_143 : decode prog_20_method_57_code 143 = .ok (.aload_n 0, 1) := by decide +kernel
theorem d_MD_copy_144 : decode prog_20_method_57_code 144 = .ok (.getfield 50, 3) := by decide +kernel
theorem d_MD_copy_147 : decode prog_20_method_57_code 147 = .ok (.bipush 14, 2) := by decide +kernel
theorem d_MD_copy_149 : decode prog_20_method_57_code 149 = .ok (.iload_n 3, 1) := by decide +kernel
theorem d_MD_copy_150 : decode prog_20_method_57_code 150 = .ok (.imul, 1) := by decide +kernel
theorem d_MD_copy_151 : decode prog_20_method_57_code 151 = .ok (.iload_n 2, 1) := by decide +kernel
theorem d_MD_copy_152 : decode prog_20_method_57_code 152 = .ok (.imul, 1) := by decide +kernel
theorem d_MD_copy_153 : decode prog_20_method_57_code 153 = .ok (.iload 4, 2) := by decide +kernel
theorem d_MD_copy_155 : decode prog_20_method_57_code 155 = .ok (.iadd, 1) := by decide +kernel
theorem d_MD_copy_156 : decode prog_20_method_57_code 156 = .ok (.aload_n 0, 1) := by decide +kernel
theorem d_MD_copy_157 : decode prog_20_method_57_code 157 = .ok (.getfield 50, 3) := by decide +kernel
theorem d_MD_copy_160 : decode prog_20_method_57_code 160 = .ok (.bipush 14, 2) := by decide +kernel
theorem d_MD_copy_162 : decode prog_20_method_57_code 162 = .ok (.iload_n 3, 1) := by decide +kernel
theorem d_MD_copy_163 : decode prog_20_method_57_code 163 = .ok (.imul, 1) := by decide +kernel
theorem d_MD_copy_164 : decode prog_20_method_57_code 164 = .ok (.iload_n 1, 1) := by decide +kernel
theorem d_MD_copy_165 : decode prog_20_method_57_code 165 = .ok (.imul, 1) := by decide +kernel
theorem d_MD_copy_166 : decode prog_20_method_57_code 166 = .ok (.iload 4, 2) := by decide +kernel
theorem d_MD_copy_168 : decode prog_20_method_57_code 168 = .ok (.iadd, 1) := by decide +kernel
theorem d_MD_copy_169 : decode prog_20_method_57_code 169 = .ok (.iaload, 1) := by decide +kernel
theorem d_MD_copy_170 : decode prog_20_method_57_code 170 = .ok (.iastore, 1) := by decide +kernel
theorem d_MD_copy_171 : decode prog_20_method_57_code 171 = .ok (.iinc 4 1, 3) := by decide +kernel
theorem d_MD_copy_174 : decode prog_20_method_57_code 174 = .ok (.goto (-40), 3) := by decide +kernel
theorem d_MD_copy_177 : decode prog_20_method_57_code 177 = .ok (.iload_n 2, 1) := by decide +kernel
theorem d_MD_copy_178 : decode prog_20_method_57_code 178 = .ok (.ireturn, 1) := by decide +kernel
theorem d_MD_drop_0 : decode prog_20_method_58_code 0 = .ok (.aload_n 0, 1) := by decide +kernel
theorem d_MD_drop_1 : decode prog_20_method_58_code 1 = .ok (.aload_n 0, 1) := by decide +kernel
theorem d_MD_drop_2 : decode prog_20_method_58_code 2 = .ok (.iload_n 1, 1) := by decide +kernel
theorem d_MD_drop_3 : decode prog_20_method_58_code 3 = .ok (.invokevirtual 284, 3) := by decide +kernel
theorem d_MD_drop_6 : decode prog_20_method_58_code 6 = .ok (.ifCond .eq 7, 3) := by decide +kernel
theorem d_MD_drop_9 : decode prog_20_method_58_code 9 = .ok (.iconst 0, 1) := by decide +kernel
theorem d_MD_drop_10 : decode prog_20_method_58_code 10 = .ok (.goto 4, 3) := by decide +kernel
theorem d_MD_drop_13 : decode prog_20_method_58_code 13 = .ok (.iconst 1, 1) := by decide +kernel
theorem d_MD_drop_14 : decode prog_20_method_58_code 14 = .ok (.putfield 101, 3) := by decide +kernel
theorem d_MD_drop_17 : decode prog_20_method_58_code 17 = .ok (.aload_n 0, 1) := by decide +kernel
theorem d_MD_drop_18 : decode prog_20_method_58_code 18 = .ok (.getfield 101, 3) := by decide +kernel
theorem d_MD_drop_21 : decode prog_20_method_58_code 21 = .ok (.ifCond .ne 10, 3) := by decide +kernel
theorem d_MD_drop_24 : decode prog_20_method_58_code 24 = .ok (.aload_n 0, 1) := by decide +kernel
theorem d_MD_drop_25 : decode prog_20_method_58_code 25 = .ok (.getfield 41, 3) := by decide +kernel
theorem d_MD_drop_28 : decode prog_20_method_58_code 28 = .ok (.iload_n 1, 1) := by decide +kernel
theorem d_MD_drop_29 : decode prog_20_method_58_code 29 = .ok (.iconst (-1), 1) := by decide +kernel
theorem d_MD_drop_30 : decode prog_20_method_58_code 30 = .ok (.iastore, 1) := by decide +kernel
theorem d_MD_drop_31 : decode prog_20_method_58_code 31 = .ok (.return_, 1) := by decide +kernel
theorem d_MD_fieldOf_0 : decode prog_20_method_59_code 0 = .ok (.aload_n 0, 1) := by decide +kernel
theorem d_MD_fieldOf_1 : decode prog_20_method_59_code 1 = .ok (.getfield 41, 3) := by decide +kernel
theorem d_MD_fieldOf_4 : decode prog_20_method_59_code 4 = .ok (.iload_n 1, 1) := by decide +kernel
theorem d_MD_fieldOf_5 : decode prog_20_method_59_code 5 = .ok (.iaload, 1) := by decide +kernel
theorem d_MD_fieldOf_6 : decode prog_20_method_59_code 6 = .ok (.istore 4, 2) := by decide +kernel
theorem d_MD_fieldOf_8 : decode prog_20_method_59_code 8 = .ok (.iconst 0, 1) := by decide +kernel
theorem d_MD_fieldOf_9 : decode prog_20_method_59_code 9 = .ok (.istore 5, 2) := by decide +kernel
theorem d_MD_fieldOf_11 : decode prog_20_method_59_code 11 = .ok (.iload 5, 2) := by decide +kernel
theorem d_MD_fieldOf_13 : decode prog_20_method_59_code 13 = .ok (.aload_n 0, 1) := by decide +kernel
theorem d_MD_fieldOf_14 : decode prog_20_method_59_code 14 = .ok (.getfield 13, 3) := by decide +kernel
theorem d_MD_fieldOf_17 : decode prog_20_method_59_code 17 = .ok (.iload 4, 2) := by decide +kernel
theorem d_MD_fieldOf_19 : decode prog_20_method_59_code 19 = .ok (.iaload, 1) := by decide +kernel
theorem d_MD_fieldOf_20 : decode prog_20_method_59_code 20 = .ok (.if_icmp .ge 46, 3) := by decide +kernel
theorem d_MD_fieldOf_23 : decode prog_20_method_59_code 23 = .ok (.aload_n 0, 1) := by decide +kernel
theorem d_MD_fieldOf_24 : decode prog_20_method_59_code 24 = .ok (.getfield 17, 3) := by decide +kernel
theorem d_MD_fieldOf_27 : decode prog_20_method_59_code 27 = .ok (.bipush 24, 2) := by decide +kernel
theorem d_MD_fieldOf_29 : decode prog_20_method_59_code 29 = .ok (.iload 4, 2) := by decide +kernel
theorem d_MD_fieldOf_31 : decode prog_20_method_59_code 31 = .ok (.imul, 1) := by decide +kernel
theorem d_MD_fieldOf_32 : decode prog_20_method_59_code 32 = .ok (.iload 5, 2) := by decide +kernel
theorem d_MD_fieldOf_34 : decode prog_20_method_59_code 34 = .ok (.iadd, 1) := by decide +kernel
theorem d_MD_fieldOf_35 : decode prog_20_method_59_code 35 = .ok (.iaload, 1) := by decide +kernel
theorem d_MD_fieldOf_36 : decode prog_20_method_59_code 36 = .ok (.iload_n 2, 1) := by decide +kernel
theorem d_MD_fieldOf_37 : decode prog_20_method_59_code 37 = .ok (.if_icmp .ne 23, 3) := by decide +kernel
theorem d_MD_fieldOf_40 : decode prog_20_method_59_code 40 = .ok (.aload_n 0, 1) := by decide +kernel
theorem d_MD_fieldOf_41 : decode prog_20_method_59_code 41 = .ok (.getfield 20, 3) := by decide +kernel
theorem d_MD_fieldOf_44 : decode prog_20_method_59_code 44 = .ok (.bipush 24, 2) := by decide +kernel
theorem d_MD_fieldOf_46 : decode prog_20_method_59_code 46 = .ok (.iload 4, 2) := by decide +kernel
theorem d_MD_fieldOf_48 : decode prog_20_method_59_code 48 = .ok (.imul, 1) := by decide +kernel
theorem d_MD_fieldOf_49 : decode prog_20_method_59_code 49 = .ok (.iload 5, 2) := by decide +kernel
theorem d_MD_fieldOf_51 : decode prog_20_method_59_code 51 = .ok (.iadd, 1) := by decide +kernel
theorem d_MD_fieldOf_52 : decode prog_20_method_59_code 52 = .ok (.iaload, 1) := by decide +kernel
theorem d_MD_fieldOf_53 : decode prog_20_method_59_code 53 = .ok (.iload_n 3, 1) := by decide +kernel
theorem d_MD_fieldOf_54 : decode prog_20_method_59_code 54 = .ok (.if_icmp .ne 6, 3) := by decide +kernel
theorem d_MD_fieldOf_57 : decode prog_20_method_59_code 57 = .ok (.iload 5, 2) := by decide +kernel
theorem d_MD_fieldOf_59 : decode prog_20_method_59_code 59 = .ok (.ireturn, 1) := by decide +kernel
theorem d_MD_fieldOf_60 : decode prog_20_method_59_code 60 = .ok (.iinc 5 1, 3) := by decide +kernel
theorem d_MD_fieldOf_63 : decode prog_20_method_59_code 63 = .ok (.goto (-52), 3) := by decide +kernel
theorem d_MD_fieldOf_66 : decode prog_20_method_59_code 66 = .ok (.iconst (-1), 1) := by decide +kernel
theorem d_MD_fieldOf_67 : decode prog_20_method_59_code 67 = .ok (.ireturn, 1) := by decide +kernel
theorem d_MD_fits_0 : decode prog_20_method_60_code 0 = .ok (.aload_n 0, 1) := by decide +kernel
theorem d_MD_fits_1 : decode prog_20_method_60_code 1 = .ok (.getfield 41, 3) := by decide +kernel
theorem d_MD_fits_4 : decode prog_20_method_60_code 4 = .ok (.iload_n 1, 1) := by decide +kernel
theorem d_MD_fits_5 : decode prog_20_method_60_code 5 = .ok (.iaload, 1) := by decide +kernel
theorem d_MD_fits_6 : decode prog_20_method_60_code 6 = .ok (.istore 4, 2) := by decide +kernel
theorem d_MD_fits_8 : decode prog_20_method_60_code 8 = .ok (.iload_n 3, 1) := by decide +kernel
theorem d_MD_fits_9 : decode prog_20_method_60_code 9 = .ok (.aload_n 0, 1) := by decide +kernel
theorem d_MD_fits_10 : decode prog_20_method_60_code 10 = .ok (.getfield 23, 3) := by decide +kernel
theorem d_MD_fits_13 : decode prog_20_method_60_code 13 = .ok (.bipush 24, 2) := by decide +kernel
theorem d_MD_fits_15 : decode prog_20_method_60_code 15 = .ok (.iload 4, 2) := by decide +kernel
theorem d_MD_fits_17 : decode prog_20_method_60_code 17 = .ok (.imul, 1) := by decide +kernel
theorem d_MD_fits_18 : decode prog_20_method_60_code 18 = .ok (.iload_n 2, 1) := by decide +kernel
theorem d_MD_fits_19 : decode prog_20_method_60_code 19 = .ok (.iadd, 1) := by decide +kernel
theorem d_MD_fits_20 : decode prog_20_method_60_code 20 = .ok (.iaload, 1) := by decide +kernel
theorem d_MD_fits_21 : decode prog_20_method_60_code 21 = .ok (.if_icmp .lt 23, 3) := by decide +kernel
theorem d_MD_fits_24 : decode prog_20_method_60_code 24 = .ok (.iload_n 3, 1) := by decide +kernel
theorem d_MD_fits_25 : decode prog_20_method_60_code 25 = .ok (.aload_n 0, 1) := by decide +kernel
theorem d_MD_fits_26 : decode prog_20_method_60_code 26 = .ok (.getfield 26, 3) := by decide +kernel
theorem d_MD_fits_29 : decode prog_20_method_60_code 29 = .ok (.bipush 24, 2) := by decide +kernel
theorem d_MD_fits_31 : decode prog_20_method_60_code 31 = .ok (.iload 4, 2) := by decide +kernel
theorem d_MD_fits_33 : decode prog_20_method_60_code 33 = .ok (.imul, 1) := by decide +kernel
theorem d_MD_fits_34 : decode prog_20_method_60_code 34 = .ok (.iload_n 2, 1) := by decide +kernel
theorem d_MD_fits_35 : decode prog_20_method_60_code 35 = .ok (.iadd, 1) := by decide +kernel
theorem d_MD_fits_36 : decode prog_20_method_60_code 36 = .ok (.iaload, 1) := by decide +kernel
theorem d_MD_fits_37 : decode prog_20_method_60_code 37 = .ok (.if_icmp .gt 7, 3) := by decide +kernel
theorem d_MD_fits_40 : decode prog_20_method_60_code 40 = .ok (.iconst 1, 1) := by decide +kernel
theorem d_MD_fits_41 : decode prog_20_method_60_code 41 = .ok (.goto 4, 3) := by decide +kernel
theorem d_MD_fits_44 : decode prog_20_method_60_code 44 = .ok (.iconst 0, 1) := by decide +kernel
theorem d_MD_fits_45 : decode prog_20_method_60_code 45 = .ok (.ireturn, 1) := by decide +kernel
theorem d_MD_rowOf_0 : decode prog_20_method_61_code 0 = .ok (.bipush 7, 2) := by decide +kernel
theorem d_MD_rowOf_2 : decode prog_20_method_61_code 2 = .ok (.bipush 24, 2) := by decide +kernel
theorem d_MD_rowOf_4 : decode prog_20_method_61_code 4 = .ok (.iload_n 1, 1) := by decide +kernel
theorem d_MD_rowOf_5 : decode prog_20_method_61_code 5 = .ok (.imul, 1) := by decide +kernel
theorem d_MD_rowOf_6 : decode prog_20_method_61_code 6 = .ok (.iload_n 2, 1) := by decide +kernel
theorem d_MD_rowOf_7 : decode prog_20_method_61_code 7 = .ok (.iadd, 1) := by decide +kernel
theorem d_MD_rowOf_8 : decode prog_20_method_61_code 8 = .ok (.imul, 1) := by decide +kernel
theorem d_MD_rowOf_9 : decode prog_20_method_61_code 9 = .ok (.ireturn, 1) := by decide +kernel
theorem d_MD_set_0 : decode prog_20_method_62_code 0 = .ok (.aload_n 0, 1) := by decide +kernel
theorem d_MD_set_1 : decode prog_20_method_62_code 1 = .ok (.iload_n 1, 1) := by decide +kernel
theorem d_MD_set_2 : decode prog_20_method_62_code 2 = .ok (.invokevirtual 284, 3) := by decide +kernel
theorem d_MD_set_5 : decode prog_20_method_62_code 5 = .ok (.ifCond .eq 13, 3) := by decide +kernel
theorem d_MD_set_8 : decode prog_20_method_62_code 8 = .ok (.aload_n 0, 1) := by decide +kernel
theorem d_MD_set_9 : decode prog_20_method_62_code 9 = .ok (.iload_n 1, 1) := by decide +kernel
theorem d_MD_set_10 : decode prog_20_method_62_code 10 = .ok (.iload_n 2, 1) := by decide +kernel
theorem d_MD_set_11 : decode prog_20_method_62_code 11 = .ok (.iconst 0, 1) := by decide +kernel
theorem d_MD_set_12 : decode prog_20_method_62_code 12 = .ok (.invokevirtual 287, 3) := by decide +kernel
theorem d_MD_set_15 : decode prog_20_method_62_code 15 = .ok (.goto 4, 3) := by decide +kernel
theorem d_MD_set_18 : decode prog_20_method_62_code 18 = .ok (.iconst (-1), 1) := by decide +kernel
theorem d_MD_set_19 : decode prog_20_method_62_code 19 = .ok (.istore 4, 2) := by decide +kernel
theorem d_MD_set_21 : decode prog_20_method_62_code 21 = .ok (.aload_n 0, 1) := by decide +kernel
theorem d_MD_set_22 : decode prog_20_method_62_code 22 = .ok (.aload_n 0, 1) := by decide +kernel
theorem d_MD_set_23 : decode prog_20_method_62_code 23 = .ok (.iload_n 1, 1) := by decide +kernel
theorem d_MD_set_24 : decode prog_20_method_62_code 24 = .ok (.invokevirtual 284, 3) := by decide +kernel
theorem d_MD_set_27 : decode prog_20_method_62_code 27 = .ok (.ifCond .ne 7, 3) := by decide +kernel
theorem d_MD_set_30 : decode prog_20_method_62_code 30 = .ok (.iconst 1, 1) := by decide +kernel
theorem d_MD_set_31 : decode prog_20_method_62_code 31 = .ok (.goto 24, 3) := by decide +kernel
theorem d_MD_set_34 : decode prog_20_method_62_code 34 = .ok (.iload 4, 2) := by decide +kernel
theorem d_MD_set_36 : decode prog_20_method_62_code 36 = .ok (.ifCond .lt 14, 3) := by decide +kernel
theorem d_MD_set_39 : decode prog_20_method_62_code 39 = .ok (.aload_n 0, 1) := by decide +kernel
theorem d_MD_set_40 : decode prog_20_method_62_code 40 = .ok (.iload_n 1, 1) := by decide +kernel
theorem d_MD_set_41 : decode prog_20_method_62_code 41 = .ok (.iload 4, 2) := by decide +kernel
theorem d_MD_set_43 : decode prog_20_method_62_code 43 = .ok (.iload_n 3, 1) := by decide +kernel
theorem d_MD_set_44 : decode prog_20_method_62_code 44 = .ok (.invokevirtual 290, 3) := by decide +kernel
theorem d_MD_set_47 : decode prog_20_method_62_code 47 = .ok (.ifCond .ne 7, 3) := by decide +kernel
theorem d_MD_set_50 : decode prog_20_method_62_code 50 = .ok (.iconst 2, 1) := by decide +kernel
theorem d_MD_set_51 : decode prog_20_method_62_code 51 = .ok (.goto 4, 3) := by decide +kernel
theorem d_MD_set_54 : decode prog_20_method_62_code 54 = .ok (.iconst 0, 1) := by decide +kernel
theorem d_MD_set_55 : decode prog_20_method_62_code 55 = .ok (.putfield 101, 3) := by decide +kernel
theorem d_MD_set_58 : decode prog_20_method_62_code 58 = .ok (.aload_n 0, 1) := by decide +kernel
theorem d_MD_set_59 : decode prog_20_method_62_code 59 = .ok (.getfield 101, 3) := by decide +kernel
theorem d_MD_set_62 : decode prog_20_method_62_code 62 = .ok (.ifCond .ne 18, 3) := by decide +kernel
theorem d_MD_set_65 : decode prog_20_method_62_code 65 = .ok (.aload_n 0, 1) := by decide +kernel
theorem d_MD_set_66 : decode prog_20_method_62_code 66 = .ok (.getfield 44, 3) := by decide +kernel
theorem d_MD_set_69 : decode prog_20_method_62_code 69 = .ok (.aload_n 0, 1) := by decide +kernel
theorem d_MD_set_70 : decode prog_20_method_62_code 70 = .ok (.iload_n 1, 1) := by decide +kernel
theorem d_MD_set_71 : decode prog_20_method_62_code 71 = .ok (.iload 4, 2) := by decide +kernel
theorem d_MD_set_73 : decode prog_20_method_62_code 73 = .ok (.invokevirtual 293, 3) := by decide +kernel
theorem d_MD_set_76 : decode prog_20_method_62_code 76 = .ok (.iconst 1, 1) := by decide +kernel
theorem d_MD_set_77 : decode prog_20_method_62_code 77 = .ok (.iadd, 1) := by decide +kernel
theorem d_MD_set_78 : decode prog_20_method_62_code 78 = .ok (.iload_n 3, 1) := by decide +kernel
theorem d_MD_set_79 : decode prog_20_method_62_code 79 = .ok (.iastore, 1) := by decide +kernel
theorem d_MD_set_80 : decode prog_20_method_62_code 80 = .ok (.return_, 1) := by decide +kernel
theorem d_MD_put_0 : decode prog_20_method_63_code 0 = .ok (.aload_n 0, 1) := by decide +kernel
theorem d_MD_put_1 : decode prog_20_method_63_code 1 = .ok (.iload_n 1, 1) := by decide +kernel
theorem d_MD_put_2 : decode prog_20_method_63_code 2 = .ok (.invokevirtual 284, 3) := by decide +kernel
theorem d_MD_put_5 : decode prog_20_method_63_code 5 = .ok (.ifCond .eq 13, 3) := by decide +kernel
theorem d_MD_put_8 : decode prog_20_method_63_code 8 = .ok (.aload_n 0, 1) := by decide +kernel
theorem d_MD_put_9 : decode prog_20_method_63_code 9 = .ok (.iload_n 1, 1) := by decide +kernel
theorem d_MD_put_10 : decode prog_20_method_63_code 10 = .ok (.iload_n 2, 1) := by decide +kernel
theorem d_MD_put_11 : decode prog_20_method_63_code 11 = .ok (.iconst 1, 1) := by decide +kernel
theorem d_MD_put_12 : decode prog_20_method_63_code 12 = .ok (.invokevirtual 287, 3) := by decide +kernel
theorem d_MD_put_15 : decode prog_20_method_63_code 15 = .ok (.goto 4, 3) := by decide +kernel
theorem d_MD_put_18 : decode prog_20_method_63_code 18 = .ok (.iconst (-1), 1) := by decide +kernel
theorem d_MD_put_19 : decode prog_20_method_63_code 19 = .ok (.istore 5, 2) := by decide +kernel
theorem d_MD_put_21 : decode prog_20_method_63_code 21 = .ok (.aload_n 0, 1) := by decide +kernel
theorem d_MD_put_22 : decode prog_20_method_63_code 22 = .ok (.aload_n 0, 1) := by decide +kernel
theorem d_MD_put_23 : decode prog_20_method_63_code 23 = .ok (.iload_n 1, 1) := by decide +kernel
theorem d_MD_put_24 : decode prog_20_method_63_code 24 = .ok (.invokevirtual 284, 3) := by decide +kernel
theorem d_MD_put_27 : decode prog_20_method_63_code 27 = .ok (.ifCond .ne 7, 3) := by decide +kernel
theorem d_MD_put_30 : decode prog_20_method_63_code 30 = .ok (.iconst 1, 1) := by decide +kernel
theorem d_MD_put_31 : decode prog_20_method_63_code 31 = .ok (.goto 51, 3) := by decide +kernel
theorem d_MD_put_34 : decode prog_20_method_63_code 34 = .ok (.iload 5, 2) := by decide +kernel
theorem d_MD_put_36 : decode prog_20_method_63_code 36 = .ok (.ifCond .lt 41, 3) := by decide +kernel
theorem d_MD_put_39 : decode prog_20_method_63_code 39 = .ok (.iload_n 3, 1) := by decide +kernel
theorem d_MD_put_40 : decode prog_20_method_63_code 40 = .ok (.ifCond .lt 37, 3) := by decide +kernel
theorem d_MD_put_43 : decode prog_20_method_63_code 43 = .ok (.iload_n 3, 1) := by decide +kernel
theorem d_MD_put_44 : decode prog_20_method_63_code 44 = .ok (.aload_n 0, 1) := by decide +kernel
theorem d_MD_put_45 : decode prog_20_method_63_code 45 = .ok (.getfield 44, 3) := by decide +kernel
theorem d_MD_put_48 : decode prog_20_method_63_code 48 = .ok (.aload_n 0, 1) := by decide +kernel
theorem d_MD_put_49 : decode prog_20_method_63_code 49 = .ok (.iload_n 1, 1) := by decide +kernel
theorem d_MD_put_50 : decode prog_20_method_63_code 50 = .ok (.iload 5, 2) := by decide +kernel
theorem d_MD_put_52 : decode prog_20_method_63_code 52 = .ok (.invokevirtual 293, 3) := by decide +kernel
theorem d_MD_put_55 : decode prog_20_method_63_code 55 = .ok (.iaload, 1) := by decide +kernel
theorem d_MD_put_56 : decode prog_20_method_63_code 56 = .ok (.if_icmp .gt 21, 3) := by decide +kernel
theorem d_MD_put_59 : decode prog_20_method_63_code 59 = .ok (.iload_n 3, 1) := by decide +kernel
theorem d_MD_put_60 : decode prog_20_method_63_code 60 = .ok (.bipush 6, 2) := by decide +kernel
theorem d_MD_put_62 : decode prog_20_method_63_code 62 = .ok (.if_icmp .eq 15, 3) := by decide +kernel
theorem d_MD_put_65 : decode prog_20_method_63_code 65 = .ok (.aload_n 0, 1) := by decide +kernel
theorem d_MD_put_66 : decode prog_20_method_63_code 66 = .ok (.iload_n 1, 1) := by decide +kernel
theorem d_MD_put_67 : decode prog_20_method_63_code 67 = .ok (.iload 5, 2) := by decide +kernel
theorem d_MD_put_69 : decode prog_20_method_63_code 69 = .ok (.iload 4, 2) := by decide +kernel
theorem d_MD_put_71 : decode prog_20_method_63_code 71 = .ok (.invokevirtual 290, 3) := by decide +kernel
theorem d_MD_put_74 : decode prog_20_method_63_code 74 = .ok (.ifCond .ne 7, 3) := by decide +kernel
theorem d_MD_put_77 : decode prog_20_method_63_code 77 = .ok (.iconst 2, 1) := by decide +kernel
theorem d_MD_put_78 : decode prog_20_method_63_code 78 = .ok (.goto 4, 3) := by decide +kernel
theorem d_MD_put_81 : decode prog_20_method_63_code 81 = .ok (.iconst 0, 1) := by decide +kernel
theorem d_MD_put_82 : decode prog_20_method_63_code 82 = .ok (.putfield 101, 3) := by decide +kernel
theorem d_MD_put_85 : decode prog_20_method_63_code 85 = .ok (.aload_n 0, 1) := by decide +kernel
theorem d_MD_put_86 : decode prog_20_method_63_code 86 = .ok (.getfield 101, 3) := by decide +kernel
theorem d_MD_put_89 : decode prog_20_method_63_code 89 = .ok (.ifCond .le 5, 3) := by decide +kernel
theorem d_MD_put_92 : decode prog_20_method_63_code 92 = .ok (.iconst 0, 1) := by decide +kernel
theorem d_MD_put_93 : decode prog_20_method_63_code 93 = .ok (.ireturn, 1) := by decide +kernel
theorem d_MD_put_94 : decode prog_20_method_63_code 94 = .ok (.aload_n 0, 1) := by decide +kernel
theorem d_MD_put_95 : decode prog_20_method_63_code 95 = .ok (.iload_n 1, 1) := by decide +kernel
theorem d_MD_put_96 : decode prog_20_method_63_code 96 = .ok (.iload 5, 2) := by decide +kernel
theorem d_MD_put_98 : decode prog_20_method_63_code 98 = .ok (.invokevirtual 293, 3) := by decide +kernel
theorem d_MD_put_101 : decode prog_20_method_63_code 101 = .ok (.istore 6, 2) := by decide +kernel
theorem d_MD_put_103 : decode prog_20_method_63_code 103 = .ok (.aload_n 0, 1) := by decide +kernel
theorem d_MD_put_104 : decode prog_20_method_63_code 104 = .ok (.getfield 44, 3) := by decide +kernel
theorem d_MD_put_107 : decode prog_20_method_63_code 107 = .ok (.iload 6, 2) := by decide +kernel
theorem d_MD_put_109 : decode prog_20_method_63_code 109 = .ok (.iload_n 3, 1) := by decide +kernel
theorem d_MD_put_110 : decode prog_20_method_63_code 110 = .ok (.aload_n 0, 1) := by decide +kernel
theorem d_MD_put_111 : decode prog_20_method_63_code 111 = .ok (.getfield 44, 3) := by decide +kernel
theorem d_MD_put_114 : decode prog_20_method_63_code 114 = .ok (.iload 6, 2) := by decide +kernel
theorem d_MD_put_116 : decode prog_20_method_63_code 116 = .ok (.iaload, 1) := by decide +kernel
theorem d_MD_put_117 : decode prog_20_method_63_code 117 = .ok (.if_icmp .ne 9, 3) := by decide +kernel
theorem d_MD_put_120 : decode prog_20_method_63_code 120 = .ok (.iload_n 3, 1) := by decide +kernel
theorem d_MD_put_121 : decode prog_20_method_63_code 121 = .ok (.iconst 1, 1) := by decide +kernel
theorem d_MD_put_122 : decode prog_20_method_63_code 122 = .ok (.iadd, 1) := by decide +kernel
theorem d_MD_put_123 : decode prog_20_method_63_code 123 = .ok (.goto 10, 3) := by decide +kernel
theorem d_MD_put_126 : decode prog_20_method_63_code 126 = .ok (.aload_n 0, 1) := by decide +kernel
theorem d_MD_put_127 : decode prog_20_method_63_code 127 = .ok (.getfield 44, 3) := by decide +kernel
theorem d_MD_put_130 : decode prog_20_method_63_code 130 = .ok (.iload 6, 2) := by decide +kernel
theorem d_MD_put_132 : decode prog_20_method_63_code 132 = .ok (.iaload, 1) := by decide +kernel
theorem d_MD_put_133 : decode prog_20_method_63_code 133 = .ok (.iastore, 1) := by decide +kernel
theorem d_MD_put_134 : decode prog_20_method_63_code 134 = .ok (.aload_n 0, 1) := by decide +kernel
theorem d_MD_put_135 : decode prog_20_method_63_code 135 = .ok (.getfield 44, 3) := by decide +kernel
theorem d_MD_put_138 : decode prog_20_method_63_code 138 = .ok (.iload 6, 2) := by decide +kernel
theorem d_MD_put_140 : decode prog_20_method_63_code 140 = .ok (.iconst 1, 1) := by decide +kernel
theorem d_MD_put_141 : decode prog_20_method_63_code 141 = .ok (.iadd, 1) := by decide +kernel
theorem d_MD_put_142 : decode prog_20_method_63_code 142 = .ok (.iload_n 3, 1) := by decide +kernel
theorem d_MD_put_143 : decode prog_20_method_63_code 143 = .ok (.iadd, 1) := by decide +kernel
theorem d_MD_put_144 : decode prog_20_method_63_code 144 = .ok (.iload 4, 2) := by decide +kernel
theorem d_MD_put_146 : decode prog_20_method_63_code 146 = .ok (.iastore, 1) := by decide +kernel
theorem d_MD_put_147 : decode prog_20_method_63_code 147 = .ok (.aload_n 0, 1) := by decide +kernel
theorem d_MD_put_148 : decode prog_20_method_63_code 148 = .ok (.getfield 44, 3) := by decide +kernel
theorem d_MD_put_151 : decode prog_20_method_63_code 151 = .ok (.iload 6, 2) := by decide +kernel
theorem d_MD_put_153 : decode prog_20_method_63_code 153 = .ok (.iaload, 1) := by decide +kernel
theorem d_MD_put_154 : decode prog_20_method_63_code 154 = .ok (.ireturn, 1) := by decide +kernel
theorem d_MD_cut_0 : decode prog_20_method_64_code 0 = .ok (.aload_n 0, 1) := by decide +kernel
theorem d_MD_cut_1 : decode prog_20_method_64_code 1 = .ok (.iload_n 1, 1) := by decide +kernel
theorem d_MD_cut_2 : decode prog_20_method_64_code 2 = .ok (.invokevirtual 284, 3) := by decide +kernel
theorem d_MD_cut_5 : decode prog_20_method_64_code 5 = .ok (.ifCond .eq 13, 3) := by decide +kernel
theorem d_MD_cut_8 : decode prog_20_method_64_code 8 = .ok (.aload_n 0, 1) := by decide +kernel
theorem d_MD_cut_9 : decode prog_20_method_64_code 9 = .ok (.iload_n 1, 1) := by decide +kernel
theorem d_MD_cut_10 : decode prog_20_method_64_code 10 = .ok (.iload_n 2, 1) := by decide +kernel
theorem d_MD_cut_11 : decode prog_20_method_64_code 11 = .ok (.iconst 1, 1) := by decide +kernel
theorem d_MD_cut_12 : decode prog_20_method_64_code 12 = .ok (.invokevirtual 287, 3) := by decide +kernel
theorem d_MD_cut_15 : decode prog_20_method_64_code 15 = .ok (.goto 4, 3) := by decide +kernel
theorem d_MD_cut_18 : decode prog_20_method_64_code 18 = .ok (.iconst (-1), 1) := by decide +kernel
theorem d_MD_cut_19 : decode prog_20_method_64_code 19 = .ok (.istore 4, 2) := by decide +kernel
theorem d_MD_cut_21 : decode prog_20_method_64_code 21 = .ok (.aload_n 0, 1) := by decide +kernel
theorem d_MD_cut_22 : decode prog_20_method_64_code 22 = .ok (.aload_n 0, 1) := by decide +kernel
theorem d_MD_cut_23 : decode prog_20_method_64_code 23 = .ok (.iload_n 1, 1) := by decide +kernel
theorem d_MD_cut_24 : decode prog_20_method_64_code 24 = .ok (.invokevirtual 284, 3) := by decide +kernel
theorem d_MD_cut_27 : decode prog_20_method_64_code 27 = .ok (.ifCond .ne 7, 3) := by decide +kernel
theorem d_MD_cut_30 : decode prog_20_method_64_code 30 = .ok (.iconst 1, 1) := by decide +kernel
theorem d_MD_cut_31 : decode prog_20_method_64_code 31 = .ok (.goto 33, 3) := by decide +kernel
theorem d_MD_cut_34 : decode prog_20_method_64_code 34 = .ok (.iload 4, 2) := by decide +kernel
theorem d_MD_cut_36 : decode prog_20_method_64_code 36 = .ok (.ifCond .lt 23, 3) := by decide +kernel
theorem d_MD_cut_39 : decode prog_20_method_64_code 39 = .ok (.iload_n 3, 1) := by decide +kernel
theorem d_MD_cut_40 : decode prog_20_method_64_code 40 = .ok (.ifCond .lt 19, 3) := by decide +kernel
theorem d_MD_cut_43 : decode prog_20_method_64_code 43 = .ok (.iload_n 3, 1) := by decide +kernel
theorem d_MD_cut_44 : decode prog_20_method_64_code 44 = .ok (.aload_n 0, 1) := by decide +kernel
theorem d_MD_cut_45 : decode prog_20_method_64_code 45 = .ok (.getfield 44, 3) := by decide +kernel
theorem d_MD_cut_48 : decode prog_20_method_64_code 48 = .ok (.aload_n 0, 1) := by decide +kernel
theorem d_MD_cut_49 : decode prog_20_method_64_code 49 = .ok (.iload_n 1, 1) := by decide +kernel
theorem d_MD_cut_50 : decode prog_20_method_64_code 50 = .ok (.iload 4, 2) := by decide +kernel
theorem d_MD_cut_52 : decode prog_20_method_64_code 52 = .ok (.invokevirtual 293, 3) := by decide +kernel
theorem d_MD_cut_55 : decode prog_20_method_64_code 55 = .ok (.iaload, 1) := by decide +kernel
theorem d_MD_cut_56 : decode prog_20_method_64_code 56 = .ok (.if_icmp .le 7, 3) := by decide +kernel
theorem d_MD_cut_59 : decode prog_20_method_64_code 59 = .ok (.iconst 2, 1) := by decide +kernel
theorem d_MD_cut_60 : decode prog_20_method_64_code 60 = .ok (.goto 4, 3) := by decide +kernel
theorem d_MD_cut_63 : decode prog_20_method_64_code 63 = .ok (.iconst 0, 1) := by decide +kernel
theorem d_MD_cut_64 : decode prog_20_method_64_code 64 = .ok (.putfield 101, 3) := by decide +kernel
theorem d_MD_cut_67 : decode prog_20_method_64_code 67 = .ok (.aload_n 0, 1) := by decide +kernel
theorem d_MD_cut_68 : decode prog_20_method_64_code 68 = .ok (.getfield 101, 3) := by decide +kernel
theorem d_MD_cut_71 : decode prog_20_method_64_code 71 = .ok (.ifCond .ne 16, 3) := by decide +kernel
theorem d_MD_cut_74 : decode prog_20_method_64_code 74 = .ok (.aload_n 0, 1) := by decide +kernel
theorem d_MD_cut_75 : decode prog_20_method_64_code 75 = .ok (.getfield 44, 3) := by decide +kernel
theorem d_MD_cut_78 : decode prog_20_method_64_code 78 = .ok (.aload_n 0, 1) := by decide +kernel
theorem d_MD_cut_79 : decode prog_20_method_64_code 79 = .ok (.iload_n 1, 1) := by decide +kernel
theorem d_MD_cut_80 : decode prog_20_method_64_code 80 = .ok (.iload 4, 2) := by decide +kernel
theorem d_MD_cut_82 : decode prog_20_method_64_code 82 = .ok (.invokevirtual 293, 3) := by decide +kernel
theorem d_MD_cut_85 : decode prog_20_method_64_code 85 = .ok (.iload_n 3, 1) := by decide +kernel
theorem d_MD_cut_86 : decode prog_20_method_64_code 86 = .ok (.iastore, 1) := by decide +kernel
theorem d_MD_cut_87 : decode prog_20_method_64_code 87 = .ok (.return_, 1) := by decide +kernel
theorem d_MD_get_0 : decode prog_20_method_65_code 0 = .ok (.aload_n 0, 1) := by decide +kernel
theorem d_MD_get_1 : decode prog_20_method_65_code 1 = .ok (.iload_n 1, 1) := by decide +kernel
theorem d_MD_get_2 : decode prog_20_method_65_code 2 = .ok (.invokevirtual 284, 3) := by decide +kernel
theorem d_MD_get_5 : decode prog_20_method_65_code 5 = .ok (.ifCond .eq 13, 3) := by decide +kernel
theorem d_MD_get_8 : decode prog_20_method_65_code 8 = .ok (.aload_n 0, 1) := by decide +kernel
theorem d_MD_get_9 : decode prog_20_method_65_code 9 = .ok (.iload_n 1, 1) := by decide +kernel
theorem d_MD_get_10 : decode prog_20_method_65_code 10 = .ok (.iload_n 2, 1) := by decide +kernel
theorem d_MD_get_11 : decode prog_20_method_65_code 11 = .ok (.iconst 0, 1) := by decide +kernel
theorem d_MD_get_12 : decode prog_20_method_65_code 12 = .ok (.invokevirtual 287, 3) := by decide +kernel
theorem d_MD_get_15 : decode prog_20_method_65_code 15 = .ok (.goto 4, 3) := by decide +kernel
theorem d_MD_get_18 : decode prog_20_method_65_code 18 = .ok (.iconst (-1), 1) := by decide +kernel
theorem d_MD_get_19 : decode prog_20_method_65_code 19 = .ok (.istore_n 3, 1) := by decide +kernel
theorem d_MD_get_20 : decode prog_20_method_65_code 20 = .ok (.aload_n 0, 1) := by decide +kernel
theorem d_MD_get_21 : decode prog_20_method_65_code 21 = .ok (.aload_n 0, 1) := by decide +kernel
theorem d_MD_get_22 : decode prog_20_method_65_code 22 = .ok (.iload_n 1, 1) := by decide +kernel
theorem d_MD_get_23 : decode prog_20_method_65_code 23 = .ok (.invokevirtual 284, 3) := by decide +kernel
theorem d_MD_get_26 : decode prog_20_method_65_code 26 = .ok (.ifCond .ne 7, 3) := by decide +kernel
theorem d_MD_get_29 : decode prog_20_method_65_code 29 = .ok (.iconst 1, 1) := by decide +kernel
theorem d_MD_get_30 : decode prog_20_method_65_code 30 = .ok (.goto 12, 3) := by decide +kernel
theorem d_MD_get_33 : decode prog_20_method_65_code 33 = .ok (.iload_n 3, 1) := by decide +kernel
theorem d_MD_get_34 : decode prog_20_method_65_code 34 = .ok (.ifCond .ge 7, 3) := by decide +kernel
theorem d_MD_get_37 : decode prog_20_method_65_code 37 = .ok (.iconst 2, 1) := by decide +kernel
theorem d_MD_get_38 : decode prog_20_method_65_code 38 = .ok (.goto 4, 3) := by decide +kernel
theorem d_MD_get_41 : decode prog_20_method_65_code 41 = .ok (.iconst 0, 1) := by decide +kernel
theorem d_MD_get_42 : decode prog_20_method_65_code 42 = .ok (.putfield 101, 3) := by decide +kernel
theorem d_MD_get_45 : decode prog_20_method_65_code 45 = .ok (.aload_n 0, 1) := by decide +kernel
theorem d_MD_get_46 : decode prog_20_method_65_code 46 = .ok (.getfield 101, 3) := by decide +kernel
theorem d_MD_get_49 : decode prog_20_method_65_code 49 = .ok (.ifCond .le 7, 3) := by decide +kernel
theorem d_MD_get_52 : decode prog_20_method_65_code 52 = .ok (.iconst 0, 1) := by decide +kernel
theorem d_MD_get_53 : decode prog_20_method_65_code 53 = .ok (.goto 16, 3) := by decide +kernel
theorem d_MD_get_56 : decode prog_20_method_65_code 56 = .ok (.aload_n 0, 1) := by decide +kernel
theorem d_MD_get_57 : decode prog_20_method_65_code 57 = .ok (.getfield 44, 3) := by decide +kernel
theorem d_MD_get_60 : decode prog_20_method_65_code 60 = .ok (.aload_n 0, 1) := by decide +kernel
theorem d_MD_get_61 : decode prog_20_method_65_code 61 = .ok (.iload_n 1, 1) := by decide +kernel
theorem d_MD_get_62 : decode prog_20_method_65_code 62 = .ok (.iload_n 3, 1) := by decide +kernel
theorem d_MD_get_63 : decode prog_20_method_65_code 63 = .ok (.invokevirtual 293, 3) := by decide +kernel
theorem d_MD_get_66 : decode prog_20_method_65_code 66 = .ok (.iconst 1, 1) := by decide +kernel
theorem d_MD_get_67 : decode prog_20_method_65_code 67 = .ok (.iadd, 1) := by decide +kernel
theorem d_MD_get_68 : decode prog_20_method_65_code 68 = .ok (.iaload, 1) := by decide +kernel
theorem d_MD_get_69 : decode prog_20_method_65_code 69 = .ok (.ireturn, 1) := by decide +kernel
theorem d_MD_size_0 : decode prog_20_method_66_code 0 = .ok (.aload_n 0, 1) := by decide +kernel
theorem d_MD_size_1 : decode prog_20_method_66_code 1 = .ok (.iload_n 1, 1) := by decide +kernel
theorem d_MD_size_2 : decode prog_20_method_66_code 2 = .ok (.invokevirtual 284, 3) := by decide +kernel
theorem d_MD_size_5 : decode prog_20_method_66_code 5 = .ok (.ifCond .eq 13, 3) := by decide +kernel
theorem d_MD_size_8 : decode prog_20_method_66_code 8 = .ok (.aload_n 0, 1) := by decide +kernel
theorem d_MD_size_9 : decode prog_20_method_66_code 9 = .ok (.iload_n 1, 1) := by decide +kernel
theorem d_MD_size_10 : decode prog_20_method_66_code 10 = .ok (.iload_n 2, 1) := by decide +kernel
theorem d_MD_size_11 : decode prog_20_method_66_code 11 = .ok (.iconst 1, 1) := by decide +kernel
theorem d_MD_size_12 : decode prog_20_method_66_code 12 = .ok (.invokevirtual 287, 3) := by decide +kernel
theorem d_MD_size_15 : decode prog_20_method_66_code 15 = .ok (.goto 4, 3) := by decide +kernel
theorem d_MD_size_18 : decode prog_20_method_66_code 18 = .ok (.iconst (-1), 1) := by decide +kernel
theorem d_MD_size_19 : decode prog_20_method_66_code 19 = .ok (.istore_n 3, 1) := by decide +kernel
theorem d_MD_size_20 : decode prog_20_method_66_code 20 = .ok (.aload_n 0, 1) := by decide +kernel
theorem d_MD_size_21 : decode prog_20_method_66_code 21 = .ok (.aload_n 0, 1) := by decide +kernel
theorem d_MD_size_22 : decode prog_20_method_66_code 22 = .ok (.iload_n 1, 1) := by decide +kernel
theorem d_MD_size_23 : decode prog_20_method_66_code 23 = .ok (.invokevirtual 284, 3) := by decide +kernel
theorem d_MD_size_26 : decode prog_20_method_66_code 26 = .ok (.ifCond .ne 7, 3) := by decide +kernel
theorem d_MD_size_29 : decode prog_20_method_66_code 29 = .ok (.iconst 1, 1) := by decide +kernel
theorem d_MD_size_30 : decode prog_20_method_66_code 30 = .ok (.goto 12, 3) := by decide +kernel
theorem d_MD_size_33 : decode prog_20_method_66_code 33 = .ok (.iload_n 3, 1) := by decide +kernel
theorem d_MD_size_34 : decode prog_20_method_66_code 34 = .ok (.ifCond .ge 7, 3) := by decide +kernel
theorem d_MD_size_37 : decode prog_20_method_66_code 37 = .ok (.iconst 2, 1) := by decide +kernel
theorem d_MD_size_38 : decode prog_20_method_66_code 38 = .ok (.goto 4, 3) := by decide +kernel
theorem d_MD_size_41 : decode prog_20_method_66_code 41 = .ok (.iconst 0, 1) := by decide +kernel
theorem d_MD_size_42 : decode prog_20_method_66_code 42 = .ok (.putfield 101, 3) := by decide +kernel
theorem d_MD_size_45 : decode prog_20_method_66_code 45 = .ok (.aload_n 0, 1) := by decide +kernel
theorem d_MD_size_46 : decode prog_20_method_66_code 46 = .ok (.getfield 101, 3) := by decide +kernel
theorem d_MD_size_49 : decode prog_20_method_66_code 49 = .ok (.ifCond .le 7, 3) := by decide +kernel
theorem d_MD_size_52 : decode prog_20_method_66_code 52 = .ok (.iconst 0, 1) := by decide +kernel
theorem d_MD_size_53 : decode prog_20_method_66_code 53 = .ok (.goto 14, 3) := by decide +kernel
theorem d_MD_size_56 : decode prog_20_method_66_code 56 = .ok (.aload_n 0, 1) := by decide +kernel
theorem d_MD_size_57 : decode prog_20_method_66_code 57 = .ok (.getfield 44, 3) := by decide +kernel
theorem d_MD_size_60 : decode prog_20_method_66_code 60 = .ok (.aload_n 0, 1) := by decide +kernel
theorem d_MD_size_61 : decode prog_20_method_66_code 61 = .ok (.iload_n 1, 1) := by decide +kernel
theorem d_MD_size_62 : decode prog_20_method_66_code 62 = .ok (.iload_n 3, 1) := by decide +kernel
theorem d_MD_size_63 : decode prog_20_method_66_code 63 = .ok (.invokevirtual 293, 3) := by decide +kernel
theorem d_MD_size_66 : decode prog_20_method_66_code 66 = .ok (.iaload, 1) := by decide +kernel
theorem d_MD_size_67 : decode prog_20_method_66_code 67 = .ok (.ireturn, 1) := by decide +kernel
theorem d_MD_item_0 : decode prog_20_method_67_code 0 = .ok (.aload_n 0, 1) := by decide +kernel
theorem d_MD_item_1 : decode prog_20_method_67_code 1 = .ok (.iload_n 1, 1) := by decide +kernel
theorem d_MD_item_2 : decode prog_20_method_67_code 2 = .ok (.invokevirtual 284, 3) := by decide +kernel
theorem d_MD_item_5 : decode prog_20_method_67_code 5 = .ok (.ifCond .eq 13, 3) := by decide +kernel
theorem d_MD_item_8 : decode prog_20_method_67_code 8 = .ok (.aload_n 0, 1) := by decide +kernel
theorem d_MD_item_9 : decode prog_20_method_67_code 9 = .ok (.iload_n 1, 1) := by decide +kernel
theorem d_MD_item_10 : decode prog_20_method_67_code 10 = .ok (.iload_n 2, 1) := by decide +kernel
theorem d_MD_item_11 : decode prog_20_method_67_code 11 = .ok (.iconst 1, 1) := by decide +kernel
theorem d_MD_item_12 : decode prog_20_method_67_code 12 = .ok (.invokevirtual 287, 3) := by decide +kernel
theorem d_MD_item_15 : decode prog_20_method_67_code 15 = .ok (.goto 4, 3) := by decide +kernel
theorem d_MD_item_18 : decode prog_20_method_67_code 18 = .ok (.iconst (-1), 1) := by decide +kernel
theorem d_MD_item_19 : decode prog_20_method_67_code 19 = .ok (.istore 4, 2) := by decide +kernel
theorem d_MD_item_21 : decode prog_20_method_67_code 21 = .ok (.aload_n 0, 1) := by decide +kernel
theorem d_MD_item_22 : decode prog_20_method_67_code 22 = .ok (.aload_n 0, 1) := by decide +kernel
theorem d_MD_item_23 : decode prog_20_method_67_code 23 = .ok (.iload_n 1, 1) := by decide +kernel
theorem d_MD_item_24 : decode prog_20_method_67_code 24 = .ok (.invokevirtual 284, 3) := by decide +kernel
theorem d_MD_item_27 : decode prog_20_method_67_code 27 = .ok (.ifCond .ne 7, 3) := by decide +kernel
theorem d_MD_item_30 : decode prog_20_method_67_code 30 = .ok (.iconst 1, 1) := by decide +kernel
theorem d_MD_item_31 : decode prog_20_method_67_code 31 = .ok (.goto 33, 3) := by decide +kernel
theorem d_MD_item_34 : decode prog_20_method_67_code 34 = .ok (.iload 4, 2) := by decide +kernel
theorem d_MD_item_36 : decode prog_20_method_67_code 36 = .ok (.ifCond .lt 23, 3) := by decide +kernel
theorem d_MD_item_39 : decode prog_20_method_67_code 39 = .ok (.iload_n 3, 1) := by decide +kernel
theorem d_MD_item_40 : decode prog_20_method_67_code 40 = .ok (.ifCond .lt 19, 3) := by decide +kernel
theorem d_MD_item_43 : decode prog_20_method_67_code 43 = .ok (.iload_n 3, 1) := by decide +kernel
theorem d_MD_item_44 : decode prog_20_method_67_code 44 = .ok (.aload_n 0, 1) := by decide +kernel
theorem d_MD_item_45 : decode prog_20_method_67_code 45 = .ok (.getfield 44, 3) := by decide +kernel
theorem d_MD_item_48 : decode prog_20_method_67_code 48 = .ok (.aload_n 0, 1) := by decide +kernel
theorem d_MD_item_49 : decode prog_20_method_67_code 49 = .ok (.iload_n 1, 1) := by decide +kernel
theorem d_MD_item_50 : decode prog_20_method_67_code 50 = .ok (.iload 4, 2) := by decide +kernel
theorem d_MD_item_52 : decode prog_20_method_67_code 52 = .ok (.invokevirtual 293, 3) := by decide +kernel
theorem d_MD_item_55 : decode prog_20_method_67_code 55 = .ok (.iaload, 1) := by decide +kernel
theorem d_MD_item_56 : decode prog_20_method_67_code 56 = .ok (.if_icmp .lt 7, 3) := by decide +kernel
theorem d_MD_item_59 : decode prog_20_method_67_code 59 = .ok (.iconst 2, 1) := by decide +kernel
theorem d_MD_item_60 : decode prog_20_method_67_code 60 = .ok (.goto 4, 3) := by decide +kernel
theorem d_MD_item_63 : decode prog_20_method_67_code 63 = .ok (.iconst 0, 1) := by decide +kernel
theorem d_MD_item_64 : decode prog_20_method_67_code 64 = .ok (.putfield 101, 3) := by decide +kernel
theorem d_MD_item_67 : decode prog_20_method_67_code 67 = .ok (.aload_n 0, 1) := by decide +kernel
theorem d_MD_item_68 : decode prog_20_method_67_code 68 = .ok (.getfield 101, 3) := by decide +kernel
theorem d_MD_item_71 : decode prog_20_method_67_code 71 = .ok (.ifCond .le 7, 3) := by decide +kernel
theorem d_MD_item_74 : decode prog_20_method_67_code 74 = .ok (.iconst 0, 1) := by decide +kernel
theorem d_MD_item_75 : decode prog_20_method_67_code 75 = .ok (.goto 19, 3) := by decide +kernel
theorem d_MD_item_78 : decode prog_20_method_67_code 78 = .ok (.aload_n 0, 1) := by decide +kernel
theorem d_MD_item_79 : decode prog_20_method_67_code 79 = .ok (.getfield 44, 3) := by decide +kernel
theorem d_MD_item_82 : decode prog_20_method_67_code 82 = .ok (.aload_n 0, 1) := by decide +kernel
theorem d_MD_item_83 : decode prog_20_method_67_code 83 = .ok (.iload_n 1, 1) := by decide +kernel
theorem d_MD_item_84 : decode prog_20_method_67_code 84 = .ok (.iload 4, 2) := by decide +kernel
theorem d_MD_item_86 : decode prog_20_method_67_code 86 = .ok (.invokevirtual 293, 3) := by decide +kernel
theorem d_MD_item_89 : decode prog_20_method_67_code 89 = .ok (.iconst 1, 1) := by decide +kernel
theorem d_MD_item_90 : decode prog_20_method_67_code 90 = .ok (.iadd, 1) := by decide +kernel
theorem d_MD_item_91 : decode prog_20_method_67_code 91 = .ok (.iload_n 3, 1) := by decide +kernel
theorem d_MD_item_92 : decode prog_20_method_67_code 92 = .ok (.iadd, 1) := by decide +kernel
theorem d_MD_item_93 : decode prog_20_method_67_code 93 = .ok (.iaload, 1) := by decide +kernel
theorem d_MD_item_94 : decode prog_20_method_67_code 94 = .ok (.ireturn, 1) := by decide +kernel
theorem d_MD_version_0 : decode prog_20_method_68_code 0 = .ok (.aload_n 0, 1) := by decide +kernel
theorem d_MD_version_1 : decode prog_20_method_68_code 1 = .ok (.aload_n 0, 1) := by decide +kernel
theorem d_MD_version_2 : decode prog_20_method_68_code 2 = .ok (.iload_n 1, 1) := by decide +kernel
theorem d_MD_version_3 : decode prog_20_method_68_code 3 = .ok (.invokevirtual 284, 3) := by decide +kernel
theorem d_MD_version_6 : decode prog_20_method_68_code 6 = .ok (.ifCond .eq 7, 3) := by decide +kernel
theorem d_MD_version_9 : decode prog_20_method_68_code 9 = .ok (.iconst 0, 1) := by decide +kernel
theorem d_MD_version_10 : decode prog_20_method_68_code 10 = .ok (.goto 4, 3) := by decide +kernel
theorem d_MD_version_13 : decode prog_20_method_68_code 13 = .ok (.iconst 1, 1) := by decide +kernel
theorem d_MD_version_14 : decode prog_20_method_68_code 14 = .ok (.putfield 101, 3) := by decide +kernel
theorem d_MD_version_17 : decode prog_20_method_68_code 17 = .ok (.aload_n 0, 1) := by decide +kernel
theorem d_MD_version_18 : decode prog_20_method_68_code 18 = .ok (.getfield 101, 3) := by decide +kernel
theorem d_MD_version_21 : decode prog_20_method_68_code 21 = .ok (.ifCond .le 7, 3) := by decide +kernel
theorem d_MD_version_24 : decode prog_20_method_68_code 24 = .ok (.iconst 0, 1) := by decide +kernel
theorem d_MD_version_25 : decode prog_20_method_68_code 25 = .ok (.goto 9, 3) := by decide +kernel
theorem d_MD_version_28 : decode prog_20_method_68_code 28 = .ok (.aload_n 0, 1) := by decide +kernel
theorem d_MD_version_29 : decode prog_20_method_68_code 29 = .ok (.getfield 41, 3) := by decide +kernel
theorem d_MD_version_32 : decode prog_20_method_68_code 32 = .ok (.iload_n 1, 1) := by decide +kernel
theorem d_MD_version_33 : decode prog_20_method_68_code 33 = .ok (.iaload, 1) := by decide +kernel
theorem d_MD_version_34 : decode prog_20_method_68_code 34 = .ok (.ireturn, 1) := by decide +kernel
theorem d_MD_kept_0 : decode prog_20_method_69_code 0 = .ok (.aload_n 0, 1) := by decide +kernel
theorem d_MD_kept_1 : decode prog_20_method_69_code 1 = .ok (.aload_n 0, 1) := by decide +kernel
theorem d_MD_kept_2 : decode prog_20_method_69_code 2 = .ok (.iload_n 1, 1) := by decide +kernel
theorem d_MD_kept_3 : decode prog_20_method_69_code 3 = .ok (.invokevirtual 284, 3) := by decide +kernel
theorem d_MD_kept_6 : decode prog_20_method_69_code 6 = .ok (.ifCond .eq 7, 3) := by decide +kernel
theorem d_MD_kept_9 : decode prog_20_method_69_code 9 = .ok (.iconst 0, 1) := by decide +kernel
theorem d_MD_kept_10 : decode prog_20_method_69_code 10 = .ok (.goto 4, 3) := by decide +kernel
theorem d_MD_kept_13 : decode prog_20_method_69_code 13 = .ok (.iconst 1, 1) := by decide +kernel
theorem d_MD_kept_14 : decode prog_20_method_69_code 14 = .ok (.putfield 101, 3) := by decide +kernel
theorem d_MD_kept_17 : decode prog_20_method_69_code 17 = .ok (.iconst 0, 1) := by decide +kernel
theorem d_MD_kept_18 : decode prog_20_method_69_code 18 = .ok (.istore_n 2, 1) := by decide +kernel
theorem d_MD_kept_19 : decode prog_20_method_69_code 19 = .ok (.iconst 0, 1) := by decide +kernel
theorem d_MD_kept_20 : decode prog_20_method_69_code 20 = .ok (.istore_n 3, 1) := by decide +kernel
theorem d_MD_kept_21 : decode prog_20_method_69_code 21 = .ok (.iload_n 3, 1) := by decide +kernel
theorem d_MD_kept_22 : decode prog_20_method_69_code 22 = .ok (.sipush 128, 3) := by decide +kernel
theorem d_MD_kept_25 : decode prog_20_method_69_code 25 = .ok (.if_icmp .ge 39, 3) := by decide +kernel
theorem d_MD_kept_28 : decode prog_20_method_69_code 28 = .ok (.aload_n 0, 1) := by decide +kernel
theorem d_MD_kept_29 : decode prog_20_method_69_code 29 = .ok (.getfield 101, 3) := by decide +kernel
theorem d_MD_kept_32 : decode prog_20_method_69_code 32 = .ok (.ifCond .ne 32, 3) := by decide +kernel
theorem d_MD_kept_35 : decode prog_20_method_69_code 35 = .ok (.aload_n 0, 1) := by decide +kernel
theorem d_MD_kept_36 : decode prog_20_method_69_code 36 = .ok (.getfield 47, 3) := by decide +kernel
theorem d_MD_kept_39 : decode prog_20_method_69_code 39 = .ok (.sipush 128, 3) := by decide +kernel
theorem d_MD_kept_42 : decode prog_20_method_69_code 42 = .ok (.iload_n 1, 1) := by decide +kernel
theorem d_MD_kept_43 : decode prog_20_method_69_code 43 = .ok (.imul, 1) := by decide +kernel
theorem d_MD_kept_44 : decode prog_20_method_69_code 44 = .ok (.iload_n 3, 1) := by decide +kernel
theorem d_MD_kept_45 : decode prog_20_method_69_code 45 = .ok (.iadd, 1) := by decide +kernel
theorem d_MD_kept_46 : decode prog_20_method_69_code 46 = .ok (.iaload, 1) := by decide +kernel
theorem d_MD_kept_47 : decode prog_20_method_69_code 47 = .ok (.ifCond .le 9, 3) := by decide +kernel
theorem d_MD_kept_50 : decode prog_20_method_69_code 50 = .ok (.iload_n 2, 1) := by decide +kernel
theorem d_MD_kept_51 : decode prog_20_method_69_code 51 = .ok (.iconst 1, 1) := by decide +kernel
theorem d_MD_kept_52 : decode prog_20_method_69_code 52 = .ok (.iadd, 1) := by decide +kernel
theorem d_MD_kept_53 : decode prog_20_method_69_code 53 = .ok (.goto 4, 3) := by decide +kernel
theorem d_MD_kept_56 : decode prog_20_method_69_code 56 = .ok (.iload_n 2, 1) := by decide +kernel
theorem d_MD_kept_57 : decode prog_20_method_69_code 57 = .ok (.istore_n 2, 1) := by decide +kernel
theorem d_MD_kept_58 : decode prog_20_method_69_code 58 = .ok (.iinc 3 1, 3) := by decide +kernel
theorem d_MD_kept_61 : decode prog_20_method_69_code 61 = .ok (.goto (-40), 3) := by decide +kernel
theorem d_MD_kept_64 : decode prog_20_method_69_code 64 = .ok (.iload_n 2, 1) := by decide +kernel
theorem d_MD_kept_65 : decode prog_20_method_69_code 65 = .ok (.ireturn, 1) := by decide +kernel
theorem d_MD_same_0 : decode prog_20_method_70_code 0 = .ok (.aload_n 0, 1) := by decide +kernel
theorem d_MD_same_1 : decode prog_20_method_70_code 1 = .ok (.aload_n 0, 1) := by decide +kernel
theorem d_MD_same_2 : decode prog_20_method_70_code 2 = .ok (.iload_n 1, 1) := by decide +kernel
theorem d_MD_same_3 : decode prog_20_method_70_code 3 = .ok (.invokevirtual 284, 3) := by decide +kernel
theorem d_MD_same_6 : decode prog_20_method_70_code 6 = .ok (.ifCond .eq 15, 3) := by decide +kernel
theorem d_MD_same_9 : decode prog_20_method_70_code 9 = .ok (.aload_n 0, 1) := by decide +kernel
theorem d_MD_same_10 : decode prog_20_method_70_code 10 = .ok (.iload_n 2, 1) := by decide +kernel
theorem d_MD_same_11 : decode prog_20_method_70_code 11 = .ok (.invokevirtual 284, 3) := by decide +kernel
theorem d_MD_same_14 : decode prog_20_method_70_code 14 = .ok (.ifCond .eq 7, 3) := by decide +kernel
theorem d_MD_same_17 : decode prog_20_method_70_code 17 = .ok (.iconst 0, 1) := by decide +kernel
theorem d_MD_same_18 : decode prog_20_method_70_code 18 = .ok (.goto 4, 3) := by decide +kernel
theorem d_MD_same_21 : decode prog_20_method_70_code 21 = .ok (.iconst 1, 1) := by decide +kernel
theorem d_MD_same_22 : decode prog_20_method_70_code 22 = .ok (.putfield 101, 3) := by decide +kernel
theorem d_MD_same_25 : decode prog_20_method_70_code 25 = .ok (.aload_n 0, 1) := by decide +kernel
theorem d_MD_same_26 : decode prog_20_method_70_code 26 = .ok (.getfield 101, 3) := by decide +kernel
theorem d_MD_same_29 : decode prog_20_method_70_code 29 = .ok (.ifCond .le 5, 3) := by decide +kernel
theorem d_MD_same_32 : decode prog_20_method_70_code 32 = .ok (.iconst 0, 1) := by decide +kernel
theorem d_MD_same_33 : decode prog_20_method_70_code 33 = .ok (.ireturn, 1) := by decide +kernel
theorem d_MD_same_34 : decode prog_20_method_70_code 34 = .ok (.aload_n 0, 1) := by decide +kernel
theorem d_MD_same_35 : decode prog_20_method_70_code 35 = .ok (.getfield 41, 3) := by decide +kernel
theorem d_MD_same_38 : decode prog_20_method_70_code 38 = .ok (.iload_n 1, 1) := by decide +kernel
theorem d_MD_same_39 : decode prog_20_method_70_code 39 = .ok (.iaload, 1) := by decide +kernel
theorem d_MD_same_40 : decode prog_20_method_70_code 40 = .ok (.aload_n 0, 1) := by decide +kernel
theorem d_MD_same_41 : decode prog_20_method_70_code 41 = .ok (.getfield 41, 3) := by decide +kernel
theorem d_MD_same_44 : decode prog_20_method_70_code 44 = .ok (.iload_n 2, 1) := by decide +kernel
theorem d_MD_same_45 : decode prog_20_method_70_code 45 = .ok (.iaload, 1) := by decide +kernel
theorem d_MD_same_46 : decode prog_20_method_70_code 46 = .ok (.if_icmp .ne 7, 3) := by decide +kernel
theorem d_MD_same_49 : decode prog_20_method_70_code 49 = .ok (.iconst 1, 1) := by decide +kernel
theorem d_MD_same_50 : decode prog_20_method_70_code 50 = .ok (.goto 4, 3) := by decide +kernel
theorem d_MD_same_53 : decode prog_20_method_70_code 53 = .ok (.iconst 0, 1) := by decide +kernel
theorem d_MD_same_54 : decode prog_20_method_70_code 54 = .ok (.istore_n 3, 1) := by decide +kernel
theorem d_MD_same_55 : decode prog_20_method_70_code 55 = .ok (.iconst 0, 1) := by decide +kernel
theorem d_MD_same_56 : decode prog_20_method_70_code 56 = .ok (.istore 4, 2) := by decide +kernel
theorem d_MD_same_58 : decode prog_20_method_70_code 58 = .ok (.iload 4, 2) := by decide +kernel
theorem d_MD_same_60 : decode prog_20_method_70_code 60 = .ok (.aload_n 0, 1) := by decide +kernel
theorem d_MD_same_61 : decode prog_20_method_70_code 61 = .ok (.getfield 13, 3) := by decide +kernel
theorem d_MD_same_64 : decode prog_20_method_70_code 64 = .ok (.aload_n 0, 1) := by decide +kernel
theorem d_MD_same_65 : decode prog_20_method_70_code 65 = .ok (.getfield 41, 3) := by decide +kernel
theorem d_MD_same_68 : decode prog_20_method_70_code 68 = .ok (.iload_n 1, 1) := by decide +kernel
theorem d_MD_same_69 : decode prog_20_method_70_code 69 = .ok (.iaload, 1) := by decide +kernel
theorem d_MD_same_70 : decode prog_20_method_70_code 70 = .ok (.iaload, 1) := by decide +kernel
theorem d_MD_same_71 : decode prog_20_method_70_code 71 = .ok (.if_icmp .ge 68, 3) := by decide +kernel
theorem d_MD_same_74 : decode prog_20_method_70_code 74 = .ok (.iload_n 3, 1) := by decide +kernel
theorem d_MD_same_75 : decode prog_20_method_70_code 75 = .ok (.ifCond .eq 64, 3) := by decide +kernel
theorem d_MD_same_78 : decode prog_20_method_70_code 78 = .ok (.aload_n 0, 1) := by decide +kernel
theorem d_MD_same_79 : decode prog_20_method_70_code 79 = .ok (.getfield 20, 3) := by decide +kernel
theorem d_MD_same_82 : decode prog_20_method_70_code 82 = .ok (.bipush 24, 2) := by decide +kernel
theorem d_MD_same_84 : decode prog_20_method_70_code 84 = .ok (.aload_n 0, 1) := by decide +kernel
theorem d_MD_same_85 : decode prog_20_method_70_code 85 = .ok (.getfield 41, 3) := by decide +kernel
theorem d_MD_same_88 : decode prog_20_method_70_code 88 = .ok (.iload_n 1, 1) := by decide +kernel
theorem d_MD_same_89 : decode prog_20_method_70_code 89 = .ok (.iaload, 1) := by decide +kernel
theorem d_MD_same_90 : decode prog_20_method_70_code 90 = .ok (.imul, 1) := by decide +kernel
theorem d_MD_same_91 : decode prog_20_method_70_code 91 = .ok (.iload 4, 2) := by decide +kernel
theorem d_MD_same_93 : decode prog_20_method_70_code 93 = .ok (.iadd, 1) := by decide +kernel
theorem d_MD_same_94 : decode prog_20_method_70_code 94 = .ok (.iaload, 1) := by decide +kernel
theorem d_MD_same_95 : decode prog_20_method_70_code 95 = .ok (.iconst 2, 1) := by decide +kernel
theorem d_MD_same_96 : decode prog_20_method_70_code 96 = .ok (.if_icmp .eq 31, 3) := by decide +kernel
theorem d_MD_same_99 : decode prog_20_method_70_code 99 = .ok (.aload_n 0, 1) := by decide +kernel
theorem d_MD_same_100 : decode prog_20_method_70_code 100 = .ok (.getfield 44, 3) := by decide +kernel
theorem d_MD_same_103 : decode prog_20_method_70_code 103 = .ok (.aload_n 0, 1) := by decide +kernel
theorem d_MD_same_104 : decode prog_20_method_70_code 104 = .ok (.iload_n 1, 1) := by decide +kernel
theorem d_MD_same_105 : decode prog_20_method_70_code 105 = .ok (.iload 4, 2) := by decide +kernel
theorem d_MD_same_107 : decode prog_20_method_70_code 107 = .ok (.invokevirtual 293, 3) := by decide +kernel
theorem d_MD_same_110 : decode prog_20_method_70_code 110 = .ok (.aload_n 0, 1) := by decide +kernel
theorem d_MD_same_111 : decode prog_20_method_70_code 111 = .ok (.getfield 44, 3) := by decide +kernel
theorem d_MD_same_114 : decode prog_20_method_70_code 114 = .ok (.aload_n 0, 1) := by decide +kernel
theorem d_MD_same_115 : decode prog_20_method_70_code 115 = .ok (.iload_n 2, 1) := by decide +kernel
theorem d_MD_same_116 : decode prog_20_method_70_code 116 = .ok (.iload 4, 2) := by decide +kernel
theorem d_MD_same_118 : decode prog_20_method_70_code 118 = .ok (.invokevirtual 293, 3) := by decide +kernel
theorem d_MD_same_121 : decode prog_20_method_70_code 121 = .ok (.invokestatic 226, 3) := by decide +kernel
theorem d_MD_same_124 : decode prog_20_method_70_code 124 = .ok (.ifCond .eq 7, 3) := by decide +kernel
theorem d_MD_same_127 : decode prog_20_method_70_code 127 = .ok (.iconst 1, 1) := by decide +kernel
theorem d_MD_same_128 : decode prog_20_method_70_code 128 = .ok (.goto 4, 3) := by decide +kernel
theorem d_MD_same_131 : decode prog_20_method_70_code 131 = .ok (.iconst 0, 1) := by decide +kernel
theorem d_MD_same_132 : decode prog_20_method_70_code 132 = .ok (.istore_n 3, 1) := by decide +kernel
theorem d_MD_same_133 : decode prog_20_method_70_code 133 = .ok (.iinc 4 1, 3) := by decide +kernel
theorem d_MD_same_136 : decode prog_20_method_70_code 136 = .ok (.goto (-78), 3) := by decide +kernel
theorem d_MD_same_139 : decode prog_20_method_70_code 139 = .ok (.iload_n 3, 1) := by decide +kernel
theorem d_MD_same_140 : decode prog_20_method_70_code 140 = .ok (.ireturn, 1) := by decide +kernel
theorem d_MD_between_0 : decode prog_20_method_71_code 0 = .ok (.iconst 0, 1) := by decide +kernel
theorem d_MD_between_1 : decode prog_20_method_71_code 1 = .ok (.istore 4, 2) := by decide +kernel
theorem d_MD_between_3 : decode prog_20_method_71_code 3 = .ok (.iload 4, 2) := by decide +kernel
theorem d_MD_between_5 : decode prog_20_method_71_code 5 = .ok (.aload_n 0, 1) := by decide +kernel
theorem d_MD_between_6 : decode prog_20_method_71_code 6 = .ok (.getfield 260, 3) := by decide +kernel
theorem d_MD_between_9 : decode prog_20_method_71_code 9 = .ok (.if_icmp .ge 74, 3) := by decide +kernel
theorem d_MD_between_12 : decode prog_20_method_71_code 12 = .ok (.aload_n 0, 1) := by decide +kernel
theorem d_MD_between_13 : decode prog_20_method_71_code 13 = .ok (.getfield 29, 3) := by decide +kernel
theorem d_MD_between_16 : decode prog_20_method_71_code 16 = .ok (.iload 4, 2) := by decide +kernel
theorem d_MD_between_18 : decode prog_20_method_71_code 18 = .ok (.iaload, 1) := by decide +kernel
theorem d_MD_between_19 : decode prog_20_method_71_code 19 = .ok (.iload_n 1, 1) := by decide +kernel
theorem d_MD_between_20 : decode prog_20_method_71_code 20 = .ok (.if_icmp .ne 14, 3) := by decide +kernel
theorem d_MD_between_23 : decode prog_20_method_71_code 23 = .ok (.aload_n 0, 1) := by decide +kernel
theorem d_MD_between_24 : decode prog_20_method_71_code 24 = .ok (.getfield 32, 3) := by decide +kernel
theorem d_MD_between_27 : decode prog_20_method_71_code 27 = .ok (.iload 4, 2) := by decide +kernel
theorem d_MD_between_29 : decode prog_20_method_71_code 29 = .ok (.iaload, 1) := by decide +kernel
theorem d_MD_between_30 : decode prog_20_method_71_code 30 = .ok (.iload_n 2, 1) := by decide +kernel
theorem d_MD_between_31 : decode prog_20_method_71_code 31 = .ok (.if_icmp .eq 25, 3) := by decide +kernel
theorem d_MD_between_34 : decode prog_20_method_71_code 34 = .ok (.aload_n 0, 1) := by decide +kernel
theorem d_MD_between_35 : decode prog_20_method_71_code 35 = .ok (.getfield 29, 3) := by decide +kernel
theorem d_MD_between_38 : decode prog_20_method_71_code 38 = .ok (.iload 4, 2) := by decide +kernel
theorem d_MD_between_40 : decode prog_20_method_71_code 40 = .ok (.iaload, 1) := by decide +kernel
theorem d_MD_between_41 : decode prog_20_method_71_code 41 = .ok (.iload_n 2, 1) := by decide +kernel
theorem d_MD_between_42 : decode prog_20_method_71_code 42 = .ok (.if_icmp .ne 18, 3) := by decide +kernel
theorem d_MD_between_45 : decode prog_20_method_71_code 45 = .ok (.aload_n 0, 1) := by decide +kernel
theorem d_MD_between_46 : decode prog_20_method_71_code 46 = .ok (.getfield 32, 3) := by decide +kernel
theorem d_MD_between_49 : decode prog_20_method_71_code 49 = .ok (.iload 4, 2) := by decide +kernel
theorem d_MD_between_51 : decode prog_20_method_71_code 51 = .ok (.iaload, 1) := by decide +kernel
theorem d_MD_between_52 : decode prog_20_method_71_code 52 = .ok (.iload_n 1, 1) := by decide +kernel
theorem d_MD_between_53 : decode prog_20_method_71_code 53 = .ok (.if_icmp .ne 7, 3) := by decide +kernel
theorem d_MD_between_56 : decode prog_20_method_71_code 56 = .ok (.iconst 1, 1) := by decide +kernel
theorem d_MD_between_57 : decode prog_20_method_71_code 57 = .ok (.goto 4, 3) := by decide +kernel
theorem d_MD_between_60 : decode prog_20_method_71_code 60 = .ok (.iconst 0, 1) := by decide +kernel
theorem d_MD_between_61 : decode prog_20_method_71_code 61 = .ok (.istore 5, 2) := by decide +kernel
theorem d_MD_between_63 : decode prog_20_method_71_code 63 = .ok (.iload 5, 2) := by decide +kernel
theorem d_MD_between_65 : decode prog_20_method_71_code 65 = .ok (.ifCond .eq 12, 3) := by decide +kernel
theorem d_MD_between_68 : decode prog_20_method_71_code 68 = .ok (.iload 4, 2) := by decide +kernel
theorem d_MD_between_70 : decode prog_20_method_71_code 70 = .ok (.iload_n 3, 1) := by decide +kernel
theorem d_MD_between_71 : decode prog_20_method_71_code 71 = .ok (.if_icmp .eq 6, 3) := by decide +kernel
theorem d_MD_between_74 : decode prog_20_method_71_code 74 = .ok (.iload 4, 2) := by decide +kernel
theorem d_MD_between_76 : decode prog_20_method_71_code 76 = .ok (.ireturn, 1) := by decide +kernel
theorem d_MD_between_77 : decode prog_20_method_71_code 77 = .ok (.iinc 4 1, 3) := by decide +kernel
theorem d_MD_between_80 : decode prog_20_method_71_code 80 = .ok (.goto (-77), 3) := by decide +kernel
theorem d_MD_between_83 : decode prog_20_method_71_code 83 = .ok (.iconst (-1), 1) := by decide +kernel
theorem d_MD_between_84 : decode prog_20_method_71_code 84 = .ok (.ireturn, 1) := by decide +kernel
theorem d_MD_findRoute_0 : decode prog_20_method_72_code 0 = .ok (.iload_n 1, 1) := by decide +kernel
theorem d_MD_findRoute_1 : decode prog_20_method_72_code 1 = .ok (.iload_n 2, 1) := by decide +kernel
theorem d_MD_findRoute_2 : decode prog_20_method_72_code 2 = .ok (.if_icmp .ge 7, 3) := by decide +kernel
theorem d_MD_findRoute_5 : decode prog_20_method_72_code 5 = .ok (.iload_n 1, 1) := by decide +kernel
theorem d_MD_findRoute_6 : decode prog_20_method_72_code 6 = .ok (.goto 4, 3) := by decide +kernel
theorem d_MD_findRoute_9 : decode prog_20_method_72_code 9 = .ok (.iload_n 2, 1) := by decide +kernel
theorem d_MD_findRoute_10 : decode prog_20_method_72_code 10 = .ok (.istore 4, 2) := by decide +kernel
theorem d_MD_findRoute_12 : decode prog_20_method_72_code 12 = .ok (.iload_n 1, 1) := by decide +kernel
theorem d_MD_findRoute_13 : decode prog_20_method_72_code 13 = .ok (.iload_n 2, 1) := by decide +kernel
theorem d_MD_findRoute_14 : decode prog_20_method_72_code 14 = .ok (.if_icmp .ge 7, 3) := by decide +kernel
theorem d_MD_findRoute_17 : decode prog_20_method_72_code 17 = .ok (.iload_n 2, 1) := by decide +kernel
theorem d_MD_findRoute_18 : decode prog_20_method_72_code 18 = .ok (.goto 4, 3) := by decide +kernel
theorem d_MD_findRoute_21 : decode prog_20_method_72_code 21 = .ok (.iload_n 1, 1) := by decide +kernel
theorem d_MD_findRoute_22 : decode prog_20_method_72_code 22 = .ok (.istore 5, 2) := by decide +kernel
theorem d_MD_findRoute_24 : decode prog_20_method_72_code 24 = .ok (.iconst 0, 1) := by decide +kernel
theorem d_MD_findRoute_25 : decode prog_20_method_72_code 25 = .ok (.istore 6, 2) := by decide +kernel
theorem d_MD_findRoute_27 : decode prog_20_method_72_code 27 = .ok (.iload 6, 2) := by decide +kernel
theorem d_MD_findRoute_29 : decode prog_20_method_72_code 29 = .ok (.aload_n 0, 1) := by decide +kernel
theorem d_MD_findRoute_30 : decode prog_20_method_72_code 30 = .ok (.getfield 7, 3) := by decide +kernel
theorem d_MD_findRoute_33 : decode prog_20_method_72_code 33 = .ok (.if_icmp .ge 29, 3) := by decide +kernel
theorem d_MD_findRoute_36 : decode prog_20_method_72_code 36 = .ok (.aload_n 0, 1) := by decide +kernel
theorem d_MD_findRoute_37 : decode prog_20_method_72_code 37 = .ok (.getfield 92, 3) := by decide +kernel
theorem d_MD_findRoute_40 : decode prog_20_method_72_code 40 = .ok (.iload 6, 2) := by decide +kernel
theorem d_MD_findRoute_42 : decode prog_20_method_72_code 42 = .ok (.iload 6, 2) := by decide +kernel
theorem d_MD_findRoute_44 : decode prog_20_method_72_code 44 = .ok (.iload 5, 2) := by decide +kernel
theorem d_MD_findRoute_46 : decode prog_20_method_72_code 46 = .ok (.if_icmp .ne 7, 3) := by decide +kernel
theorem d_MD_findRoute_49 : decode prog_20_method_72_code 49 = .ok (.iconst 0, 1) := by decide +kernel
theorem d_MD_findRoute_50 : decode prog_20_method_72_code 50 = .ok (.goto 5, 3) := by decide +kernel
theorem d_MD_findRoute_53 : decode prog_20_method_72_code 53 = .ok (.bipush 100, 2) := by decide +kernel
theorem d_MD_findRoute_55 : decode prog_20_method_72_code 55 = .ok (.iastore, 1) := by decide +kernel
theorem d_MD_findRoute_56 : decode prog_20_method_72_code 56 = .ok (.iinc 6 1, 3) := by decide +kernel
theorem d_MD_findRoute_59 : decode prog_20_method_72_code 59 = .ok (.goto (-32), 3) := by decide +kernel
theorem d_MD_findRoute_62 : decode prog_20_method_72_code 62 = .ok (.iconst 0, 1) := by decide +kernel
theorem d_MD_findRoute_63 : decode prog_20_method_72_code 63 = .ok (.istore 6, 2) := by decide +kernel
theorem d_MD_findRoute_65 : decode prog_20_method_72_code 65 = .ok (.iload 6, 2) := by decide +kernel
theorem d_MD_findRoute_67 : decode prog_20_method_72_code 67 = .ok (.aload_n 0, 1) := by decide +kernel
theorem d_MD_findRoute_68 : decode prog_20_method_72_code 68 = .ok (.getfield 7, 3) := by decide +kernel
theorem d_MD_findRoute_71 : decode prog_20_method_72_code 71 = .ok (.if_icmp .ge 92, 3) := by decide +kernel
theorem d_MD_findRoute_74 : decode prog_20_method_72_code 74 = .ok (.iconst 0, 1) := by decide +kernel
theorem d_MD_findRoute_75 : decode prog_20_method_72_code 75 = .ok (.istore 7, 2) := by decide +kernel
theorem d_MD_findRoute_77 : decode prog_20_method_72_code 77 = .ok (.iload 7, 2) := by decide +kernel
theorem d_MD_findRoute_79 : decode prog_20_method_72_code 79 = .ok (.aload_n 0, 1) := by decide +kernel
theorem d_MD_findRoute_80 : decode prog_20_method_72_code 80 = .ok (.getfield 7, 3) := by decide +kernel
theorem d_MD_findRoute_83 : decode prog_20_method_72_code 83 = .ok (.if_icmp .ge 74, 3) := by decide +kernel
theorem d_MD_findRoute_86 : decode prog_20_method_72_code 86 = .ok (.iconst 0, 1) := by decide +kernel
theorem d_MD_findRoute_87 : decode prog_20_method_72_code 87 = .ok (.istore 8, 2) := by decide +kernel
theorem d_MD_findRoute_89 : decode prog_20_method_72_code 89 = .ok (.iload 8, 2) := by decide +kernel
theorem d_MD_findRoute_91 : decode prog_20_method_72_code 91 = .ok (.aload_n 0, 1) := by decide +kernel
theorem d_MD_findRoute_92 : decode prog_20_method_72_code 92 = .ok (.getfield 7, 3) := by decide +kernel
theorem d_MD_findRoute_95 : decode prog_20_method_72_code 95 = .ok (.if_icmp .ge 56, 3) := by decide +kernel
theorem d_MD_findRoute_98 : decode prog_20_method_72_code 98 = .ok (.aload_n 0, 1) := by decide +kernel
theorem d_MD_findRoute_99 : decode prog_20_method_72_code 99 = .ok (.iload 7, 2) := by decide +kernel
theorem d_MD_findRoute_101 : decode prog_20_method_72_code 101 = .ok (.iload 8, 2) := by decide +kernel
theorem d_MD_findRoute_103 : decode prog_20_method_72_code 103 = .ok (.iload_n 3, 1) := by decide +kernel
theorem d_MD_findRoute_104 : decode prog_20_method_72_code 104 = .ok (.invokevirtual 296, 3) := by decide +kernel
theorem d_MD_findRoute_107 : decode prog_20_method_72_code 107 = .ok (.ifCond .lt 38, 3) := by decide +kernel
theorem d_MD_findRoute_110 : decode prog_20_method_72_code 110 = .ok (.aload_n 0, 1) := by decide +kernel
theorem d_MD_findRoute_111 : decode prog_20_method_72_code 111 = .ok (.getfield 92, 3) := by decide +kernel
theorem d_MD_findRoute_114 : decode prog_20_method_72_code 114 = .ok (.iload 8, 2) := by decide +kernel
theorem d_MD_findRoute_116 : decode prog_20_method_72_code 116 = .ok (.iaload, 1) := by decide +kernel
theorem d_MD_findRoute_117 : decode prog_20_method_72_code 117 = .ok (.iconst 1, 1) := by decide +kernel
theorem d_MD_findRoute_118 : decode prog_20_method_72_code 118 = .ok (.iadd, 1) := by decide +kernel
theorem d_MD_findRoute_119 : decode prog_20_method_72_code 119 = .ok (.aload_n 0, 1) := by decide +kernel
theorem d_MD_findRoute_120 : decode prog_20_method_72_code 120 = .ok (.getfield 92, 3) := by decide +kernel
theorem d_MD_findRoute_123 : decode prog_20_method_72_code 123 = .ok (.iload 7, 2) := by decide +kernel
theorem d_MD_findRoute_125 : decode prog_20_method_72_code 125 = .ok (.iaload, 1) := by decide +kernel
theorem d_MD_findRoute_126 : decode prog_20_method_72_code 126 = .ok (.if_icmp .ge 19, 3) := by decide +kernel
theorem d_MD_findRoute_129 : decode prog_20_method_72_code 129 = .ok (.aload_n 0, 1) := by decide +kernel
theorem d_MD_findRoute_130 : decode prog_20_method_72_code 130 = .ok (.getfield 92, 3) := by decide +kernel
theorem d_MD_findRoute_133 : decode prog_20_method_72_code 133 = .ok (.iload 7, 2) := by decide +kernel
theorem d_MD_findRoute_135 : decode prog_20_method_72_code 135 = .ok (.aload_n 0, 1) := by decide +kernel
theorem d_MD_findRoute_136 : decode prog_20_method_72_code 136 = .ok (.getfield 92, 3) := by decide +kernel
theorem d_MD_findRoute_139 : decode prog_20_method_72_code 139 = .ok (.iload 8, 2) := by decide +kernel
theorem d_MD_findRoute_141 : decode prog_20_method_72_code 141 = .ok (.iaload, 1) := by decide +kernel
theorem d_MD_findRoute_142 : decode prog_20_method_72_code 142 = .ok (.iconst 1, 1) := by decide +kernel
theorem d_MD_findRoute_143 : decode prog_20_method_72_code 143 = .ok (.iadd, 1) := by decide +kernel
theorem d_MD_findRoute_144 : decode prog_20_method_72_code 144 = .ok (.iastore, 1) := by decide +kernel
theorem d_MD_findRoute_145 : decode prog_20_method_72_code 145 = .ok (.iinc 8 1, 3) := by decide +kernel
theorem d_MD_findRoute_148 : decode prog_20_method_72_code 148 = .ok (.goto (-59), 3) := by decide +kernel
theorem d_MD_findRoute_151 : decode prog_20_method_72_code 151 = .ok (.iinc 7 1, 3) := by decide +kernel
theorem d_MD_findRoute_154 : decode prog_20_method_72_code 154 = .ok (.goto (-77), 3) := by decide +kernel
theorem d_MD_findRoute_157 : decode prog_20_method_72_code 157 = .ok (.iinc 6 1, 3) := by decide +kernel
theorem d_MD_findRoute_160 : decode prog_20_method_72_code 160 = .ok (.goto (-95), 3) := by decide +kernel
theorem d_MD_findRoute_163 : decode prog_20_method_72_code 163 = .ok (.aload_n 0, 1) := by decide +kernel
theorem d_MD_findRoute_164 : decode prog_20_method_72_code 164 = .ok (.getfield 92, 3) := by decide +kernel
theorem d_MD_findRoute_167 : decode prog_20_method_72_code 167 = .ok (.iload 4, 2) := by decide +kernel
theorem d_MD_findRoute_169 : decode prog_20_method_72_code 169 = .ok (.iaload, 1) := by decide +kernel
theorem d_MD_findRoute_170 : decode prog_20_method_72_code 170 = .ok (.bipush 100, 2) := by decide +kernel
theorem d_MD_findRoute_172 : decode prog_20_method_72_code 172 = .ok (.if_icmp .lt 5, 3) := by decide +kernel
theorem d_MD_findRoute_175 : decode prog_20_method_72_code 175 = .ok (.iconst 0, 1) := by decide +kernel
theorem d_MD_findRoute_176 : decode prog_20_method_72_code 176 = .ok (.ireturn, 1) := by decide +kernel
theorem d_MD_findRoute_177 : decode prog_20_method_72_code 177 = .ok (.aload_n 0, 1) := by decide +kernel
theorem d_MD_findRoute_178 : decode prog_20_method_72_code 178 = .ok (.iconst 1, 1) := by decide +kernel
theorem d_MD_findRoute_179 : decode prog_20_method_72_code 179 = .ok (.putfield 299, 3) := by decide +kernel
theorem d_MD_findRoute_182 : decode prog_20_method_72_code 182 = .ok (.aload_n 0, 1) := by decide +kernel
theorem d_MD_findRoute_183 : decode prog_20_method_72_code 183 = .ok (.getfield 86, 3) := by decide +kernel
theorem d_MD_findRoute_186 : decode prog_20_method_72_code 186 = .ok (.iconst 0, 1) := by decide +kernel
theorem d_MD_findRoute_187 : decode prog_20_method_72_code 187 = .ok (.iload 4, 2) := by decide +kernel
theorem d_MD_findRoute_189 : decode prog_20_method_72_code 189 = .ok (.iastore, 1) := by decide +kernel
theorem d_MD_findRoute_190 : decode prog_20_method_72_code 190 = .ok (.aload_n 0, 1) := by decide +kernel
theorem d_MD_findRoute_191 : decode prog_20_method_72_code 191 = .ok (.getfield 86, 3) := by decide +kernel
theorem d_MD_findRoute_194 : decode prog_20_method_72_code 194 = .ok (.aload_n 0, 1) := by decide +kernel
theorem d_MD_findRoute_195 : decode prog_20_method_72_code 195 = .ok (.getfield 299, 3) := by decide +kernel
theorem d_MD_findRoute_198 : decode prog_20_method_72_code 198 = .ok (.iconst 1, 1) := by decide +kernel
theorem d_MD_findRoute_199 : decode prog_20_method_72_code 199 = .ok (.isub, 1) := by decide +kernel
theorem d_MD_findRoute_200 : decode prog_20_method_72_code 200 = .ok (.iaload, 1) := by decide +kernel
theorem d_MD_findRoute_201 : decode prog_20_method_72_code 201 = .ok (.iload 5, 2) := by decide +kernel
theorem d_MD_findRoute_203 : decode prog_20_method_72_code 203 = .ok (.if_icmp .eq 100, 3) := by decide +kernel
theorem d_MD_findRoute_206 : decode prog_20_method_72_code 206 = .ok (.aload_n 0, 1) := by decide +kernel
theorem d_MD_findRoute_207 : decode prog_20_method_72_code 207 = .ok (.getfield 86, 3) := by decide +kernel
theorem d_MD_findRoute_210 : decode prog_20_method_72_code 210 = .ok (.aload_n 0, 1) := by decide +kernel
theorem d_MD_findRoute_211 : decode prog_20_method_72_code 211 = .ok (.getfield 299, 3) := by decide +kernel
theorem d_MD_findRoute_214 : decode prog_20_method_72_code 214 = .ok (.iconst 1, 1) := by decide +kernel
theorem d_MD_findRoute_215 : decode prog_20_method_72_code 215 = .ok (.isub, 1) := by decide +kernel
theorem d_MD_findRoute_216 : decode prog_20_method_72_code 216 = .ok (.iaload, 1) := by decide +kernel
theorem d_MD_findRoute_217 : decode prog_20_method_72_code 217 = .ok (.istore 6, 2) := by decide +kernel
theorem d_MD_findRoute_219 : decode prog_20_method_72_code 219 = .ok (.iconst 0, 1) := by decide +kernel
theorem d_MD_findRoute_220 : decode prog_20_method_72_code 220 = .ok (.istore 7, 2) := by decide +kernel
theorem d_MD_findRoute_222 : decode prog_20_method_72_code 222 = .ok (.aload_n 0, 1) := by decide +kernel
theorem d_MD_findRoute_223 : decode prog_20_method_72_code 223 = .ok (.iload 6, 2) := by decide +kernel
theorem d_MD_findRoute_225 : decode prog_20_method_72_code 225 = .ok (.iload 7, 2) := by decide +kernel
theorem d_MD_findRoute_227 : decode prog_20_method_72_code 227 = .ok (.iload_n 3, 1) := by decide +kernel
theorem d_MD_findRoute_228 : decode prog_20_method_72_code 228 = .ok (.invokevirtual 296, 3) := by decide +kernel
theorem d_MD_findRoute_231 : decode prog_20_method_72_code 231 = .ok (.ifCond .lt 22, 3) := by decide +kernel
theorem d_MD_findRoute_234 : decode prog_20_method_72_code 234 = .ok (.aload_n 0, 1) := by decide +kernel
theorem d_MD_findRoute_235 : decode prog_20_method_72_code 235 = .ok (.getfield 92, 3) := by decide +kernel
theorem d_MD_findRoute_238 : decode prog_20_method_72_code 238 = .ok (.iload 7, 2) := by decide +kernel
theorem d_MD_findRoute_240 : decode prog_20_method_72_code 240 = .ok (.iaload, 1) := by decide +kernel
theorem d_MD_findRoute_241 : decode prog_20_method_72_code 241 = .ok (.aload_n 0, 1) := by decide +kernel
theorem d_MD_findRoute_242 : decode prog_20_method_72_code 242 = .ok (.getfield 92, 3) := by decide +kernel
theorem d_MD_findRoute_245 : decode prog_20_method_72_code 245 = .ok (.iload 6, 2) := by decide +kernel
theorem d_MD_findRoute_247 : decode prog_20_method_72_code 247 = .ok (.iaload, 1) := by decide +kernel
theorem d_MD_findRoute_248 : decode prog_20_method_72_code 248 = .ok (.iconst 1, 1) := by decide +kernel
theorem d_MD_findRoute_249 : decode prog_20_method_72_code 249 = .ok (.isub, 1) := by decide +kernel
theorem d_MD_findRoute_250 : decode prog_20_method_72_code 250 = .ok (.if_icmp .eq 9, 3) := by decide +kernel
theorem d_MD_findRoute_253 : decode prog_20_method_72_code 253 = .ok (.iinc 7 1, 3) := by decide +kernel
theorem d_MD_findRoute_256 : decode prog_20_method_72_code 256 = .ok (.goto (-34), 3) := by decide +kernel
theorem d_MD_findRoute_259 : decode prog_20_method_72_code 259 = .ok (.aload_n 0, 1) := by decide +kernel
theorem d_MD_findRoute_260 : decode prog_20_method_72_code 260 = .ok (.getfield 89, 3) := by decide +kernel
theorem d_MD_findRoute_263 : decode prog_20_method_72_code 263 = .ok (.aload_n 0, 1) := by decide +kernel
theorem d_MD_findRoute_264 : decode prog_20_method_72_code 264 = .ok (.getfield 299, 3) := by decide +kernel
theorem d_MD_findRoute_267 : decode prog_20_method_72_code 267 = .ok (.iconst 1, 1) := by decide +kernel
theorem d_MD_findRoute_268 : decode prog_20_method_72_code 268 = .ok (.isub, 1) := by decide +kernel
theorem d_MD_findRoute_269 : decode prog_20_method_72_code 269 = .ok (.aload_n 0, 1) := by decide +kernel
theorem d_MD_findRoute_270 : decode prog_20_method_72_code 270 = .ok (.iload 6, 2) := by decide +kernel
theorem d_MD_findRoute_272 : decode prog_20_method_72_code 272 = .ok (.iload 7, 2) := by decide +kernel
theorem d_MD_findRoute_274 : decode prog_20_method_72_code 274 = .ok (.iload_n 3, 1) := by decide +kernel
theorem d_MD_findRoute_275 : decode prog_20_method_72_code 275 = .ok (.invokevirtual 296, 3) := by decide +kernel
theorem d_MD_findRoute_278 : decode prog_20_method_72_code 278 = .ok (.iastore, 1) := by decide +kernel
theorem d_MD_findRoute_279 : decode prog_20_method_72_code 279 = .ok (.aload_n 0, 1) := by decide +kernel
theorem d_MD_findRoute_280 : decode prog_20_method_72_code 280 = .ok (.getfield 86, 3) := by decide +kernel
theorem d_MD_findRoute_283 : decode prog_20_method_72_code 283 = .ok (.aload_n 0, 1) := by decide +kernel
theorem d_MD_findRoute_284 : decode prog_20_method_72_code 284 = .ok (.getfield 299, 3) := by decide +kernel
theorem d_MD_findRoute_287 : decode prog_20_method_72_code 287 = .ok (.iload 7, 2) := by decide +kernel
theorem d_MD_findRoute_289 : decode prog_20_method_72_code 289 = .ok (.iastore, 1) := by decide +kernel
theorem d_MD_findRoute_290 : decode prog_20_method_72_code 290 = .ok (.aload_n 0, 1) := by decide +kernel
theorem d_MD_findRoute_291 : decode prog_20_method_72_code 291 = .ok (.dup, 1) := by decide +kernel
theorem d_MD_findRoute_292 : decode prog_20_method_72_code 292 = .ok (.getfield 299, 3) := by decide +kernel
theorem d_MD_findRoute_295 : decode prog_20_method_72_code 295 = .ok (.iconst 1, 1) := by decide +kernel
theorem d_MD_findRoute_296 : decode prog_20_method_72_code 296 = .ok (.iadd, 1) := by decide +kernel
theorem d_MD_findRoute_297 : decode prog_20_method_72_code 297 = .ok (.putfield 299, 3) := by decide +kernel
theorem d_MD_findRoute_300 : decode prog_20_method_72_code 300 = .ok (.goto (-110), 3) := by decide +kernel
theorem d_MD_findRoute_303 : decode prog_20_method_72_code 303 = .ok (.iload_n 1, 1) := by decide +kernel
theorem d_MD_findRoute_304 : decode prog_20_method_72_code 304 = .ok (.iload_n 2, 1) := by decide +kernel
theorem d_MD_findRoute_305 : decode prog_20_method_72_code 305 = .ok (.if_icmp .le 7, 3) := by decide +kernel
theorem d_MD_findRoute_308 : decode prog_20_method_72_code 308 = .ok (.aload_n 0, 1) := by decide +kernel
theorem d_MD_findRoute_309 : decode prog_20_method_72_code 309 = .ok (.invokevirtual 302, 3) := by decide +kernel
theorem d_MD_findRoute_312 : decode prog_20_method_72_code 312 = .ok (.iconst 1, 1) := by decide +kernel
theorem d_MD_findRoute_313 : decode prog_20_method_72_code 313 = .ok (.ireturn, 1) := by decide +kernel
theorem d_MD_turnRoute_0 : decode prog_20_method_73_code 0 = .ok (.iconst 0, 1) := by decide +kernel
theorem d_MD_turnRoute_1 : decode prog_20_method_73_code 1 = .ok (.istore_n 1, 1) := by decide +kernel
theorem d_MD_turnRoute_2 : decode prog_20_method_73_code 2 = .ok (.iload_n 1, 1) := by decide +kernel
theorem d_MD_turnRoute_3 : decode prog_20_method_73_code 3 = .ok (.aload_n 0, 1) := by decide +kernel
theorem d_MD_turnRoute_4 : decode prog_20_method_73_code 4 = .ok (.getfield 299, 3) := by decide +kernel
theorem d_MD_turnRoute_7 : decode prog_20_method_73_code 7 = .ok (.iconst 2, 1) := by decide +kernel
theorem d_MD_turnRoute_8 : decode prog_20_method_73_code 8 = .ok (.idiv, 1) := by decide +kernel
theorem d_MD_turnRoute_9 : decode prog_20_method_73_code 9 = .ok (.if_icmp .ge 49, 3) := by decide +kernel
theorem d_MD_turnRoute_12 : decode prog_20_method_73_code 12 = .ok (.aload_n 0, 1) := by decide +kernel
theorem d_MD_turnRoute_13 : decode prog_20_method_73_code 13 = .ok (.getfield 86, 3) := by decide +kernel
theorem d_MD_turnRoute_16 : decode prog_20_method_73_code 16 = .ok (.iload_n 1, 1) := by decide +kernel
theorem d_MD_turnRoute_17 : decode prog_20_method_73_code 17 = .ok (.iaload, 1) := by decide +kernel
theorem d_MD_turnRoute_18 : decode prog_20_method_73_code 18 = .ok (.istore_n 2, 1) := by decide +kernel
theorem d_MD_turnRoute_19 : decode prog_20_method_73_code 19 = .ok (.aload_n 0, 1) := by decide +kernel
theorem d_MD_turnRoute_20 : decode prog_20_method_73_code 20 = .ok (.getfield 86, 3) := by decide +kernel
theorem d_MD_turnRoute_23 : decode prog_20_method_73_code 23 = .ok (.iload_n 1, 1) := by decide +kernel
theorem d_MD_turnRoute_24 : decode prog_20_method_73_code 24 = .ok (.aload_n 0, 1) := by decide +kernel
theorem d_MD_turnRoute_25 : decode prog_20_method_73_code 25 = .ok (.getfield 86, 3) := by decide +kernel
theorem d_MD_turnRoute_28 : decode prog_20_method_73_code 28 = .ok (.aload_n 0, 1) := by decide +kernel
theorem d_MD_turnRoute_29 : decode prog_20_method_73_code 29 = .ok (.getfield 299, 3) := by decide +kernel
theorem d_MD_turnRoute_32 : decode prog_20_method_73_code 32 = .ok (.iconst 1, 1) := by decide +kernel
theorem d_MD_turnRoute_33 : decode prog_20_method_73_code 33 = .ok (.isub, 1) := by decide +kernel
theorem d_MD_turnRoute_34 : decode prog_20_method_73_code 34 = .ok (.iload_n 1, 1) := by decide +kernel
theorem d_MD_turnRoute_35 : decode prog_20_method_73_code 35 = .ok (.isub, 1) := by decide +kernel
theorem d_MD_turnRoute_36 : decode prog_20_method_73_code 36 = .ok (.iaload, 1) := by decide +kernel
theorem d_MD_turnRoute_37 : decode prog_20_method_73_code 37 = .ok (.iastore, 1) := by decide +kernel
theorem d_MD_turnRoute_38 : decode prog_20_method_73_code 38 = .ok (.aload_n 0, 1) := by decide +kernel
theorem d_MD_turnRoute_39 : decode prog_20_method_73_code 39 = .ok (.getfield 86, 3) := by decide +kernel
theorem d_MD_turnRoute_42 : decode prog_20_method_73_code 42 = .ok (.aload_n 0, 1) := by decide +kernel
theorem d_MD_turnRoute_43 : decode prog_20_method_73_code 43 = .ok (.getfield 299, 3) := by decide +kernel
theorem d_MD_turnRoute_46 : decode prog_20_method_73_code 46 = .ok (.iconst 1, 1) := by decide +kernel
theorem d_MD_turnRoute_47 : decode prog_20_method_73_code 47 = .ok (.isub, 1) := by decide +kernel
theorem d_MD_turnRoute_48 : decode prog_20_method_73_code 48 = .ok (.iload_n 1, 1) := by decide +kernel
theorem d_MD_turnRoute_49 : decode prog_20_method_73_code 49 = .ok (.isub, 1) := by decide +kernel
theorem d_MD_turnRoute_50 : decode prog_20_method_73_code 50 = .ok (.iload_n 2, 1) := by decide +kernel
theorem d_MD_turnRoute_51 : decode prog_20_method_73_code 51 = .ok (.iastore, 1) := by decide +kernel
theorem d_MD_turnRoute_52 : decode prog_20_method_73_code 52 = .ok (.iinc 1 1, 3) := by decide +kernel
theorem d_MD_turnRoute_55 : decode prog_20_method_73_code 55 = .ok (.goto (-53), 3) := by decide +kernel
theorem d_MD_turnRoute_58 : decode prog_20_method_73_code 58 = .ok (.iconst 0, 1) := by decide +kernel
theorem d_MD_turnRoute_59 : decode prog_20_method_73_code 59 = .ok (.istore_n 1, 1) := by decide +kernel
theorem d_MD_turnRoute_60 : decode prog_20_method_73_code 60 = .ok (.iload_n 1, 1) := by decide +kernel
theorem d_MD_turnRoute_61 : decode prog_20_method_73_code 61 = .ok (.aload_n 0, 1) := by decide +kernel
theorem d_MD_turnRoute_62 : decode prog_20_method_73_code 62 = .ok (.getfield 299, 3) := by decide +kernel
theorem d_MD_turnRoute_65 : decode prog_20_method_73_code 65 = .ok (.iconst 1, 1) := by decide +kernel
theorem d_MD_turnRoute_66 : decode prog_20_method_73_code 66 = .ok (.isub, 1) := by decide +kernel
theorem d_MD_turnRoute_67 : decode prog_20_method_73_code 67 = .ok (.iconst 2, 1) := by decide +kernel
theorem d_MD_turnRoute_68 : decode prog_20_method_73_code 68 = .ok (.idiv, 1) := by decide +kernel
theorem d_MD_turnRoute_69 : decode prog_20_method_73_code 69 = .ok (.if_icmp .ge 49, 3) := by decide +kernel
theorem d_MD_turnRoute_72 : decode prog_20_method_73_code 72 = .ok (.aload_n 0, 1) := by decide +kernel
theorem d_MD_turnRoute_73 : decode prog_20_method_73_code 73 = .ok (.getfield 89, 3) := by decide +kernel
theorem d_MD_turnRoute_76 : decode prog_20_method_73_code 76 = .ok (.iload_n 1, 1) := by decide +kernel
theorem d_MD_turnRoute_77 : decode prog_20_method_73_code 77 = .ok (.iaload, 1) := by decide +kernel
theorem d_MD_turnRoute_78 : decode prog_20_method_73_code 78 = .ok (.istore_n 2, 1) := by decide +kernel
theorem d_MD_turnRoute_79 : decode prog_20_method_73_code 79 = .ok (.aload_n 0, 1) := by decide +kernel
theorem d_MD_turnRoute_80 : decode prog_20_method_73_code 80 = .ok (.getfield 89, 3) := by decide +kernel
theorem d_MD_turnRoute_83 : decode prog_20_method_73_code 83 = .ok (.iload_n 1, 1) := by decide +kernel
theorem d_MD_turnRoute_84 : decode prog_20_method_73_code 84 = .ok (.aload_n 0, 1) := by decide +kernel
theorem d_MD_turnRoute_85 : decode prog_20_method_73_code 85 = .ok (.getfield 89, 3) := by decide +kernel
theorem d_MD_turnRoute_88 : decode prog_20_method_73_code 88 = .ok (.aload_n 0, 1) := by decide +kernel
theorem d_MD_turnRoute_89 : decode prog_20_method_73_code 89 = .ok (.getfield 299, 3) := by decide +kernel
theorem d_MD_turnRoute_92 : decode prog_20_method_73_code 92 = .ok (.iconst 2, 1) := by decide +kernel
theorem d_MD_turnRoute_93 : decode prog_20_method_73_code 93 = .ok (.isub, 1) := by decide +kernel
theorem d_MD_turnRoute_94 : decode prog_20_method_73_code 94 = .ok (.iload_n 1, 1) := by decide +kernel
theorem d_MD_turnRoute_95 : decode prog_20_method_73_code 95 = .ok (.isub, 1) := by decide +kernel
theorem d_MD_turnRoute_96 : decode prog_20_method_73_code 96 = .ok (.iaload, 1) := by decide +kernel
theorem d_MD_turnRoute_97 : decode prog_20_method_73_code 97 = .ok (.iastore, 1) := by decide +kernel
theorem d_MD_turnRoute_98 : decode prog_20_method_73_code 98 = .ok (.aload_n 0, 1) := by decide +kernel
theorem d_MD_turnRoute_99 : decode prog_20_method_73_code 99 = .ok (.getfield 89, 3) := by decide +kernel
theorem d_MD_turnRoute_102 : decode prog_20_method_73_code 102 = .ok (.aload_n 0, 1) := by decide +kernel
theorem d_MD_turnRoute_103 : decode prog_20_method_73_code 103 = .ok (.getfield 299, 3) := by decide +kernel
theorem d_MD_turnRoute_106 : decode prog_20_method_73_code 106 = .ok (.iconst 2, 1) := by decide +kernel
theorem d_MD_turnRoute_107 : decode prog_20_method_73_code 107 = .ok (.isub, 1) := by decide +kernel
theorem d_MD_turnRoute_108 : decode prog_20_method_73_code 108 = .ok (.iload_n 1, 1) := by decide +kernel
theorem d_MD_turnRoute_109 : decode prog_20_method_73_code 109 = .ok (.isub, 1) := by decide +kernel
theorem d_MD_turnRoute_110 : decode prog_20_method_73_code 110 = .ok (.iload_n 2, 1) := by decide +kernel
theorem d_MD_turnRoute_111 : decode prog_20_method_73_code 111 = .ok (.iastore, 1) := by decide +kernel
theorem d_MD_turnRoute_112 : decode prog_20_method_73_code 112 = .ok (.iinc 1 1, 3) := by decide +kernel
theorem d_MD_turnRoute_115 : decode prog_20_method_73_code 115 = .ok (.goto (-55), 3) := by decide +kernel
theorem d_MD_turnRoute_118 : decode prog_20_method_73_code 118 = .ok (.return_, 1) := by decide +kernel
theorem d_MD_goRoute_0 : decode prog_20_method_74_code 0 = .ok (.iconst 0, 1) := by decide +kernel
theorem d_MD_goRoute_1 : decode prog_20_method_74_code 1 = .ok (.istore_n 1, 1) := by decide +kernel
theorem d_MD_goRoute_2 : decode prog_20_method_74_code 2 = .ok (.iload_n 1, 1) := by decide +kernel
theorem d_MD_goRoute_3 : decode prog_20_method_74_code 3 = .ok (.iconst 1, 1) := by decide +kernel
theorem d_MD_goRoute_4 : decode prog_20_method_74_code 4 = .ok (.iadd, 1) := by decide +kernel
theorem d_MD_goRoute_5 : decode prog_20_method_74_code 5 = .ok (.aload_n 0, 1) := by decide +kernel
theorem d_MD_goRoute_6 : decode prog_20_method_74_code 6 = .ok (.getfield 299, 3) := by decide +kernel
theorem d_MD_goRoute_9 : decode prog_20_method_74_code 9 = .ok (.if_icmp .ge 87, 3) := by decide +kernel
theorem d_MD_goRoute_12 : decode prog_20_method_74_code 12 = .ok (.aload_n 0, 1) := by decide +kernel
theorem d_MD_goRoute_13 : decode prog_20_method_74_code 13 = .ok (.getfield 89, 3) := by decide +kernel
theorem d_MD_goRoute_16 : decode prog_20_method_74_code 16 = .ok (.iload_n 1, 1) := by decide +kernel
theorem d_MD_goRoute_17 : decode prog_20_method_74_code 17 = .ok (.iaload, 1) := by decide +kernel
theorem d_MD_goRoute_18 : decode prog_20_method_74_code 18 = .ok (.istore_n 2, 1) := by decide +kernel
theorem d_MD_goRoute_19 : decode prog_20_method_74_code 19 = .ok (.aload_n 0, 1) := by decide +kernel
theorem d_MD_goRoute_20 : decode prog_20_method_74_code 20 = .ok (.getfield 29, 3) := by decide +kernel
theorem d_MD_goRoute_23 : decode prog_20_method_74_code 23 = .ok (.iload_n 2, 1) := by decide +kernel
theorem d_MD_goRoute_24 : decode prog_20_method_74_code 24 = .ok (.iaload, 1) := by decide +kernel
theorem d_MD_goRoute_25 : decode prog_20_method_74_code 25 = .ok (.aload_n 0, 1) := by decide +kernel
theorem d_MD_goRoute_26 : decode prog_20_method_74_code 26 = .ok (.getfield 86, 3) := by decide +kernel
theorem d_MD_goRoute_29 : decode prog_20_method_74_code 29 = .ok (.iload_n 1, 1) := by decide +kernel
theorem d_MD_goRoute_30 : decode prog_20_method_74_code 30 = .ok (.iaload, 1) := by decide +kernel
theorem d_MD_goRoute_31 : decode prog_20_method_74_code 31 = .ok (.if_icmp .ne 7, 3) := by decide +kernel
theorem d_MD_goRoute_34 : decode prog_20_method_74_code 34 = .ok (.iconst 1, 1) := by decide +kernel
theorem d_MD_goRoute_35 : decode prog_20_method_74_code 35 = .ok (.goto 4, 3) := by decide +kernel
theorem d_MD_goRoute_38 : decode prog_20_method_74_code 38 = .ok (.iconst 0, 1) := by decide +kernel
theorem d_MD_goRoute_39 : decode prog_20_method_74_code 39 = .ok (.istore_n 3, 1) := by decide +kernel
theorem d_MD_goRoute_40 : decode prog_20_method_74_code 40 = .ok (.iconst 0, 1) := by decide +kernel
theorem d_MD_goRoute_41 : decode prog_20_method_74_code 41 = .ok (.istore 4, 2) := by decide +kernel
theorem d_MD_goRoute_43 : decode prog_20_method_74_code 43 = .ok (.iload 4, 2) := by decide +kernel
theorem d_MD_goRoute_45 : decode prog_20_method_74_code 45 = .ok (.aload_n 0, 1) := by decide +kernel
theorem d_MD_goRoute_46 : decode prog_20_method_74_code 46 = .ok (.getfield 35, 3) := by decide +kernel
theorem d_MD_goRoute_49 : decode prog_20_method_74_code 49 = .ok (.iload_n 2, 1) := by decide +kernel
theorem d_MD_goRoute_50 : decode prog_20_method_74_code 50 = .ok (.iaload, 1) := by decide +kernel
theorem d_MD_goRoute_51 : decode prog_20_method_74_code 51 = .ok (.if_icmp .ge 39, 3) := by decide +kernel
theorem d_MD_goRoute_54 : decode prog_20_method_74_code 54 = .ok (.iload_n 3, 1) := by decide +kernel
theorem d_MD_goRoute_55 : decode prog_20_method_74_code 55 = .ok (.ifCond .eq 13, 3) := by decide +kernel
theorem d_MD_goRoute_58 : decode prog_20_method_74_code 58 = .ok (.aload_n 0, 1) := by decide +kernel
theorem d_MD_goRoute_59 : decode prog_20_method_74_code 59 = .ok (.iload_n 2, 1) := by decide +kernel
theorem d_MD_goRoute_60 : decode prog_20_method_74_code 60 = .ok (.iload 4, 2) := by decide +kernel
theorem d_MD_goRoute_62 : decode prog_20_method_74_code 62 = .ok (.invokevirtual 263, 3) := by decide +kernel
theorem d_MD_goRoute_65 : decode prog_20_method_74_code 65 = .ok (.goto 19, 3) := by decide +kernel
theorem d_MD_goRoute_68 : decode prog_20_method_74_code 68 = .ok (.aload_n 0, 1) := by decide +kernel
theorem d_MD_goRoute_69 : decode prog_20_method_74_code 69 = .ok (.iload_n 2, 1) := by decide +kernel
theorem d_MD_goRoute_70 : decode prog_20_method_74_code 70 = .ok (.aload_n 0, 1) := by decide +kernel
theorem d_MD_goRoute_71 : decode prog_20_method_74_code 71 = .ok (.getfield 35, 3) := by decide +kernel
theorem d_MD_goRoute_74 : decode prog_20_method_74_code 74 = .ok (.iload_n 2, 1) := by decide +kernel
theorem d_MD_goRoute_75 : decode prog_20_method_74_code 75 = .ok (.iaload, 1) := by decide +kernel
theorem d_MD_goRoute_76 : decode prog_20_method_74_code 76 = .ok (.iconst 1, 1) := by decide +kernel
theorem d_MD_goRoute_77 : decode prog_20_method_74_code 77 = .ok (.isub, 1) := by decide +kernel
theorem d_MD_goRoute_78 : decode prog_20_method_74_code 78 = .ok (.iload 4, 2) := by decide +kernel
theorem d_MD_goRoute_80 : decode prog_20_method_74_code 80 = .ok (.isub, 1) := by decide +kernel
theorem d_MD_goRoute_81 : decode prog_20_method_74_code 81 = .ok (.invokevirtual 305, 3) := by decide +kernel
theorem d_MD_goRoute_84 : decode prog_20_method_74_code 84 = .ok (.iinc 4 1, 3) := by decide +kernel
theorem d_MD_goRoute_87 : decode prog_20_method_74_code 87 = .ok (.goto (-44), 3) := by decide +kernel
theorem d_MD_goRoute_90 : decode prog_20_method_74_code 90 = .ok (.iinc 1 1, 3) := by decide +kernel
theorem d_MD_goRoute_93 : decode prog_20_method_74_code 93 = .ok (.goto (-91), 3) := by decide +kernel
theorem d_MD_goRoute_96 : decode prog_20_method_74_code 96 = .ok (.return_, 1) := by decide +kernel
theorem d_MD_translate_0 : decode prog_20_method_75_code 0 = .ok (.aload_n 0, 1) := by decide +kernel
theorem d_MD_translate_1 : decode prog_20_method_75_code 1 = .ok (.aload_n 0, 1) := by decide +kernel
theorem d_MD_translate_2 : decode prog_20_method_75_code 2 = .ok (.iload_n 1, 1) := by decide +kernel
theorem d_MD_translate_3 : decode prog_20_method_75_code 3 = .ok (.invokevirtual 284, 3) := by decide +kernel
theorem d_MD_translate_6 : decode prog_20_method_75_code 6 = .ok (.ifCond .eq 11, 3) := by decide +kernel
theorem d_MD_translate_9 : decode prog_20_method_75_code 9 = .ok (.aload_n 0, 1) := by decide +kernel
theorem d_MD_translate_10 : decode prog_20_method_75_code 10 = .ok (.iload_n 2, 1) := by decide +kernel
theorem d_MD_translate_11 : decode prog_20_method_75_code 11 = .ok (.invokevirtual 254, 3) := by decide +kernel
theorem d_MD_translate_14 : decode prog_20_method_75_code 14 = .ok (.ifCond .ne 7, 3) := by decide +kernel
theorem d_MD_translate_17 : decode prog_20_method_75_code 17 = .ok (.iconst 1, 1) := by decide +kernel
theorem d_MD_translate_18 : decode prog_20_method_75_code 18 = .ok (.goto 23, 3) := by decide +kernel
theorem d_MD_translate_21 : decode prog_20_method_75_code 21 = .ok (.aload_n 0, 1) := by decide +kernel
theorem d_MD_translate_22 : decode prog_20_method_75_code 22 = .ok (.aload_n 0, 1) := by decide +kernel
theorem d_MD_translate_23 : decode prog_20_method_75_code 23 = .ok (.getfield 41, 3) := by decide +kernel
theorem d_MD_translate_26 : decode prog_20_method_75_code 26 = .ok (.iload_n 1, 1) := by decide +kernel
theorem d_MD_translate_27 : decode prog_20_method_75_code 27 = .ok (.iaload, 1) := by decide +kernel
theorem d_MD_translate_28 : decode prog_20_method_75_code 28 = .ok (.iload_n 2, 1) := by decide +kernel
theorem d_MD_translate_29 : decode prog_20_method_75_code 29 = .ok (.iconst (-1), 1) := by decide +kernel
theorem d_MD_translate_30 : decode prog_20_method_75_code 30 = .ok (.invokevirtual 308, 3) := by decide +kernel
theorem d_MD_translate_33 : decode prog_20_method_75_code 33 = .ok (.ifCond .ne 7, 3) := by decide +kernel
theorem d_MD_translate_36 : decode prog_20_method_75_code 36 = .ok (.iconst 2, 1) := by decide +kernel
theorem d_MD_translate_37 : decode prog_20_method_75_code 37 = .ok (.goto 4, 3) := by decide +kernel
theorem d_MD_translate_40 : decode prog_20_method_75_code 40 = .ok (.iconst 0, 1) := by decide +kernel
theorem d_MD_translate_41 : decode prog_20_method_75_code 41 = .ok (.putfield 101, 3) := by decide +kernel
theorem d_MD_translate_44 : decode prog_20_method_75_code 44 = .ok (.aload_n 0, 1) := by decide +kernel
theorem d_MD_translate_45 : decode prog_20_method_75_code 45 = .ok (.getfield 101, 3) := by decide +kernel
theorem d_MD_translate_48 : decode prog_20_method_75_code 48 = .ok (.ifCond .le 5, 3) := by decide +kernel
theorem d_MD_translate_51 : decode prog_20_method_75_code 51 = .ok (.iconst 0, 1) := by decide +kernel
theorem d_MD_translate_52 : decode prog_20_method_75_code 52 = .ok (.ireturn, 1) := by decide +kernel
theorem d_MD_translate_53 : decode prog_20_method_75_code 53 = .ok (.sipush 128, 3) := by decide +kernel
theorem d_MD_translate_56 : decode prog_20_method_75_code 56 = .ok (.istore_n 3, 1) := by decide +kernel
theorem d_MD_translate_57 : decode prog_20_method_75_code 57 = .ok (.aload_n 0, 1) := by decide +kernel
theorem d_MD_translate_58 : decode prog_20_method_75_code 58 = .ok (.iconst 1, 1) := by decide +kernel
theorem d_MD_translate_59 : decode prog_20_method_75_code 59 = .ok (.putfield 118, 3) := by decide +kernel
theorem d_MD_translate_62 : decode prog_20_method_75_code 62 = .ok (.aload_n 0, 1) := by decide +kernel
theorem d_MD_translate_63 : decode prog_20_method_75_code 63 = .ok (.iconst 0, 1) := by decide +kernel
theorem d_MD_translate_64 : decode prog_20_method_75_code 64 = .ok (.putfield 214, 3) := by decide +kernel
theorem d_MD_translate_67 : decode prog_20_method_75_code 67 = .ok (.aload_n 0, 1) := by decide +kernel
theorem d_MD_translate_68 : decode prog_20_method_75_code 68 = .ok (.aload_n 0, 1) := by decide +kernel
theorem d_MD_translate_69 : decode prog_20_method_75_code 69 = .ok (.getfield 41, 3) := by decide +kernel
theorem d_MD_translate_72 : decode prog_20_method_75_code 72 = .ok (.iload_n 1, 1) := by decide +kernel
theorem d_MD_translate_73 : decode prog_20_method_75_code 73 = .ok (.iaload, 1) := by decide +kernel
theorem d_MD_translate_74 : decode prog_20_method_75_code 74 = .ok (.invokevirtual 237, 3) := by decide +kernel
theorem d_MD_translate_77 : decode prog_20_method_75_code 77 = .ok (.iconst 0, 1) := by decide +kernel
theorem d_MD_translate_78 : decode prog_20_method_75_code 78 = .ok (.istore 4, 2) := by decide +kernel
theorem d_MD_translate_80 : decode prog_20_method_75_code 80 = .ok (.iload 4, 2) := by decide +kernel
theorem d_MD_translate_82 : decode prog_20_method_75_code 82 = .ok (.aload_n 0, 1) := by decide +kernel
theorem d_MD_translate_83 : decode prog_20_method_75_code 83 = .ok (.getfield 108, 3) := by decide +kernel
theorem d_MD_translate_86 : decode prog_20_method_75_code 86 = .ok (.if_icmp .ge 32, 3) := by decide +kernel
theorem d_MD_translate_89 : decode prog_20_method_75_code 89 = .ok (.aload_n 0, 1) := by decide +kernel
theorem d_MD_translate_90 : decode prog_20_method_75_code 90 = .ok (.getfield 44, 3) := by decide +kernel
theorem d_MD_translate_93 : decode prog_20_method_75_code 93 = .ok (.aload_n 0, 1) := by decide +kernel
theorem d_MD_translate_94 : decode prog_20_method_75_code 94 = .ok (.iload_n 1, 1) := by decide +kernel
theorem d_MD_translate_95 : decode prog_20_method_75_code 95 = .ok (.iload 4, 2) := by decide +kernel
theorem d_MD_translate_97 : decode prog_20_method_75_code 97 = .ok (.invokevirtual 293, 3) := by decide +kernel
theorem d_MD_translate_100 : decode prog_20_method_75_code 100 = .ok (.aload_n 0, 1) := by decide +kernel
theorem d_MD_translate_101 : decode prog_20_method_75_code 101 = .ok (.getfield 65, 3) := by decide +kernel
theorem d_MD_translate_104 : decode prog_20_method_75_code 104 = .ok (.bipush 7, 2) := by decide +kernel
theorem d_MD_translate_106 : decode prog_20_method_75_code 106 = .ok (.iload 4, 2) := by decide +kernel
theorem d_MD_translate_108 : decode prog_20_method_75_code 108 = .ok (.imul, 1) := by decide +kernel
theorem d_MD_translate_109 : decode prog_20_method_75_code 109 = .ok (.invokestatic 128, 3) := by decide +kernel
theorem d_MD_translate_112 : decode prog_20_method_75_code 112 = .ok (.iinc 4 1, 3) := by decide +kernel
theorem d_MD_translate_115 : decode prog_20_method_75_code 115 = .ok (.goto (-35), 3) := by decide +kernel
theorem d_MD_translate_118 : decode prog_20_method_75_code 118 = .ok (.iconst 0, 1) := by decide +kernel
theorem d_MD_translate_119 : decode prog_20_method_75_code 119 = .ok (.istore 4, 2) := by decide +kernel
theorem d_MD_translate_121 : decode prog_20_method_75_code 121 = .ok (.iload 4, 2) := by decide +kernel
theorem d_MD_translate_123 : decode prog_20_method_75_code 123 = .ok (.iload_n 3, 1) := by decide +kernel
theorem d_MD_translate_124 : decode prog_20_method_75_code 124 = .ok (.if_icmp .ge 27, 3) := by decide +kernel
theorem d_MD_translate_127 : decode prog_20_method_75_code 127 = .ok (.aload_n 0, 1) := by decide +kernel
theorem d_MD_translate_128 : decode prog_20_method_75_code 128 = .ok (.getfield 71, 3) := by decide +kernel
theorem d_MD_translate_131 : decode prog_20_method_75_code 131 = .ok (.iload 4, 2) := by decide +kernel
theorem d_MD_translate_133 : decode prog_20_method_75_code 133 = .ok (.aload_n 0, 1) := by decide +kernel
theorem d_MD_translate_134 : decode prog_20_method_75_code 134 = .ok (.getfield 47, 3) := by decide +kernel
theorem d_MD_translate_137 : decode prog_20_method_75_code 137 = .ok (.iload_n 3, 1) := by decide +kernel
theorem d_MD_translate_138 : decode prog_20_method_75_code 138 = .ok (.iload_n 1, 1) := by decide +kernel
theorem d_MD_translate_139 : decode prog_20_method_75_code 139 = .ok (.imul, 1) := by decide +kernel
theorem d_MD_translate_140 : decode prog_20_method_75_code 140 = .ok (.iload 4, 2) := by decide +kernel
theorem d_MD_translate_142 : decode prog_20_method_75_code 142 = .ok (.iadd, 1) := by decide +kernel
theorem d_MD_translate_143 : decode prog_20_method_75_code 143 = .ok (.iaload, 1) := by decide +kernel
theorem d_MD_translate_144 : decode prog_20_method_75_code 144 = .ok (.iastore, 1) := by decide +kernel
theorem d_MD_translate_145 : decode prog_20_method_75_code 145 = .ok (.iinc 4 1, 3) := by decide +kernel
theorem d_MD_translate_148 : decode prog_20_method_75_code 148 = .ok (.goto (-27), 3) := by decide +kernel
theorem d_MD_translate_151 : decode prog_20_method_75_code 151 = .ok (.iconst 0, 1) := by decide +kernel
theorem d_MD_translate_152 : decode prog_20_method_75_code 152 = .ok (.istore 4, 2) := by decide +kernel
theorem d_MD_translate_154 : decode prog_20_method_75_code 154 = .ok (.iload 4, 2) := by decide +kernel
theorem d_MD_translate_156 : decode prog_20_method_75_code 156 = .ok (.bipush 14, 2) := by decide +kernel
theorem d_MD_translate_158 : decode prog_20_method_75_code 158 = .ok (.iload_n 3, 1) := by decide +kernel
theorem d_MD_translate_159 : decode prog_20_method_75_code 159 = .ok (.imul, 1) := by decide +kernel
theorem d_MD_translate_160 : decode prog_20_method_75_code 160 = .ok (.if_icmp .ge 30, 3) := by decide +kernel
theorem d_MD_translate_163 : decode prog_20_method_75_code 163 = .ok (.aload_n 0, 1) := by decide +kernel
theorem d_MD_translate_164 : decode prog_20_method_75_code 164 = .ok (.getfield 74, 3) := by decide +kernel
theorem d_MD_translate_167 : decode prog_20_method_75_code 167 = .ok (.iload 4, 2) := by decide +kernel
theorem d_MD_translate_169 : decode prog_20_method_75_code 169 = .ok (.aload_n 0, 1) := by decide +kernel
theorem d_MD_translate_170 : decode prog_20_method_75_code 170 = .ok (.getfield 50, 3) := by decide +kernel
theorem d_MD_translate_173 : decode prog_20_method_75_code 173 = .ok (.bipush 14, 2) := by decide +kernel
theorem d_MD_translate_175 : decode prog_20_method_75_code 175 = .ok (.iload_n 3, 1) := by decide +kernel
theorem d_MD_translate_176 : decode prog_20_method_75_code 176 = .ok (.imul, 1) := by decide +kernel
theorem d_MD_translate_177 : decode prog_20_method_75_code 177 = .ok (.iload_n 1, 1) := by decide +kernel
theorem d_MD_translate_178 : decode prog_20_method_75_code 178 = .ok (.imul, 1) := by decide +kernel
theorem d_MD_translate_179 : decode prog_20_method_75_code 179 = .ok (.iload 4, 2) := by decide +kernel
theorem d_MD_translate_181 : decode prog_20_method_75_code 181 = .ok (.iadd, 1) := by decide +kernel
theorem d_MD_translate_182 : decode prog_20_method_75_code 182 = .ok (.iaload, 1) := by decide +kernel
theorem d_MD_translate_183 : decode prog_20_method_75_code 183 = .ok (.iastore, 1) := by decide +kernel
theorem d_MD_translate_184 : decode prog_20_method_75_code 184 = .ok (.iinc 4 1, 3) := by decide +kernel
theorem d_MD_translate_187 : decode prog_20_method_75_code 187 = .ok (.goto (-33), 3) := by decide +kernel
theorem d_MD_translate_190 : decode prog_20_method_75_code 190 = .ok (.aload_n 0, 1) := by decide +kernel
theorem d_MD_translate_191 : decode prog_20_method_75_code 191 = .ok (.invokevirtual 311, 3) := by decide +kernel
theorem d_MD_translate_194 : decode prog_20_method_75_code 194 = .ok (.aload_n 0, 1) := by decide +kernel
theorem d_MD_translate_195 : decode prog_20_method_75_code 195 = .ok (.aload_n 0, 1) := by decide +kernel
theorem d_MD_translate_196 : decode prog_20_method_75_code 196 = .ok (.getfield 214, 3) := by decide +kernel
theorem d_MD_translate_199 : decode prog_20_method_75_code 199 = .ok (.ifCond .eq 7, 3) := by decide +kernel
theorem d_MD_translate_202 : decode prog_20_method_75_code 202 = .ok (.iconst 3, 1) := by decide +kernel
theorem d_MD_translate_203 : decode prog_20_method_75_code 203 = .ok (.goto 4, 3) := by decide +kernel
theorem d_MD_translate_206 : decode prog_20_method_75_code 206 = .ok (.iconst 0, 1) := by decide +kernel
theorem d_MD_translate_207 : decode prog_20_method_75_code 207 = .ok (.putfield 101, 3) := by decide +kernel
theorem d_MD_translate_210 : decode prog_20_method_75_code 210 = .ok (.aload_n 0, 1) := by decide +kernel
theorem d_MD_translate_211 : decode prog_20_method_75_code 211 = .ok (.getfield 101, 3) := by decide +kernel
theorem d_MD_translate_214 : decode prog_20_method_75_code 214 = .ok (.ifCond .le 5, 3) := by decide +kernel
theorem d_MD_translate_217 : decode prog_20_method_75_code 217 = .ok (.iconst 0, 1) := by decide +kernel
theorem d_MD_translate_218 : decode prog_20_method_75_code 218 = .ok (.ireturn, 1) := by decide +kernel
theorem d_MD_translate_219 : decode prog_20_method_75_code 219 = .ok (.aload_n 0, 1) := by decide +kernel
theorem d_MD_translate_220 : decode prog_20_method_75_code 220 = .ok (.getfield 41, 3) := by decide +kernel
theorem d_MD_translate_223 : decode prog_20_method_75_code 223 = .ok (.iload_n 1, 1) := by decide +kernel
theorem d_MD_translate_224 : decode prog_20_method_75_code 224 = .ok (.iload_n 2, 1) := by decide +kernel
theorem d_MD_translate_225 : decode prog_20_method_75_code 225 = .ok (.iastore, 1) := by decide +kernel
theorem d_MD_translate_226 : decode prog_20_method_75_code 226 = .ok (.iconst 0, 1) := by decide +kernel
theorem d_MD_translate_227 : decode prog_20_method_75_code 227 = .ok (.istore 4, 2) := by decide +kernel
theorem d_MD_translate_229 : decode prog_20_method_75_code 229 = .ok (.iload 4, 2) := by decide +kernel
theorem d_MD_translate_231 : decode prog_20_method_75_code 231 = .ok (.aload_n 0, 1) := by decide +kernel
theorem d_MD_translate_232 : decode prog_20_method_75_code 232 = .ok (.getfield 13, 3) := by decide +kernel
theorem d_MD_translate_235 : decode prog_20_method_75_code 235 = .ok (.iload_n 2, 1) := by decide +kernel
theorem d_MD_translate_236 : decode prog_20_method_75_code 236 = .ok (.iaload, 1) := by decide +kernel
theorem d_MD_translate_237 : decode prog_20_method_75_code 237 = .ok (.if_icmp .ge 46, 3) := by decide +kernel
theorem d_MD_translate_240 : decode prog_20_method_75_code 240 = .ok (.aload_n 0, 1) := by decide +kernel
theorem d_MD_translate_241 : decode prog_20_method_75_code 241 = .ok (.getfield 65, 3) := by decide +kernel
theorem d_MD_translate_244 : decode prog_20_method_75_code 244 = .ok (.bipush 7, 2) := by decide +kernel
theorem d_MD_translate_246 : decode prog_20_method_75_code 246 = .ok (.aload_n 0, 1) := by decide +kernel
theorem d_MD_translate_247 : decode prog_20_method_75_code 247 = .ok (.aload_n 0, 1) := by decide +kernel
theorem d_MD_translate_248 : decode prog_20_method_75_code 248 = .ok (.getfield 17, 3) := by decide +kernel
theorem d_MD_translate_251 : decode prog_20_method_75_code 251 = .ok (.bipush 24, 2) := by decide +kernel
theorem d_MD_translate_253 : decode prog_20_method_75_code 253 = .ok (.iload_n 2, 1) := by decide +kernel
theorem d_MD_translate_254 : decode prog_20_method_75_code 254 = .ok (.imul, 1) := by decide +kernel
theorem d_MD_translate_255 : decode prog_20_method_75_code 255 = .ok (.iload 4, 2) := by decide +kernel
theorem d_MD_translate_257 : decode prog_20_method_75_code 257 = .ok (.iadd, 1) := by decide +kernel
theorem d_MD_translate_258 : decode prog_20_method_75_code 258 = .ok (.iaload, 1) := by decide +kernel
theorem d_MD_translate_259 : decode prog_20_method_75_code 259 = .ok (.invokevirtual 111, 3) := by decide +kernel
theorem d_MD_translate_262 : decode prog_20_method_75_code 262 = .ok (.imul, 1) := by decide +kernel
theorem d_MD_translate_263 : decode prog_20_method_75_code 263 = .ok (.aload_n 0, 1) := by decide +kernel
theorem d_MD_translate_264 : decode prog_20_method_75_code 264 = .ok (.getfield 44, 3) := by decide +kernel
theorem d_MD_translate_267 : decode prog_20_method_75_code 267 = .ok (.aload_n 0, 1) := by decide +kernel
theorem d_MD_translate_268 : decode prog_20_method_75_code 268 = .ok (.iload_n 1, 1) := by decide +kernel
theorem d_MD_translate_269 : decode prog_20_method_75_code 269 = .ok (.iload 4, 2) := by decide +kernel
theorem d_MD_translate_271 : decode prog_20_method_75_code 271 = .ok (.invokevirtual 293, 3) := by decide +kernel
theorem d_MD_translate_274 : decode prog_20_method_75_code 274 = .ok (.invokestatic 128, 3) := by decide +kernel
theorem d_MD_translate_277 : decode prog_20_method_75_code 277 = .ok (.iinc 4 1, 3) := by decide +kernel
theorem d_MD_translate_280 : decode prog_20_method_75_code 280 = .ok (.goto (-51), 3) := by decide +kernel
theorem d_MD_translate_283 : decode prog_20_method_75_code 283 = .ok (.iconst 0, 1) := by decide +kernel
theorem d_MD_translate_284 : decode prog_20_method_75_code 284 = .ok (.istore 4, 2) := by decide +kernel
theorem d_MD_translate_286 : decode prog_20_method_75_code 286 = .ok (.iload 4, 2) := by decide +kernel
theorem d_MD_translate_288 : decode prog_20_method_75_code 288 = .ok (.iload_n 3, 1) := by decide +kernel
theorem d_MD_translate_289 : decode prog_20_method_75_code 289 = .ok (.if_icmp .ge 27, 3) := by decide +kernel
theorem d_MD_translate_292 : decode prog_20_method_75_code 292 = .ok (.aload_n 0, 1) := by decide +kernel
theorem d_MD_translate_293 : decode prog_20_method_75_code 293 = .ok (.getfield 47, 3) := by decide +kernel
theorem d_MD_translate_296 : decode prog_20_method_75_code 296 = .ok (.iload_n 3, 1) := by decide +kernel
theorem d_MD_translate_297 : decode prog_20_method_75_code 297 = .ok (.iload_n 1, 1) := by decide +kernel
theorem d_MD_translate_298 : decode prog_20_method_75_code 298 = .ok (.imul, 1) := by decide +kernel
theorem d_MD_translate_299 : decode prog_20_method_75_code 299 = .ok (.iload 4, 2) := by decide +kernel
theorem d_MD_translate_301 : decode prog_20_method_75_code 301 = .ok (.iadd, 1) := by decide +kernel
theorem d_MD_translate_302 : decode prog_20_method_75_code 302 = .ok (.aload_n 0, 1) := by decide +kernel
theorem d_MD_translate_303 : decode prog_20_method_75_code 303 = .ok (.getfield 71, 3) := by decide +kernel
theorem d_MD_translate_306 : decode prog_20_method_75_code 306 = .ok (.iload 4, 2) := by decide +kernel
theorem d_MD_translate_308 : decode prog_20_method_75_code 308 = .ok (.iaload, 1) := by decide +kernel
theorem d_MD_translate_309 : decode prog_20_method_75_code 309 = .ok (.iastore, 1) := by decide +kernel
theorem d_MD_translate_310 : decode prog_20_method_75_code 310 = .ok (.iinc 4 1, 3) := by decide +kernel
theorem d_MD_translate_313 : decode prog_20_method_75_code 313 = .ok (.goto (-27), 3) := by decide +kernel
theorem d_MD_translate_316 : decode prog_20_method_75_code 316 = .ok (.iconst 0, 1) := by decide +kernel
theorem d_MD_translate_317 : decode prog_20_method_75_code 317 = .ok (.istore 4, 2) := by decide +kernel
theorem d_MD_translate_319 : decode prog_20_method_75_code 319 = .ok (.iload 4, 2) := by decide +kernel
theorem d_MD_translate_321 : decode prog_20_method_75_code 321 = .ok (.bipush 14, 2) := by decide +kernel
theorem d_MD_translate_323 : decode prog_20_method_75_code 323 = .ok (.iload_n 3, 1) := by decide +kernel
theorem d_MD_translate_324 : decode prog_20_method_75_code 324 = .ok (.imul, 1) := by decide +kernel
theorem d_MD_translate_325 : decode prog_20_method_75_code 325 = .ok (.if_icmp .ge 30, 3) := by decide +kernel
theorem d_MD_translate_328 : decode prog_20_method_75_code 328 = .ok (.aload_n 0, 1) := by decide +kernel
theorem d_MD_translate_329 : decode prog_20_method_75_code 329 = .ok (.getfield 50, 3) := by decide +kernel
theorem d_MD_translate_332 : decode prog_20_method_75_code 332 = .ok (.bipush 14, 2) := by decide +kernel
theorem d_MD_translate_334 : decode prog_20_method_75_code 334 = .ok (.iload_n 3, 1) := by decide +kernel
theorem d_MD_translate_335 : decode prog_20_method_75_code 335 = .ok (.imul, 1) := by decide +kernel
theorem d_MD_translate_336 : decode prog_20_method_75_code 336 = .ok (.iload_n 1, 1) := by decide +kernel
theorem d_MD_translate_337 : decode prog_20_method_75_code 337 = .ok (.imul, 1) := by decide +kernel
theorem d_MD_translate_338 : decode prog_20_method_75_code 338 = .ok (.iload 4, 2) := by decide +kernel
theorem d_MD_translate_340 : decode prog_20_method_75_code 340 = .ok (.iadd, 1) := by decide +kernel
theorem d_MD_translate_341 : decode prog_20_method_75_code 341 = .ok (.aload_n 0, 1) := by decide +kernel
theorem d_MD_translate_342 : decode prog_20_method_75_code 342 = .ok (.getfield 74, 3) := by decide +kernel
theorem d_MD_translate_345 : decode prog_20_method_75_code 345 = .ok (.iload 4, 2) := by decide +kernel
theorem d_MD_translate_347 : decode prog_20_method_75_code 347 = .ok (.iaload, 1) := by decide +kernel
theorem d_MD_translate_348 : decode prog_20_method_75_code 348 = .ok (.iastore, 1) := by decide +kernel
theorem d_MD_translate_349 : decode prog_20_method_75_code 349 = .ok (.iinc 4 1, 3) := by decide +kernel
theorem d_MD_translate_352 : decode prog_20_method_75_code 352 = .ok (.goto (-33), 3) := by decide +kernel
theorem d_MD_translate_355 : decode prog_20_method_75_code 355 = .ok (.aload_n 0, 1) := by decide +kernel
theorem d_MD_translate_356 : decode prog_20_method_75_code 356 = .ok (.getfield 299, 3) := by decide +kernel
theorem d_MD_translate_359 : decode prog_20_method_75_code 359 = .ok (.iconst 1, 1) := by decide +kernel
theorem d_MD_translate_360 : decode prog_20_method_75_code 360 = .ok (.isub, 1) := by decide +kernel
theorem d_MD_translate_361 : decode prog_20_method_75_code 361 = .ok (.ireturn, 1) := by decide +kernel
theorem d_MD_route_0 : decode prog_20_method_76_code 0 = .ok (.aload_n 0, 1) := by decide +kernel
theorem d_MD_route_1 : decode prog_20_method_76_code 1 = .ok (.aload_n 0, 1) := by decide +kernel
theorem d_MD_route_2 : decode prog_20_method_76_code 2 = .ok (.iload_n 1, 1) := by decide +kernel
theorem d_MD_route_3 : decode prog_20_method_76_code 3 = .ok (.invokevirtual 254, 3) := by decide +kernel
theorem d_MD_route_6 : decode prog_20_method_76_code 6 = .ok (.ifCond .eq 15, 3) := by decide +kernel
theorem d_MD_route_9 : decode prog_20_method_76_code 9 = .ok (.aload_n 0, 1) := by decide +kernel
theorem d_MD_route_10 : decode prog_20_method_76_code 10 = .ok (.iload_n 2, 1) := by decide +kernel
theorem d_MD_route_11 : decode prog_20_method_76_code 11 = .ok (.invokevirtual 254, 3) := by decide +kernel
theorem d_MD_route_14 : decode prog_20_method_76_code 14 = .ok (.ifCond .eq 7, 3) := by decide +kernel
theorem d_MD_route_17 : decode prog_20_method_76_code 17 = .ok (.iconst 0, 1) := by decide +kernel
theorem d_MD_route_18 : decode prog_20_method_76_code 18 = .ok (.goto 4, 3) := by decide +kernel
theorem d_MD_route_21 : decode prog_20_method_76_code 21 = .ok (.iconst 1, 1) := by decide +kernel
theorem d_MD_route_22 : decode prog_20_method_76_code 22 = .ok (.putfield 101, 3) := by decide +kernel
theorem d_MD_route_25 : decode prog_20_method_76_code 25 = .ok (.aload_n 0, 1) := by decide +kernel
theorem d_MD_route_26 : decode prog_20_method_76_code 26 = .ok (.getfield 101, 3) := by decide +kernel
theorem d_MD_route_29 : decode prog_20_method_76_code 29 = .ok (.ifCond .le 5, 3) := by decide +kernel
theorem d_MD_route_32 : decode prog_20_method_76_code 32 = .ok (.iconst 0, 1) := by decide +kernel
theorem d_MD_route_33 : decode prog_20_method_76_code 33 = .ok (.ireturn, 1) := by decide +kernel
theorem d_MD_route_34 : decode prog_20_method_76_code 34 = .ok (.aload_n 0, 1) := by decide +kernel
theorem d_MD_route_35 : decode prog_20_method_76_code 35 = .ok (.iload_n 1, 1) := by decide +kernel
theorem d_MD_route_36 : decode prog_20_method_76_code 36 = .ok (.iload_n 2, 1) := by decide +kernel
theorem d_MD_route_37 : decode prog_20_method_76_code 37 = .ok (.iconst (-1), 1) := by decide +kernel
theorem d_MD_route_38 : decode prog_20_method_76_code 38 = .ok (.invokevirtual 308, 3) := by decide +kernel
theorem d_MD_route_41 : decode prog_20_method_76_code 41 = .ok (.ifCond .eq 24, 3) := by decide +kernel
theorem d_MD_route_44 : decode prog_20_method_76_code 44 = .ok (.iload_n 3, 1) := by decide +kernel
theorem d_MD_route_45 : decode prog_20_method_76_code 45 = .ok (.ifCond .lt 20, 3) := by decide +kernel
theorem d_MD_route_48 : decode prog_20_method_76_code 48 = .ok (.iload_n 3, 1) := by decide +kernel
theorem d_MD_route_49 : decode prog_20_method_76_code 49 = .ok (.aload_n 0, 1) := by decide +kernel
theorem d_MD_route_50 : decode prog_20_method_76_code 50 = .ok (.getfield 299, 3) := by decide +kernel
theorem d_MD_route_53 : decode prog_20_method_76_code 53 = .ok (.if_icmp .ge 12, 3) := by decide +kernel
theorem d_MD_route_56 : decode prog_20_method_76_code 56 = .ok (.aload_n 0, 1) := by decide +kernel
theorem d_MD_route_57 : decode prog_20_method_76_code 57 = .ok (.getfield 86, 3) := by decide +kernel
theorem d_MD_route_60 : decode prog_20_method_76_code 60 = .ok (.iload_n 3, 1) := by decide +kernel
theorem d_MD_route_61 : decode prog_20_method_76_code 61 = .ok (.iaload, 1) := by decide +kernel
theorem d_MD_route_62 : decode prog_20_method_76_code 62 = .ok (.goto 4, 3) := by decide +kernel
theorem d_MD_route_65 : decode prog_20_method_76_code 65 = .ok (.iconst (-1), 1) := by decide +kernel
theorem d_MD_route_66 : decode prog_20_method_76_code 66 = .ok (.ireturn, 1) := by decide +kernel
theorem d_MD_takeTerms_0 : decode prog_20_method_77_code 0 = .ok (.aload_n 0, 1) := by decide +kernel
theorem d_MD_takeTerms_1 : decode prog_20_method_77_code 1 = .ok (.iconst 2, 1) := by decide +kernel
theorem d_MD_takeTerms_2 : decode prog_20_method_77_code 2 = .ok (.putfield 118, 3) := by decide +kernel
theorem d_MD_takeTerms_5 : decode prog_20_method_77_code 5 = .ok (.aload_n 0, 1) := by decide +kernel
theorem d_MD_takeTerms_6 : decode prog_20_method_77_code 6 = .ok (.iload_n 1, 1) := by decide +kernel
theorem d_MD_takeTerms_7 : decode prog_20_method_77_code 7 = .ok (.invokevirtual 237, 3) := by decide +kernel
theorem d_MD_takeTerms_10 : decode prog_20_method_77_code 10 = .ok (.iconst 0, 1) := by decide +kernel
theorem d_MD_takeTerms_11 : decode prog_20_method_77_code 11 = .ok (.istore_n 2, 1) := by decide +kernel
theorem d_MD_takeTerms_12 : decode prog_20_method_77_code 12 = .ok (.iconst 0, 1) := by decide +kernel
theorem d_MD_takeTerms_13 : decode prog_20_method_77_code 13 = .ok (.istore_n 3, 1) := by decide +kernel
theorem d_MD_takeTerms_14 : decode prog_20_method_77_code 14 = .ok (.iload_n 3, 1) := by decide +kernel
theorem d_MD_takeTerms_15 : decode prog_20_method_77_code 15 = .ok (.aload_n 0, 1) := by decide +kernel
theorem d_MD_takeTerms_16 : decode prog_20_method_77_code 16 = .ok (.getfield 108, 3) := by decide +kernel
theorem d_MD_takeTerms_19 : decode prog_20_method_77_code 19 = .ok (.if_icmp .ge 38, 3) := by decide +kernel
theorem d_MD_takeTerms_22 : decode prog_20_method_77_code 22 = .ok (.aload_n 0, 1) := by decide +kernel
theorem d_MD_takeTerms_23 : decode prog_20_method_77_code 23 = .ok (.getfield 56, 3) := by decide +kernel
theorem d_MD_takeTerms_26 : decode prog_20_method_77_code 26 = .ok (.iload_n 3, 1) := by decide +kernel
theorem d_MD_takeTerms_27 : decode prog_20_method_77_code 27 = .ok (.iaload, 1) := by decide +kernel
theorem d_MD_takeTerms_28 : decode prog_20_method_77_code 28 = .ok (.iconst 2, 1) := by decide +kernel
theorem d_MD_takeTerms_29 : decode prog_20_method_77_code 29 = .ok (.if_icmp .ge 22, 3) := by decide +kernel
theorem d_MD_takeTerms_32 : decode prog_20_method_77_code 32 = .ok (.aload_n 0, 1) := by decide +kernel
theorem d_MD_takeTerms_33 : decode prog_20_method_77_code 33 = .ok (.getfield 68, 3) := by decide +kernel
theorem d_MD_takeTerms_36 : decode prog_20_method_77_code 36 = .ok (.iload_n 3, 1) := by decide +kernel
theorem d_MD_takeTerms_37 : decode prog_20_method_77_code 37 = .ok (.aload_n 0, 1) := by decide +kernel
theorem d_MD_takeTerms_38 : decode prog_20_method_77_code 38 = .ok (.iconst 0, 1) := by decide +kernel
theorem d_MD_takeTerms_39 : decode prog_20_method_77_code 39 = .ok (.iload_n 2, 1) := by decide +kernel
theorem d_MD_takeTerms_40 : decode prog_20_method_77_code 40 = .ok (.iconst 0, 1) := by decide +kernel
theorem d_MD_takeTerms_41 : decode prog_20_method_77_code 41 = .ok (.iconst 0, 1) := by decide +kernel
theorem d_MD_takeTerms_42 : decode prog_20_method_77_code 42 = .ok (.iconst 0, 1) := by decide +kernel
theorem d_MD_takeTerms_43 : decode prog_20_method_77_code 43 = .ok (.iconst 0, 1) := by decide +kernel
theorem d_MD_takeTerms_44 : decode prog_20_method_77_code 44 = .ok (.invokevirtual 124, 3) := by decide +kernel
theorem d_MD_takeTerms_47 : decode prog_20_method_77_code 47 = .ok (.iastore, 1) := by decide +kernel
theorem d_MD_takeTerms_48 : decode prog_20_method_77_code 48 = .ok (.iinc 2 1, 3) := by decide +kernel
theorem d_MD_takeTerms_51 : decode prog_20_method_77_code 51 = .ok (.iinc 3 1, 3) := by decide +kernel
theorem d_MD_takeTerms_54 : decode prog_20_method_77_code 54 = .ok (.goto (-40), 3) := by decide +kernel
theorem d_MD_takeTerms_57 : decode prog_20_method_77_code 57 = .ok (.return_, 1) := by decide +kernel
theorem d_MD_clash_0 : decode prog_20_method_78_code 0 = .ok (.aload_n 0, 1) := by decide +kernel
theorem d_MD_clash_1 : decode prog_20_method_78_code 1 = .ok (.iload_n 1, 1) := by decide +kernel
theorem d_MD_clash_2 : decode prog_20_method_78_code 2 = .ok (.ifCond .lt 15, 3) := by decide +kernel
theorem d_MD_clash_5 : decode prog_20_method_78_code 5 = .ok (.iload_n 1, 1) := by decide +kernel
theorem d_MD_clash_6 : decode prog_20_method_78_code 6 = .ok (.aload_n 0, 1) := by decide +kernel
theorem d_MD_clash_7 : decode prog_20_method_78_code 7 = .ok (.getfield 260, 3) := by decide +kernel
theorem d_MD_clash_10 : decode prog_20_method_78_code 10 = .ok (.if_icmp .ge 7, 3) := by decide +kernel
theorem d_MD_clash_13 : decode prog_20_method_78_code 13 = .ok (.iconst 0, 1) := by decide +kernel
theorem d_MD_clash_14 : decode prog_20_method_78_code 14 = .ok (.goto 4, 3) := by decide +kernel
theorem d_MD_clash_17 : decode prog_20_method_78_code 17 = .ok (.iconst 1, 1) := by decide +kernel
theorem d_MD_clash_18 : decode prog_20_method_78_code 18 = .ok (.putfield 101, 3) := by decide +kernel
theorem d_MD_clash_21 : decode prog_20_method_78_code 21 = .ok (.aload_n 0, 1) := by decide +kernel
theorem d_MD_clash_22 : decode prog_20_method_78_code 22 = .ok (.getfield 101, 3) := by decide +kernel
theorem d_MD_clash_25 : decode prog_20_method_78_code 25 = .ok (.ifCond .le 5, 3) := by decide +kernel
theorem d_MD_clash_28 : decode prog_20_method_78_code 28 = .ok (.iconst 0, 1) := by decide +kernel
theorem d_MD_clash_29 : decode prog_20_method_78_code 29 = .ok (.ireturn, 1) := by decide +kernel
theorem d_MD_clash_30 : decode prog_20_method_78_code 30 = .ok (.aload_n 0, 1) := by decide +kernel
theorem d_MD_clash_31 : decode prog_20_method_78_code 31 = .ok (.getfield 29, 3) := by decide +kernel
theorem d_MD_clash_34 : decode prog_20_method_78_code 34 = .ok (.iload_n 1, 1) := by decide +kernel
theorem d_MD_clash_35 : decode prog_20_method_78_code 35 = .ok (.iaload, 1) := by decide +kernel
theorem d_MD_clash_36 : decode prog_20_method_78_code 36 = .ok (.istore_n 2, 1) := by decide +kernel
theorem d_MD_clash_37 : decode prog_20_method_78_code 37 = .ok (.aload_n 0, 1) := by decide +kernel
theorem d_MD_clash_38 : decode prog_20_method_78_code 38 = .ok (.getfield 32, 3) := by decide +kernel
theorem d_MD_clash_41 : decode prog_20_method_78_code 41 = .ok (.iload_n 1, 1) := by decide +kernel
theorem d_MD_clash_42 : decode prog_20_method_78_code 42 = .ok (.iaload, 1) := by decide +kernel
theorem d_MD_clash_43 : decode prog_20_method_78_code 43 = .ok (.istore_n 3, 1) := by decide +kernel
theorem d_MD_clash_44 : decode prog_20_method_78_code 44 = .ok (.aload_n 0, 1) := by decide +kernel
theorem d_MD_clash_45 : decode prog_20_method_78_code 45 = .ok (.iconst 0, 1) := by decide +kernel
theorem d_MD_clash_46 : decode prog_20_method_78_code 46 = .ok (.putfield 143, 3) := by decide +kernel
theorem d_MD_clash_49 : decode prog_20_method_78_code 49 = .ok (.aload_n 0, 1) := by decide +kernel
theorem d_MD_clash_50 : decode prog_20_method_78_code 50 = .ok (.iload_n 2, 1) := by decide +kernel
theorem d_MD_clash_51 : decode prog_20_method_78_code 51 = .ok (.invokevirtual 314, 3) := by decide +kernel
theorem d_MD_clash_54 : decode prog_20_method_78_code 54 = .ok (.iconst 0, 1) := by decide +kernel
theorem d_MD_clash_55 : decode prog_20_method_78_code 55 = .ok (.istore 4, 2) := by decide +kernel
theorem d_MD_clash_57 : decode prog_20_method_78_code 57 = .ok (.iload 4, 2) := by decide +kernel
theorem d_MD_clash_59 : decode prog_20_method_78_code 59 = .ok (.aload_n 0, 1) := by decide +kernel
theorem d_MD_clash_60 : decode prog_20_method_78_code 60 = .ok (.getfield 35, 3) := by decide +kernel
theorem d_MD_clash_63 : decode prog_20_method_78_code 63 = .ok (.iload_n 1, 1) := by decide +kernel
theorem d_MD_clash_64 : decode prog_20_method_78_code 64 = .ok (.iaload, 1) := by decide +kernel
theorem d_MD_clash_65 : decode prog_20_method_78_code 65 = .ok (.if_icmp .ge 16, 3) := by decide +kernel
theorem d_MD_clash_68 : decode prog_20_method_78_code 68 = .ok (.aload_n 0, 1) := by decide +kernel
theorem d_MD_clash_69 : decode prog_20_method_78_code 69 = .ok (.iload_n 1, 1) := by decide +kernel
theorem d_MD_clash_70 : decode prog_20_method_78_code 70 = .ok (.iload 4, 2) := by decide +kernel
theorem d_MD_clash_72 : decode prog_20_method_78_code 72 = .ok (.invokevirtual 263, 3) := by decide +kernel
theorem d_MD_clash_75 : decode prog_20_method_78_code 75 = .ok (.iinc 4 1, 3) := by decide +kernel
theorem d_MD_clash_78 : decode prog_20_method_78_code 78 = .ok (.goto (-21), 3) := by decide +kernel
theorem d_MD_clash_81 : decode prog_20_method_78_code 81 = .ok (.iconst 0, 1) := by decide +kernel
theorem d_MD_clash_82 : decode prog_20_method_78_code 82 = .ok (.istore 4, 2) := by decide +kernel
theorem d_MD_clash_84 : decode prog_20_method_78_code 84 = .ok (.iload 4, 2) := by decide +kernel
theorem d_MD_clash_86 : decode prog_20_method_78_code 86 = .ok (.aload_n 0, 1) := by decide +kernel
theorem d_MD_clash_87 : decode prog_20_method_78_code 87 = .ok (.getfield 13, 3) := by decide +kernel
theorem d_MD_clash_90 : decode prog_20_method_78_code 90 = .ok (.iload_n 3, 1) := by decide +kernel
theorem d_MD_clash_91 : decode prog_20_method_78_code 91 = .ok (.iaload, 1) := by decide +kernel
theorem d_MD_clash_92 : decode prog_20_method_78_code 92 = .ok (.if_icmp .ge 37, 3) := by decide +kernel
theorem d_MD_clash_95 : decode prog_20_method_78_code 95 = .ok (.aload_n 0, 1) := by decide +kernel
theorem d_MD_clash_96 : decode prog_20_method_78_code 96 = .ok (.getfield 83, 3) := by decide +kernel
theorem d_MD_clash_99 : decode prog_20_method_78_code 99 = .ok (.iload 4, 2) := by decide +kernel
theorem d_MD_clash_101 : decode prog_20_method_78_code 101 = .ok (.aload_n 0, 1) := by decide +kernel
theorem d_MD_clash_102 : decode prog_20_method_78_code 102 = .ok (.getfield 68, 3) := by decide +kernel
theorem d_MD_clash_105 : decode prog_20_method_78_code 105 = .ok (.aload_n 0, 1) := by decide +kernel
theorem d_MD_clash_106 : decode prog_20_method_78_code 106 = .ok (.aload_n 0, 1) := by decide +kernel
theorem d_MD_clash_107 : decode prog_20_method_78_code 107 = .ok (.getfield 17, 3) := by decide +kernel
theorem d_MD_clash_110 : decode prog_20_method_78_code 110 = .ok (.bipush 24, 2) := by decide +kernel
theorem d_MD_clash_112 : decode prog_20_method_78_code 112 = .ok (.iload_n 3, 1) := by decide +kernel
theorem d_MD_clash_113 : decode prog_20_method_78_code 113 = .ok (.imul, 1) := by decide +kernel
theorem d_MD_clash_114 : decode prog_20_method_78_code 114 = .ok (.iload 4, 2) := by decide +kernel
theorem d_MD_clash_116 : decode prog_20_method_78_code 116 = .ok (.iadd, 1) := by decide +kernel
theorem d_MD_clash_117 : decode prog_20_method_78_code 117 = .ok (.iaload, 1) := by decide +kernel
theorem d_MD_clash_118 : decode prog_20_method_78_code 118 = .ok (.invokevirtual 111, 3) := by decide +kernel
theorem d_MD_clash_121 : decode prog_20_method_78_code 121 = .ok (.iaload, 1) := by decide +kernel
theorem d_MD_clash_122 : decode prog_20_method_78_code 122 = .ok (.iastore, 1) := by decide +kernel
theorem d_MD_clash_123 : decode prog_20_method_78_code 123 = .ok (.iinc 4 1, 3) := by decide +kernel
theorem d_MD_clash_126 : decode prog_20_method_78_code 126 = .ok (.goto (-42), 3) := by decide +kernel
theorem d_MD_clash_129 : decode prog_20_method_78_code 129 = .ok (.aload_n 0, 1) := by decide +kernel
theorem d_MD_clash_130 : decode prog_20_method_78_code 130 = .ok (.iload_n 2, 1) := by decide +kernel
theorem d_MD_clash_131 : decode prog_20_method_78_code 131 = .ok (.iload_n 3, 1) := by decide +kernel
theorem d_MD_clash_132 : decode prog_20_method_78_code 132 = .ok (.iload_n 1, 1) := by decide +kernel
theorem d_MD_clash_133 : decode prog_20_method_78_code 133 = .ok (.invokevirtual 308, 3) := by decide +kernel
theorem d_MD_clash_136 : decode prog_20_method_78_code 136 = .ok (.ifCond .ne 5, 3) := by decide +kernel
theorem d_MD_clash_139 : decode prog_20_method_78_code 139 = .ok (.iconst (-1), 1) := by decide +kernel
theorem d_MD_clash_140 : decode prog_20_method_78_code 140 = .ok (.ireturn, 1) := by decide +kernel
theorem d_MD_clash_141 : decode prog_20_method_78_code 141 = .ok (.aload_n 0, 1) := by decide +kernel
theorem d_MD_clash_142 : decode prog_20_method_78_code 142 = .ok (.iload_n 2, 1) := by decide +kernel
theorem d_MD_clash_143 : decode prog_20_method_78_code 143 = .ok (.invokevirtual 314, 3) := by decide +kernel
theorem d_MD_clash_146 : decode prog_20_method_78_code 146 = .ok (.aload_n 0, 1) := by decide +kernel
theorem d_MD_clash_147 : decode prog_20_method_78_code 147 = .ok (.invokevirtual 311, 3) := by decide +kernel
theorem d_MD_clash_150 : decode prog_20_method_78_code 150 = .ok (.iconst 1, 1) := by decide +kernel
theorem d_MD_clash_151 : decode prog_20_method_78_code 151 = .ok (.istore 4, 2) := by decide +kernel
theorem d_MD_clash_153 : decode prog_20_method_78_code 153 = .ok (.iconst 0, 1) := by decide +kernel
theorem d_MD_clash_154 : decode prog_20_method_78_code 154 = .ok (.istore 5, 2) := by decide +kernel
theorem d_MD_clash_156 : decode prog_20_method_78_code 156 = .ok (.iload 5, 2) := by decide +kernel
theorem d_MD_clash_158 : decode prog_20_method_78_code 158 = .ok (.aload_n 0, 1) := by decide +kernel
theorem d_MD_clash_159 : decode prog_20_method_78_code 159 = .ok (.getfield 13, 3) := by decide +kernel
theorem d_MD_clash_162 : decode prog_20_method_78_code 162 = .ok (.iload_n 3, 1) := by decide +kernel
theorem d_MD_clash_163 : decode prog_20_method_78_code 163 = .ok (.iaload, 1) := by decide +kernel
theorem d_MD_clash_164 : decode prog_20_method_78_code 164 = .ok (.if_icmp .ge 68, 3) := by decide +kernel
theorem d_MD_clash_167 : decode prog_20_method_78_code 167 = .ok (.iload 4, 2) := by decide +kernel
theorem d_MD_clash_169 : decode prog_20_method_78_code 169 = .ok (.ifCond .eq 54, 3) := by decide +kernel
theorem d_MD_clash_172 : decode prog_20_method_78_code 172 = .ok (.aload_n 0, 1) := by decide +kernel
theorem d_MD_clash_173 : decode prog_20_method_78_code 173 = .ok (.getfield 20, 3) := by decide +kernel
theorem d_MD_clash_176 : decode prog_20_method_78_code 176 = .ok (.bipush 24, 2) := by decide +kernel
theorem d_MD_clash_178 : decode prog_20_method_78_code 178 = .ok (.iload_n 3, 1) := by decide +kernel
theorem d_MD_clash_179 : decode prog_20_method_78_code 179 = .ok (.imul, 1) := by decide +kernel
theorem d_MD_clash_180 : decode prog_20_method_78_code 180 = .ok (.iload 5, 2) := by decide +kernel
theorem d_MD_clash_182 : decode prog_20_method_78_code 182 = .ok (.iadd, 1) := by decide +kernel
theorem d_MD_clash_183 : decode prog_20_method_78_code 183 = .ok (.iaload, 1) := by decide +kernel
theorem d_MD_clash_184 : decode prog_20_method_78_code 184 = .ok (.iconst 2, 1) := by decide +kernel
theorem d_MD_clash_185 : decode prog_20_method_78_code 185 = .ok (.if_icmp .eq 34, 3) := by decide +kernel
theorem d_MD_clash_188 : decode prog_20_method_78_code 188 = .ok (.aload_n 0, 1) := by decide +kernel
theorem d_MD_clash_189 : decode prog_20_method_78_code 189 = .ok (.getfield 83, 3) := by decide +kernel
theorem d_MD_clash_192 : decode prog_20_method_78_code 192 = .ok (.iload 5, 2) := by decide +kernel
theorem d_MD_clash_194 : decode prog_20_method_78_code 194 = .ok (.iaload, 1) := by decide +kernel
theorem d_MD_clash_195 : decode prog_20_method_78_code 195 = .ok (.aload_n 0, 1) := by decide +kernel
theorem d_MD_clash_196 : decode prog_20_method_78_code 196 = .ok (.getfield 68, 3) := by decide +kernel
theorem d_MD_clash_199 : decode prog_20_method_78_code 199 = .ok (.aload_n 0, 1) := by decide +kernel
theorem d_MD_clash_200 : decode prog_20_method_78_code 200 = .ok (.aload_n 0, 1) := by decide +kernel
theorem d_MD_clash_201 : decode prog_20_method_78_code 201 = .ok (.getfield 17, 3) := by decide +kernel
theorem d_MD_clash_204 : decode prog_20_method_78_code 204 = .ok (.bipush 24, 2) := by decide +kernel
theorem d_MD_clash_206 : decode prog_20_method_78_code 206 = .ok (.iload_n 3, 1) := by decide +kernel
theorem d_MD_clash_207 : decode prog_20_method_78_code 207 = .ok (.imul, 1) := by decide +kernel
theorem d_MD_clash_208 : decode prog_20_method_78_code 208 = .ok (.iload 5, 2) := by decide +kernel
theorem d_MD_clash_210 : decode prog_20_method_78_code 210 = .ok (.iadd, 1) := by decide +kernel
theorem d_MD_clash_211 : decode prog_20_method_78_code 211 = .ok (.iaload, 1) := by decide +kernel
theorem d_MD_clash_212 : decode prog_20_method_78_code 212 = .ok (.invokevirtual 111, 3) := by decide +kernel
theorem d_MD_clash_215 : decode prog_20_method_78_code 215 = .ok (.iaload, 1) := by decide +kernel
theorem d_MD_clash_216 : decode prog_20_method_78_code 216 = .ok (.if_icmp .ne 7, 3) := by decide +kernel
theorem d_MD_clash_219 : decode prog_20_method_78_code 219 = .ok (.iconst 1, 1) := by decide +kernel
theorem d_MD_clash_220 : decode prog_20_method_78_code 220 = .ok (.goto 4, 3) := by decide +kernel
theorem d_MD_clash_223 : decode prog_20_method_78_code 223 = .ok (.iconst 0, 1) := by decide +kernel
theorem d_MD_clash_224 : decode prog_20_method_78_code 224 = .ok (.istore 4, 2) := by decide +kernel
theorem d_MD_clash_226 : decode prog_20_method_78_code 226 = .ok (.iinc 5 1, 3) := by decide +kernel
theorem d_MD_clash_229 : decode prog_20_method_78_code 229 = .ok (.goto (-73), 3) := by decide +kernel
theorem d_MD_clash_232 : decode prog_20_method_78_code 232 = .ok (.iload 4, 2) := by decide +kernel
theorem d_MD_clash_234 : decode prog_20_method_78_code 234 = .ok (.ifCond .eq 7, 3) := by decide +kernel
theorem d_MD_clash_237 : decode prog_20_method_78_code 237 = .ok (.iconst 0, 1) := by decide +kernel
theorem d_MD_clash_238 : decode prog_20_method_78_code 238 = .ok (.goto 4, 3) := by decide +kernel
theorem d_MD_clash_241 : decode prog_20_method_78_code 241 = .ok (.iconst 1, 1) := by decide +kernel
theorem d_MD_clash_242 : decode prog_20_method_78_code 242 = .ok (.ireturn, 1) := by decide +kernel
