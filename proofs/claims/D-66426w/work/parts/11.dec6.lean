/-! decode rows (printed by wip/gen/links.py) -/
theorem d_LW_field_0 : decode method_3_code 0 = .ok (.aload 5, 2) := by decide +kernel
theorem d_LW_field_2 : decode method_3_code 2 = .ok (.iconst 0, 1) := by decide +kernel
theorem d_LW_field_3 : decode method_3_code 3 = .ok (.aload_n 0, 1) := by decide +kernel
theorem d_LW_field_4 : decode method_3_code 4 = .ok (.iload_n 1, 1) := by decide +kernel
theorem d_LW_field_5 : decode method_3_code 5 = .ok (.iload_n 2, 1) := by decide +kernel
theorem d_LW_field_6 : decode method_3_code 6 = .ok (.iload_n 3, 1) := by decide +kernel
theorem d_LW_field_7 : decode method_3_code 7 = .ok (.iload 4, 2) := by decide +kernel
theorem d_LW_field_9 : decode method_3_code 9 = .ok (.invokevirtual 7, 3) := by decide +kernel
theorem d_LW_field_12 : decode method_3_code 12 = .ok (.i2l, 1) := by decide +kernel
theorem d_LW_field_13 : decode method_3_code 13 = .ok (.lastore, 1) := by decide +kernel
theorem d_LW_field_14 : decode method_3_code 14 = .ok (.goto 11, 3) := by decide +kernel
theorem d_LW_field_17 : decode method_3_code 17 = .ok (.astore 6, 2) := by decide +kernel
theorem d_LW_field_19 : decode method_3_code 19 = .ok (.iconst 1, 1) := by decide +kernel
theorem d_LW_field_20 : decode method_3_code 20 = .ok (.ireturn, 1) := by decide +kernel
theorem d_LW_field_21 : decode method_3_code 21 = .ok (.astore 6, 2) := by decide +kernel
theorem d_LW_field_23 : decode method_3_code 23 = .ok (.iconst 2, 1) := by decide +kernel
theorem d_LW_field_24 : decode method_3_code 24 = .ok (.ireturn, 1) := by decide +kernel
theorem d_LW_field_25 : decode method_3_code 25 = .ok (.iconst 0, 1) := by decide +kernel
theorem d_LW_field_26 : decode method_3_code 26 = .ok (.ireturn, 1) := by decide +kernel
theorem d_LW_begin_0 : decode method_4_code 0 = .ok (.aload_n 0, 1) := by decide +kernel
theorem d_LW_begin_1 : decode method_4_code 1 = .ok (.iload_n 1, 1) := by decide +kernel
theorem d_LW_begin_2 : decode method_4_code 2 = .ok (.invokevirtual 17, 3) := by decide +kernel
theorem d_LW_begin_5 : decode method_4_code 5 = .ok (.goto 9, 3) := by decide +kernel
theorem d_LW_begin_8 : decode method_4_code 8 = .ok (.astore_n 2, 1) := by decide +kernel
theorem d_LW_begin_9 : decode method_4_code 9 = .ok (.iconst 1, 1) := by decide +kernel
theorem d_LW_begin_10 : decode method_4_code 10 = .ok (.ireturn, 1) := by decide +kernel
theorem d_LW_begin_11 : decode method_4_code 11 = .ok (.astore_n 2, 1) := by decide +kernel
theorem d_LW_begin_12 : decode method_4_code 12 = .ok (.iconst 2, 1) := by decide +kernel
theorem d_LW_begin_13 : decode method_4_code 13 = .ok (.ireturn, 1) := by decide +kernel
theorem d_LW_begin_14 : decode method_4_code 14 = .ok (.iconst 0, 1) := by decide +kernel
theorem d_LW_begin_15 : decode method_4_code 15 = .ok (.ireturn, 1) := by decide +kernel
theorem d_LW_primitive_0 : decode method_5_code 0 = .ok (.aload 6, 2) := by decide +kernel
theorem d_LW_primitive_2 : decode method_5_code 2 = .ok (.iconst 0, 1) := by decide +kernel
theorem d_LW_primitive_3 : decode method_5_code 3 = .ok (.aload_n 0, 1) := by decide +kernel
theorem d_LW_primitive_4 : decode method_5_code 4 = .ok (.iload_n 1, 1) := by decide +kernel
theorem d_LW_primitive_5 : decode method_5_code 5 = .ok (.iload_n 2, 1) := by decide +kernel
theorem d_LW_primitive_6 : decode method_5_code 6 = .ok (.iload_n 3, 1) := by decide +kernel
theorem d_LW_primitive_7 : decode method_5_code 7 = .ok (.iload 4, 2) := by decide +kernel
theorem d_LW_primitive_9 : decode method_5_code 9 = .ok (.iload 5, 2) := by decide +kernel
theorem d_LW_primitive_11 : decode method_5_code 11 = .ok (.invokevirtual 23, 3) := by decide +kernel
theorem d_LW_primitive_14 : decode method_5_code 14 = .ok (.i2l, 1) := by decide +kernel
theorem d_LW_primitive_15 : decode method_5_code 15 = .ok (.lastore, 1) := by decide +kernel
theorem d_LW_primitive_16 : decode method_5_code 16 = .ok (.goto 11, 3) := by decide +kernel
theorem d_LW_primitive_19 : decode method_5_code 19 = .ok (.astore 7, 2) := by decide +kernel
theorem d_LW_primitive_21 : decode method_5_code 21 = .ok (.iconst 1, 1) := by decide +kernel
theorem d_LW_primitive_22 : decode method_5_code 22 = .ok (.ireturn, 1) := by decide +kernel
theorem d_LW_primitive_23 : decode method_5_code 23 = .ok (.astore 7, 2) := by decide +kernel
theorem d_LW_primitive_25 : decode method_5_code 25 = .ok (.iconst 2, 1) := by decide +kernel
theorem d_LW_primitive_26 : decode method_5_code 26 = .ok (.ireturn, 1) := by decide +kernel
theorem d_LW_primitive_27 : decode method_5_code 27 = .ok (.iconst 0, 1) := by decide +kernel
theorem d_LW_primitive_28 : decode method_5_code 28 = .ok (.ireturn, 1) := by decide +kernel
theorem d_LW_end_0 : decode method_6_code 0 = .ok (.aload_n 2, 1) := by decide +kernel
theorem d_LW_end_1 : decode method_6_code 1 = .ok (.iconst 0, 1) := by decide +kernel
theorem d_LW_end_2 : decode method_6_code 2 = .ok (.aload_n 0, 1) := by decide +kernel
theorem d_LW_end_3 : decode method_6_code 3 = .ok (.iload_n 1, 1) := by decide +kernel
theorem d_LW_end_4 : decode method_6_code 4 = .ok (.invokevirtual 27, 3) := by decide +kernel
theorem d_LW_end_7 : decode method_6_code 7 = .ok (.i2l, 1) := by decide +kernel
theorem d_LW_end_8 : decode method_6_code 8 = .ok (.lastore, 1) := by decide +kernel
theorem d_LW_end_9 : decode method_6_code 9 = .ok (.goto 15, 3) := by decide +kernel
theorem d_LW_end_12 : decode method_6_code 12 = .ok (.astore_n 3, 1) := by decide +kernel
theorem d_LW_end_13 : decode method_6_code 13 = .ok (.iconst 1, 1) := by decide +kernel
theorem d_LW_end_14 : decode method_6_code 14 = .ok (.ireturn, 1) := by decide +kernel
theorem d_LW_end_15 : decode method_6_code 15 = .ok (.astore_n 3, 1) := by decide +kernel
theorem d_LW_end_16 : decode method_6_code 16 = .ok (.iconst 2, 1) := by decide +kernel
theorem d_LW_end_17 : decode method_6_code 17 = .ok (.ireturn, 1) := by decide +kernel
theorem d_LW_end_18 : decode method_6_code 18 = .ok (.astore_n 3, 1) := by decide +kernel
theorem d_LW_end_19 : decode method_6_code 19 = .ok (.iconst 3, 1) := by decide +kernel
theorem d_LW_end_20 : decode method_6_code 20 = .ok (.ireturn, 1) := by decide +kernel
theorem d_LW_end_21 : decode method_6_code 21 = .ok (.astore_n 3, 1) := by decide +kernel
theorem d_LW_end_22 : decode method_6_code 22 = .ok (.iconst 4, 1) := by decide +kernel
theorem d_LW_end_23 : decode method_6_code 23 = .ok (.ireturn, 1) := by decide +kernel
theorem d_LW_end_24 : decode method_6_code 24 = .ok (.iconst 0, 1) := by decide +kernel
theorem d_LW_end_25 : decode method_6_code 25 = .ok (.ireturn, 1) := by decide +kernel
theorem d_LW_about_0 : decode method_7_code 0 = .ok (.aload 4, 2) := by decide +kernel
theorem d_LW_about_2 : decode method_7_code 2 = .ok (.iconst 0, 1) := by decide +kernel
theorem d_LW_about_3 : decode method_7_code 3 = .ok (.aload_n 0, 1) := by decide +kernel
theorem d_LW_about_4 : decode method_7_code 4 = .ok (.iload_n 1, 1) := by decide +kernel
theorem d_LW_about_5 : decode method_7_code 5 = .ok (.iload_n 2, 1) := by decide +kernel
theorem d_LW_about_6 : decode method_7_code 6 = .ok (.iload_n 3, 1) := by decide +kernel
theorem d_LW_about_7 : decode method_7_code 7 = .ok (.invokevirtual 33, 3) := by decide +kernel
theorem d_LW_about_10 : decode method_7_code 10 = .ok (.i2l, 1) := by decide +kernel
theorem d_LW_about_11 : decode method_7_code 11 = .ok (.lastore, 1) := by decide +kernel
theorem d_LW_about_12 : decode method_7_code 12 = .ok (.goto 11, 3) := by decide +kernel
theorem d_LW_about_15 : decode method_7_code 15 = .ok (.astore 5, 2) := by decide +kernel
theorem d_LW_about_17 : decode method_7_code 17 = .ok (.iconst 1, 1) := by decide +kernel
theorem d_LW_about_18 : decode method_7_code 18 = .ok (.ireturn, 1) := by decide +kernel
theorem d_LW_about_19 : decode method_7_code 19 = .ok (.astore 5, 2) := by decide +kernel
theorem d_LW_about_21 : decode method_7_code 21 = .ok (.iconst 2, 1) := by decide +kernel
theorem d_LW_about_22 : decode method_7_code 22 = .ok (.ireturn, 1) := by decide +kernel
theorem d_LW_about_23 : decode method_7_code 23 = .ok (.iconst 0, 1) := by decide +kernel
theorem d_LW_about_24 : decode method_7_code 24 = .ok (.ireturn, 1) := by decide +kernel
theorem d_LW_count_0 : decode method_8_code 0 = .ok (.aload_n 2, 1) := by decide +kernel
theorem d_LW_count_1 : decode method_8_code 1 = .ok (.iconst 0, 1) := by decide +kernel
theorem d_LW_count_2 : decode method_8_code 2 = .ok (.aload_n 0, 1) := by decide +kernel
theorem d_LW_count_3 : decode method_8_code 3 = .ok (.iload_n 1, 1) := by decide +kernel
theorem d_LW_count_4 : decode method_8_code 4 = .ok (.invokevirtual 37, 3) := by decide +kernel
theorem d_LW_count_7 : decode method_8_code 7 = .ok (.i2l, 1) := by decide +kernel
theorem d_LW_count_8 : decode method_8_code 8 = .ok (.lastore, 1) := by decide +kernel
theorem d_LW_count_9 : decode method_8_code 9 = .ok (.goto 6, 3) := by decide +kernel
theorem d_LW_count_12 : decode method_8_code 12 = .ok (.astore_n 3, 1) := by decide +kernel
theorem d_LW_count_13 : decode method_8_code 13 = .ok (.iconst 1, 1) := by decide +kernel
theorem d_LW_count_14 : decode method_8_code 14 = .ok (.ireturn, 1) := by decide +kernel
theorem d_LW_count_15 : decode method_8_code 15 = .ok (.iconst 0, 1) := by decide +kernel
theorem d_LW_count_16 : decode method_8_code 16 = .ok (.ireturn, 1) := by decide +kernel
theorem d_LW_record_0 : decode method_9_code 0 = .ok (.aload_n 2, 1) := by decide +kernel
theorem d_LW_record_1 : decode method_9_code 1 = .ok (.iconst 0, 1) := by decide +kernel
theorem d_LW_record_2 : decode method_9_code 2 = .ok (.aload_n 0, 1) := by decide +kernel
theorem d_LW_record_3 : decode method_9_code 3 = .ok (.iload_n 1, 1) := by decide +kernel
theorem d_LW_record_4 : decode method_9_code 4 = .ok (.invokevirtual 40, 3) := by decide +kernel
theorem d_LW_record_7 : decode method_9_code 7 = .ok (.i2l, 1) := by decide +kernel
theorem d_LW_record_8 : decode method_9_code 8 = .ok (.lastore, 1) := by decide +kernel
theorem d_LW_record_9 : decode method_9_code 9 = .ok (.goto 9, 3) := by decide +kernel
theorem d_LW_record_12 : decode method_9_code 12 = .ok (.astore_n 3, 1) := by decide +kernel
theorem d_LW_record_13 : decode method_9_code 13 = .ok (.iconst 1, 1) := by decide +kernel
theorem d_LW_record_14 : decode method_9_code 14 = .ok (.ireturn, 1) := by decide +kernel
theorem d_LW_record_15 : decode method_9_code 15 = .ok (.astore_n 3, 1) := by decide +kernel
theorem d_LW_record_16 : decode method_9_code 16 = .ok (.iconst 2, 1) := by decide +kernel
theorem d_LW_record_17 : decode method_9_code 17 = .ok (.ireturn, 1) := by decide +kernel
theorem d_LW_record_18 : decode method_9_code 18 = .ok (.iconst 0, 1) := by decide +kernel
theorem d_LW_record_19 : decode method_9_code 19 = .ok (.ireturn, 1) := by decide +kernel
theorem d_LW_copy_0 : decode method_10_code 0 = .ok (.aload_n 2, 1) := by decide +kernel
theorem d_LW_copy_1 : decode method_10_code 1 = .ok (.iconst 0, 1) := by decide +kernel
theorem d_LW_copy_2 : decode method_10_code 2 = .ok (.aload_n 0, 1) := by decide +kernel
theorem d_LW_copy_3 : decode method_10_code 3 = .ok (.iload_n 1, 1) := by decide +kernel
theorem d_LW_copy_4 : decode method_10_code 4 = .ok (.invokevirtual 43, 3) := by decide +kernel
theorem d_LW_copy_7 : decode method_10_code 7 = .ok (.i2l, 1) := by decide +kernel
theorem d_LW_copy_8 : decode method_10_code 8 = .ok (.lastore, 1) := by decide +kernel
theorem d_LW_copy_9 : decode method_10_code 9 = .ok (.goto 9, 3) := by decide +kernel
theorem d_LW_copy_12 : decode method_10_code 12 = .ok (.astore_n 3, 1) := by decide +kernel
theorem d_LW_copy_13 : decode method_10_code 13 = .ok (.iconst 1, 1) := by decide +kernel
theorem d_LW_copy_14 : decode method_10_code 14 = .ok (.ireturn, 1) := by decide +kernel
theorem d_LW_copy_15 : decode method_10_code 15 = .ok (.astore_n 3, 1) := by decide +kernel
theorem d_LW_copy_16 : decode method_10_code 16 = .ok (.iconst 2, 1) := by decide +kernel
theorem d_LW_copy_17 : decode method_10_code 17 = .ok (.ireturn, 1) := by decide +kernel
theorem d_LW_copy_18 : decode method_10_code 18 = .ok (.iconst 0, 1) := by decide +kernel
theorem d_LW_copy_19 : decode method_10_code 19 = .ok (.ireturn, 1) := by decide +kernel
theorem d_LW_drop_0 : decode method_11_code 0 = .ok (.aload_n 0, 1) := by decide +kernel
theorem d_LW_drop_1 : decode method_11_code 1 = .ok (.iload_n 1, 1) := by decide +kernel
theorem d_LW_drop_2 : decode method_11_code 2 = .ok (.invokevirtual 46, 3) := by decide +kernel
theorem d_LW_drop_5 : decode method_11_code 5 = .ok (.goto 6, 3) := by decide +kernel
theorem d_LW_drop_8 : decode method_11_code 8 = .ok (.astore_n 2, 1) := by decide +kernel
theorem d_LW_drop_9 : decode method_11_code 9 = .ok (.iconst 1, 1) := by decide +kernel
theorem d_LW_drop_10 : decode method_11_code 10 = .ok (.ireturn, 1) := by decide +kernel
theorem d_LW_drop_11 : decode method_11_code 11 = .ok (.iconst 0, 1) := by decide +kernel
theorem d_LW_drop_12 : decode method_11_code 12 = .ok (.ireturn, 1) := by decide +kernel
theorem d_LW_set_0 : decode method_12_code 0 = .ok (.aload_n 0, 1) := by decide +kernel
theorem d_LW_set_1 : decode method_12_code 1 = .ok (.iload_n 1, 1) := by decide +kernel
theorem d_LW_set_2 : decode method_12_code 2 = .ok (.iload_n 2, 1) := by decide +kernel
theorem d_LW_set_3 : decode method_12_code 3 = .ok (.iload_n 3, 1) := by decide +kernel
theorem d_LW_set_4 : decode method_12_code 4 = .ok (.invokevirtual 49, 3) := by decide +kernel
theorem d_LW_set_7 : decode method_12_code 7 = .ok (.goto 11, 3) := by decide +kernel
theorem d_LW_set_10 : decode method_12_code 10 = .ok (.astore 4, 2) := by decide +kernel
theorem d_LW_set_12 : decode method_12_code 12 = .ok (.iconst 1, 1) := by decide +kernel
theorem d_LW_set_13 : decode method_12_code 13 = .ok (.ireturn, 1) := by decide +kernel
theorem d_LW_set_14 : decode method_12_code 14 = .ok (.astore 4, 2) := by decide +kernel
theorem d_LW_set_16 : decode method_12_code 16 = .ok (.iconst 2, 1) := by decide +kernel
theorem d_LW_set_17 : decode method_12_code 17 = .ok (.ireturn, 1) := by decide +kernel
theorem d_LW_set_18 : decode method_12_code 18 = .ok (.iconst 0, 1) := by decide +kernel
theorem d_LW_set_19 : decode method_12_code 19 = .ok (.ireturn, 1) := by decide +kernel
theorem d_LW_put_0 : decode method_13_code 0 = .ok (.aload 5, 2) := by decide +kernel
theorem d_LW_put_2 : decode method_13_code 2 = .ok (.iconst 0, 1) := by decide +kernel
theorem d_LW_put_3 : decode method_13_code 3 = .ok (.aload_n 0, 1) := by decide +kernel
theorem d_LW_put_4 : decode method_13_code 4 = .ok (.iload_n 1, 1) := by decide +kernel
theorem d_LW_put_5 : decode method_13_code 5 = .ok (.iload_n 2, 1) := by decide +kernel
theorem d_LW_put_6 : decode method_13_code 6 = .ok (.iload_n 3, 1) := by decide +kernel
theorem d_LW_put_7 : decode method_13_code 7 = .ok (.iload 4, 2) := by decide +kernel
theorem d_LW_put_9 : decode method_13_code 9 = .ok (.invokevirtual 53, 3) := by decide +kernel
theorem d_LW_put_12 : decode method_13_code 12 = .ok (.i2l, 1) := by decide +kernel
theorem d_LW_put_13 : decode method_13_code 13 = .ok (.lastore, 1) := by decide +kernel
theorem d_LW_put_14 : decode method_13_code 14 = .ok (.goto 11, 3) := by decide +kernel
theorem d_LW_put_17 : decode method_13_code 17 = .ok (.astore 6, 2) := by decide +kernel
theorem d_LW_put_19 : decode method_13_code 19 = .ok (.iconst 1, 1) := by decide +kernel
theorem d_LW_put_20 : decode method_13_code 20 = .ok (.ireturn, 1) := by decide +kernel
theorem d_LW_put_21 : decode method_13_code 21 = .ok (.astore 6, 2) := by decide +kernel
theorem d_LW_put_23 : decode method_13_code 23 = .ok (.iconst 2, 1) := by decide +kernel
theorem d_LW_put_24 : decode method_13_code 24 = .ok (.ireturn, 1) := by decide +kernel
theorem d_LW_put_25 : decode method_13_code 25 = .ok (.iconst 0, 1) := by decide +kernel
theorem d_LW_put_26 : decode method_13_code 26 = .ok (.ireturn, 1) := by decide +kernel
theorem d_LW_cut_0 : decode method_14_code 0 = .ok (.aload_n 0, 1) := by decide +kernel
theorem d_LW_cut_1 : decode method_14_code 1 = .ok (.iload_n 1, 1) := by decide +kernel
theorem d_LW_cut_2 : decode method_14_code 2 = .ok (.iload_n 2, 1) := by decide +kernel
theorem d_LW_cut_3 : decode method_14_code 3 = .ok (.iload_n 3, 1) := by decide +kernel
theorem d_LW_cut_4 : decode method_14_code 4 = .ok (.invokevirtual 56, 3) := by decide +kernel
theorem d_LW_cut_7 : decode method_14_code 7 = .ok (.goto 11, 3) := by decide +kernel
theorem d_LW_cut_10 : decode method_14_code 10 = .ok (.astore 4, 2) := by decide +kernel
theorem d_LW_cut_12 : decode method_14_code 12 = .ok (.iconst 1, 1) := by decide +kernel
theorem d_LW_cut_13 : decode method_14_code 13 = .ok (.ireturn, 1) := by decide +kernel
theorem d_LW_cut_14 : decode method_14_code 14 = .ok (.astore 4, 2) := by decide +kernel
theorem d_LW_cut_16 : decode method_14_code 16 = .ok (.iconst 2, 1) := by decide +kernel
theorem d_LW_cut_17 : decode method_14_code 17 = .ok (.ireturn, 1) := by decide +kernel
theorem d_LW_cut_18 : decode method_14_code 18 = .ok (.iconst 0, 1) := by decide +kernel
theorem d_LW_cut_19 : decode method_14_code 19 = .ok (.ireturn, 1) := by decide +kernel
theorem d_LW_get_0 : decode method_15_code 0 = .ok (.aload_n 3, 1) := by decide +kernel
theorem d_LW_get_1 : decode method_15_code 1 = .ok (.iconst 0, 1) := by decide +kernel
theorem d_LW_get_2 : decode method_15_code 2 = .ok (.aload_n 0, 1) := by decide +kernel
theorem d_LW_get_3 : decode method_15_code 3 = .ok (.iload_n 1, 1) := by decide +kernel
theorem d_LW_get_4 : decode method_15_code 4 = .ok (.iload_n 2, 1) := by decide +kernel
theorem d_LW_get_5 : decode method_15_code 5 = .ok (.invokevirtual 59, 3) := by decide +kernel
theorem d_LW_get_8 : decode method_15_code 8 = .ok (.i2l, 1) := by decide +kernel
theorem d_LW_get_9 : decode method_15_code 9 = .ok (.lastore, 1) := by decide +kernel
theorem d_LW_get_10 : decode method_15_code 10 = .ok (.goto 11, 3) := by decide +kernel
theorem d_LW_get_13 : decode method_15_code 13 = .ok (.astore 4, 2) := by decide +kernel
theorem d_LW_get_15 : decode method_15_code 15 = .ok (.iconst 1, 1) := by decide +kernel
theorem d_LW_get_16 : decode method_15_code 16 = .ok (.ireturn, 1) := by decide +kernel
theorem d_LW_get_17 : decode method_15_code 17 = .ok (.astore 4, 2) := by decide +kernel
theorem d_LW_get_19 : decode method_15_code 19 = .ok (.iconst 2, 1) := by decide +kernel
theorem d_LW_get_20 : decode method_15_code 20 = .ok (.ireturn, 1) := by decide +kernel
theorem d_LW_get_21 : decode method_15_code 21 = .ok (.iconst 0, 1) := by decide +kernel
theorem d_LW_get_22 : decode method_15_code 22 = .ok (.ireturn, 1) := by decide +kernel
theorem d_LW_size_0 : decode method_16_code 0 = .ok (.aload_n 3, 1) := by decide +kernel
theorem d_LW_size_1 : decode method_16_code 1 = .ok (.iconst 0, 1) := by decide +kernel
theorem d_LW_size_2 : decode method_16_code 2 = .ok (.aload_n 0, 1) := by decide +kernel
theorem d_LW_size_3 : decode method_16_code 3 = .ok (.iload_n 1, 1) := by decide +kernel
theorem d_LW_size_4 : decode method_16_code 4 = .ok (.iload_n 2, 1) := by decide +kernel
theorem d_LW_size_5 : decode method_16_code 5 = .ok (.invokevirtual 63, 3) := by decide +kernel
theorem d_LW_size_8 : decode method_16_code 8 = .ok (.i2l, 1) := by decide +kernel
theorem d_LW_size_9 : decode method_16_code 9 = .ok (.lastore, 1) := by decide +kernel
theorem d_LW_size_10 : decode method_16_code 10 = .ok (.goto 11, 3) := by decide +kernel
theorem d_LW_size_13 : decode method_16_code 13 = .ok (.astore 4, 2) := by decide +kernel
theorem d_LW_size_15 : decode method_16_code 15 = .ok (.iconst 1, 1) := by decide +kernel
theorem d_LW_size_16 : decode method_16_code 16 = .ok (.ireturn, 1) := by decide +kernel
theorem d_LW_size_17 : decode method_16_code 17 = .ok (.astore 4, 2) := by decide +kernel
theorem d_LW_size_19 : decode method_16_code 19 = .ok (.iconst 2, 1) := by decide +kernel
theorem d_LW_size_20 : decode method_16_code 20 = .ok (.ireturn, 1) := by decide +kernel
theorem d_LW_size_21 : decode method_16_code 21 = .ok (.iconst 0, 1) := by decide +kernel
theorem d_LW_size_22 : decode method_16_code 22 = .ok (.ireturn, 1) := by decide +kernel
theorem d_LW_item_0 : decode method_17_code 0 = .ok (.aload 4, 2) := by decide +kernel
theorem d_LW_item_2 : decode method_17_code 2 = .ok (.iconst 0, 1) := by decide +kernel
theorem d_LW_item_3 : decode method_17_code 3 = .ok (.aload_n 0, 1) := by decide +kernel
theorem d_LW_item_4 : decode method_17_code 4 = .ok (.iload_n 1, 1) := by decide +kernel
theorem d_LW_item_5 : decode method_17_code 5 = .ok (.iload_n 2, 1) := by decide +kernel
theorem d_LW_item_6 : decode method_17_code 6 = .ok (.iload_n 3, 1) := by decide +kernel
theorem d_LW_item_7 : decode method_17_code 7 = .ok (.invokevirtual 66, 3) := by decide +kernel
theorem d_LW_item_10 : decode method_17_code 10 = .ok (.i2l, 1) := by decide +kernel
theorem d_LW_item_11 : decode method_17_code 11 = .ok (.lastore, 1) := by decide +kernel
theorem d_LW_item_12 : decode method_17_code 12 = .ok (.goto 11, 3) := by decide +kernel
theorem d_LW_item_15 : decode method_17_code 15 = .ok (.astore 5, 2) := by decide +kernel
theorem d_LW_item_17 : decode method_17_code 17 = .ok (.iconst 1, 1) := by decide +kernel
theorem d_LW_item_18 : decode method_17_code 18 = .ok (.ireturn, 1) := by decide +kernel
theorem d_LW_item_19 : decode method_17_code 19 = .ok (.astore 5, 2) := by decide +kernel
theorem d_LW_item_21 : decode method_17_code 21 = .ok (.iconst 2, 1) := by decide +kernel
theorem d_LW_item_22 : decode method_17_code 22 = .ok (.ireturn, 1) := by decide +kernel
theorem d_LW_item_23 : decode method_17_code 23 = .ok (.iconst 0, 1) := by decide +kernel
theorem d_LW_item_24 : decode method_17_code 24 = .ok (.ireturn, 1) := by decide +kernel
theorem d_LW_version_0 : decode method_18_code 0 = .ok (.aload_n 2, 1) := by decide +kernel
theorem d_LW_version_1 : decode method_18_code 1 = .ok (.iconst 0, 1) := by decide +kernel
theorem d_LW_version_2 : decode method_18_code 2 = .ok (.aload_n 0, 1) := by decide +kernel
theorem d_LW_version_3 : decode method_18_code 3 = .ok (.iload_n 1, 1) := by decide +kernel
theorem d_LW_version_4 : decode method_18_code 4 = .ok (.invokevirtual 69, 3) := by decide +kernel
theorem d_LW_version_7 : decode method_18_code 7 = .ok (.i2l, 1) := by decide +kernel
theorem d_LW_version_8 : decode method_18_code 8 = .ok (.lastore, 1) := by decide +kernel
theorem d_LW_version_9 : decode method_18_code 9 = .ok (.goto 6, 3) := by decide +kernel
theorem d_LW_version_12 : decode method_18_code 12 = .ok (.astore_n 3, 1) := by decide +kernel
theorem d_LW_version_13 : decode method_18_code 13 = .ok (.iconst 1, 1) := by decide +kernel
theorem d_LW_version_14 : decode method_18_code 14 = .ok (.ireturn, 1) := by decide +kernel
theorem d_LW_version_15 : decode method_18_code 15 = .ok (.iconst 0, 1) := by decide +kernel
theorem d_LW_version_16 : decode method_18_code 16 = .ok (.ireturn, 1) := by decide +kernel
theorem d_LW_kept_0 : decode method_19_code 0 = .ok (.aload_n 2, 1) := by decide +kernel
theorem d_LW_kept_1 : decode method_19_code 1 = .ok (.iconst 0, 1) := by decide +kernel
theorem d_LW_kept_2 : decode method_19_code 2 = .ok (.aload_n 0, 1) := by decide +kernel
theorem d_LW_kept_3 : decode method_19_code 3 = .ok (.iload_n 1, 1) := by decide +kernel
theorem d_LW_kept_4 : decode method_19_code 4 = .ok (.invokevirtual 72, 3) := by decide +kernel
theorem d_LW_kept_7 : decode method_19_code 7 = .ok (.i2l, 1) := by decide +kernel
theorem d_LW_kept_8 : decode method_19_code 8 = .ok (.lastore, 1) := by decide +kernel
theorem d_LW_kept_9 : decode method_19_code 9 = .ok (.goto 6, 3) := by decide +kernel
theorem d_LW_kept_12 : decode method_19_code 12 = .ok (.astore_n 3, 1) := by decide +kernel
theorem d_LW_kept_13 : decode method_19_code 13 = .ok (.iconst 1, 1) := by decide +kernel
theorem d_LW_kept_14 : decode method_19_code 14 = .ok (.ireturn, 1) := by decide +kernel
theorem d_LW_kept_15 : decode method_19_code 15 = .ok (.iconst 0, 1) := by decide +kernel
theorem d_LW_kept_16 : decode method_19_code 16 = .ok (.ireturn, 1) := by decide +kernel
theorem d_LW_same_0 : decode method_20_code 0 = .ok (.aload_n 3, 1) := by decide +kernel
theorem d_LW_same_1 : decode method_20_code 1 = .ok (.iconst 0, 1) := by decide +kernel
theorem d_LW_same_2 : decode method_20_code 2 = .ok (.aload_n 0, 1) := by decide +kernel
theorem d_LW_same_3 : decode method_20_code 3 = .ok (.iload_n 1, 1) := by decide +kernel
theorem d_LW_same_4 : decode method_20_code 4 = .ok (.iload_n 2, 1) := by decide +kernel
theorem d_LW_same_5 : decode method_20_code 5 = .ok (.invokevirtual 75, 3) := by decide +kernel
theorem d_LW_same_8 : decode method_20_code 8 = .ok (.ifCond .eq 7, 3) := by decide +kernel
theorem d_LW_same_11 : decode method_20_code 11 = .ok (.lconst 1, 1) := by decide +kernel
theorem d_LW_same_12 : decode method_20_code 12 = .ok (.goto 4, 3) := by decide +kernel
theorem d_LW_same_15 : decode method_20_code 15 = .ok (.lconst 0, 1) := by decide +kernel
theorem d_LW_same_16 : decode method_20_code 16 = .ok (.lastore, 1) := by decide +kernel
theorem d_LW_same_17 : decode method_20_code 17 = .ok (.goto 7, 3) := by decide +kernel
theorem d_LW_same_20 : decode method_20_code 20 = .ok (.astore 4, 2) := by decide +kernel
theorem d_LW_same_22 : decode method_20_code 22 = .ok (.iconst 1, 1) := by decide +kernel
theorem d_LW_same_23 : decode method_20_code 23 = .ok (.ireturn, 1) := by decide +kernel
theorem d_LW_same_24 : decode method_20_code 24 = .ok (.iconst 0, 1) := by decide +kernel
theorem d_LW_same_25 : decode method_20_code 25 = .ok (.ireturn, 1) := by decide +kernel
theorem d_LW_translate_0 : decode method_21_code 0 = .ok (.aload_n 3, 1) := by decide +kernel
theorem d_LW_translate_1 : decode method_21_code 1 = .ok (.iconst 0, 1) := by decide +kernel
theorem d_LW_translate_2 : decode method_21_code 2 = .ok (.aload_n 0, 1) := by decide +kernel
theorem d_LW_translate_3 : decode method_21_code 3 = .ok (.iload_n 1, 1) := by decide +kernel
theorem d_LW_translate_4 : decode method_21_code 4 = .ok (.iload_n 2, 1) := by decide +kernel
theorem d_LW_translate_5 : decode method_21_code 5 = .ok (.invokevirtual 79, 3) := by decide +kernel
theorem d_LW_translate_8 : decode method_21_code 8 = .ok (.i2l, 1) := by decide +kernel
theorem d_LW_translate_9 : decode method_21_code 9 = .ok (.lastore, 1) := by decide +kernel
theorem d_LW_translate_10 : decode method_21_code 10 = .ok (.goto 15, 3) := by decide +kernel
theorem d_LW_translate_13 : decode method_21_code 13 = .ok (.astore 4, 2) := by decide +kernel
theorem d_LW_translate_15 : decode method_21_code 15 = .ok (.iconst 1, 1) := by decide +kernel
theorem d_LW_translate_16 : decode method_21_code 16 = .ok (.ireturn, 1) := by decide +kernel
theorem d_LW_translate_17 : decode method_21_code 17 = .ok (.astore 4, 2) := by decide +kernel
theorem d_LW_translate_19 : decode method_21_code 19 = .ok (.iconst 2, 1) := by decide +kernel
theorem d_LW_translate_20 : decode method_21_code 20 = .ok (.ireturn, 1) := by decide +kernel
theorem d_LW_translate_21 : decode method_21_code 21 = .ok (.astore 4, 2) := by decide +kernel
theorem d_LW_translate_23 : decode method_21_code 23 = .ok (.iconst 3, 1) := by decide +kernel
theorem d_LW_translate_24 : decode method_21_code 24 = .ok (.ireturn, 1) := by decide +kernel
theorem d_LW_translate_25 : decode method_21_code 25 = .ok (.iconst 0, 1) := by decide +kernel
theorem d_LW_translate_26 : decode method_21_code 26 = .ok (.ireturn, 1) := by decide +kernel
theorem d_LW_route_0 : decode method_22_code 0 = .ok (.aload 4, 2) := by decide +kernel
theorem d_LW_route_2 : decode method_22_code 2 = .ok (.iconst 0, 1) := by decide +kernel
theorem d_LW_route_3 : decode method_22_code 3 = .ok (.aload_n 0, 1) := by decide +kernel
theorem d_LW_route_4 : decode method_22_code 4 = .ok (.iload_n 1, 1) := by decide +kernel
theorem d_LW_route_5 : decode method_22_code 5 = .ok (.iload_n 2, 1) := by decide +kernel
theorem d_LW_route_6 : decode method_22_code 6 = .ok (.iload_n 3, 1) := by decide +kernel
theorem d_LW_route_7 : decode method_22_code 7 = .ok (.invokevirtual 84, 3) := by decide +kernel
theorem d_LW_route_10 : decode method_22_code 10 = .ok (.i2l, 1) := by decide +kernel
theorem d_LW_route_11 : decode method_22_code 11 = .ok (.lastore, 1) := by decide +kernel
theorem d_LW_route_12 : decode method_22_code 12 = .ok (.goto 7, 3) := by decide +kernel
theorem d_LW_route_15 : decode method_22_code 15 = .ok (.astore 5, 2) := by decide +kernel
theorem d_LW_route_17 : decode method_22_code 17 = .ok (.iconst 1, 1) := by decide +kernel
theorem d_LW_route_18 : decode method_22_code 18 = .ok (.ireturn, 1) := by decide +kernel
theorem d_LW_route_19 : decode method_22_code 19 = .ok (.iconst 0, 1) := by decide +kernel
theorem d_LW_route_20 : decode method_22_code 20 = .ok (.ireturn, 1) := by decide +kernel
theorem d_LW_clash_0 : decode method_23_code 0 = .ok (.aload_n 2, 1) := by decide +kernel
theorem d_LW_clash_1 : decode method_23_code 1 = .ok (.iconst 0, 1) := by decide +kernel
theorem d_LW_clash_2 : decode method_23_code 2 = .ok (.aload_n 0, 1) := by decide +kernel
theorem d_LW_clash_3 : decode method_23_code 3 = .ok (.iload_n 1, 1) := by decide +kernel
theorem d_LW_clash_4 : decode method_23_code 4 = .ok (.invokevirtual 87, 3) := by decide +kernel
theorem d_LW_clash_7 : decode method_23_code 7 = .ok (.i2l, 1) := by decide +kernel
theorem d_LW_clash_8 : decode method_23_code 8 = .ok (.lastore, 1) := by decide +kernel
theorem d_LW_clash_9 : decode method_23_code 9 = .ok (.goto 6, 3) := by decide +kernel
theorem d_LW_clash_12 : decode method_23_code 12 = .ok (.astore_n 3, 1) := by decide +kernel
theorem d_LW_clash_13 : decode method_23_code 13 = .ok (.iconst 1, 1) := by decide +kernel
theorem d_LW_clash_14 : decode method_23_code 14 = .ok (.ireturn, 1) := by decide +kernel
theorem d_LW_clash_15 : decode method_23_code 15 = .ok (.iconst 0, 1) := by decide +kernel
theorem d_LW_clash_16 : decode method_23_code 16 = .ok (.ireturn, 1) := by decide +kernel
theorem d_LW_law_0 : decode code 0 = .ok (.new 8, 3) := by decide +kernel
theorem d_LW_law_3 : decode code 3 = .ok (.dup, 1) := by decide +kernel
theorem d_LW_law_4 : decode code 4 = .ok (.invokespecial 90, 3) := by decide +kernel
theorem d_LW_law_7 : decode code 7 = .ok (.astore_n 1, 1) := by decide +kernel
theorem d_LW_law_8 : decode code 8 = .ok (.new 91, 3) := by decide +kernel
theorem d_LW_law_11 : decode code 11 = .ok (.dup, 1) := by decide +kernel
theorem d_LW_law_12 : decode code 12 = .ok (.invokespecial 93, 3) := by decide +kernel
theorem d_LW_law_15 : decode code 15 = .ok (.astore_n 2, 1) := by decide +kernel
theorem d_LW_law_16 : decode code 16 = .ok (.iconst 1, 1) := by decide +kernel
theorem d_LW_law_17 : decode code 17 = .ok (.newarray .long, 2) := by decide +kernel
theorem d_LW_law_19 : decode code 19 = .ok (.astore_n 3, 1) := by decide +kernel
theorem d_LW_law_20 : decode code 20 = .ok (.iconst 0, 1) := by decide +kernel
theorem d_LW_law_21 : decode code 21 = .ok (.istore 4, 2) := by decide +kernel
theorem d_LW_law_23 : decode code 23 = .ok (.iload 4, 2) := by decide +kernel
theorem d_LW_law_25 : decode code 25 = .ok (.aload_n 0, 1) := by decide +kernel
theorem d_LW_law_26 : decode code 26 = .ok (.arraylength, 1) := by decide +kernel
theorem d_LW_law_27 : decode code 27 = .ok (.bipush 6, 2) := by decide +kernel
theorem d_LW_law_29 : decode code 29 = .ok (.isub, 1) := by decide +kernel
theorem d_LW_law_30 : decode code 30 = .ok (.if_icmp .gt 1524, 3) := by decide +kernel
theorem d_LW_law_33 : decode code 33 = .ok (.aload_n 0, 1) := by decide +kernel
theorem d_LW_law_34 : decode code 34 = .ok (.iload 4, 2) := by decide +kernel
theorem d_LW_law_36 : decode code 36 = .ok (.iaload, 1) := by decide +kernel
theorem d_LW_law_37 : decode code 37 = .ok (.bipush 31, 2) := by decide +kernel
theorem d_LW_law_39 : decode code 39 = .ok (.iand, 1) := by decide +kernel
theorem d_LW_law_40 : decode code 40 = .ok (.tableswitch 1508 0 21 #[104, 196, 232, 336, 392, 405, 485, 541, 597, 653, 689, 749, 841, 901, 969, 1037, 1117, 1173, 1229, 1304, 1372, 1452], 104) := by decide +kernel
theorem d_LW_law_144 : decode code 144 = .ok (.aload_n 1, 1) := by decide +kernel
theorem d_LW_law_145 : decode code 145 = .ok (.aload_n 0, 1) := by decide +kernel
theorem d_LW_law_146 : decode code 146 = .ok (.iload 4, 2) := by decide +kernel
theorem d_LW_law_148 : decode code 148 = .ok (.iconst 1, 1) := by decide +kernel
theorem d_LW_law_149 : decode code 149 = .ok (.iadd, 1) := by decide +kernel
theorem d_LW_law_150 : decode code 150 = .ok (.iaload, 1) := by decide +kernel
theorem d_LW_law_151 : decode code 151 = .ok (.aload_n 0, 1) := by decide +kernel
theorem d_LW_law_152 : decode code 152 = .ok (.iload 4, 2) := by decide +kernel
theorem d_LW_law_154 : decode code 154 = .ok (.iconst 2, 1) := by decide +kernel
theorem d_LW_law_155 : decode code 155 = .ok (.iadd, 1) := by decide +kernel
theorem d_LW_law_156 : decode code 156 = .ok (.iaload, 1) := by decide +kernel
theorem d_LW_law_157 : decode code 157 = .ok (.aload_n 0, 1) := by decide +kernel
theorem d_LW_law_158 : decode code 158 = .ok (.iload 4, 2) := by decide +kernel
theorem d_LW_law_160 : decode code 160 = .ok (.iconst 3, 1) := by decide +kernel
theorem d_LW_law_161 : decode code 161 = .ok (.iadd, 1) := by decide +kernel
theorem d_LW_law_162 : decode code 162 = .ok (.iaload, 1) := by decide +kernel
theorem d_LW_law_163 : decode code 163 = .ok (.aload_n 0, 1) := by decide +kernel
theorem d_LW_law_164 : decode code 164 = .ok (.iload 4, 2) := by decide +kernel
theorem d_LW_law_166 : decode code 166 = .ok (.iconst 4, 1) := by decide +kernel
theorem d_LW_law_167 : decode code 167 = .ok (.iadd, 1) := by decide +kernel
theorem d_LW_law_168 : decode code 168 = .ok (.iaload, 1) := by decide +kernel
theorem d_LW_law_169 : decode code 169 = .ok (.aload_n 3, 1) := by decide +kernel
theorem d_LW_law_170 : decode code 170 = .ok (.invokestatic 94, 3) := by decide +kernel
theorem d_LW_law_173 : decode code 173 = .ok (.istore 5, 2) := by decide +kernel
theorem d_LW_law_175 : decode code 175 = .ok (.aload_n 2, 1) := by decide +kernel
theorem d_LW_law_176 : decode code 176 = .ok (.aload_n 0, 1) := by decide +kernel
theorem d_LW_law_177 : decode code 177 = .ok (.iload 4, 2) := by decide +kernel
theorem d_LW_law_179 : decode code 179 = .ok (.iconst 1, 1) := by decide +kernel
theorem d_LW_law_180 : decode code 180 = .ok (.iadd, 1) := by decide +kernel
theorem d_LW_law_181 : decode code 181 = .ok (.iaload, 1) := by decide +kernel
theorem d_LW_law_182 : decode code 182 = .ok (.aload_n 0, 1) := by decide +kernel
theorem d_LW_law_183 : decode code 183 = .ok (.iload 4, 2) := by decide +kernel
theorem d_LW_law_185 : decode code 185 = .ok (.iconst 2, 1) := by decide +kernel
theorem d_LW_law_186 : decode code 186 = .ok (.iadd, 1) := by decide +kernel
theorem d_LW_law_187 : decode code 187 = .ok (.iaload, 1) := by decide +kernel
theorem d_LW_law_188 : decode code 188 = .ok (.aload_n 0, 1) := by decide +kernel
theorem d_LW_law_189 : decode code 189 = .ok (.iload 4, 2) := by decide +kernel
theorem d_LW_law_191 : decode code 191 = .ok (.iconst 3, 1) := by decide +kernel
theorem d_LW_law_192 : decode code 192 = .ok (.iadd, 1) := by decide +kernel
theorem d_LW_law_193 : decode code 193 = .ok (.iaload, 1) := by decide +kernel
theorem d_LW_law_194 : decode code 194 = .ok (.aload_n 0, 1) := by decide +kernel
theorem d_LW_law_195 : decode code 195 = .ok (.iload 4, 2) := by decide +kernel
theorem d_LW_law_197 : decode code 197 = .ok (.iconst 4, 1) := by decide +kernel
theorem d_LW_law_198 : decode code 198 = .ok (.iadd, 1) := by decide +kernel
theorem d_LW_law_199 : decode code 199 = .ok (.iaload, 1) := by decide +kernel
theorem d_LW_law_200 : decode code 200 = .ok (.invokevirtual 99, 3) := by decide +kernel
theorem d_LW_law_203 : decode code 203 = .ok (.istore 6, 2) := by decide +kernel
theorem d_LW_law_205 : decode code 205 = .ok (.aload_n 2, 1) := by decide +kernel
theorem d_LW_law_206 : decode code 206 = .ok (.invokevirtual 100, 3) := by decide +kernel
theorem d_LW_law_209 : decode code 209 = .ok (.iload 5, 2) := by decide +kernel
theorem d_LW_law_211 : decode code 211 = .ok (.if_icmp .eq 5, 3) := by decide +kernel
theorem d_LW_law_214 : decode code 214 = .ok (.iconst 0, 1) := by decide +kernel
theorem d_LW_law_215 : decode code 215 = .ok (.ireturn, 1) := by decide +kernel
theorem d_LW_law_216 : decode code 216 = .ok (.iload 5, 2) := by decide +kernel
theorem d_LW_law_218 : decode code 218 = .ok (.ifCond .ne 15, 3) := by decide +kernel
theorem d_LW_law_221 : decode code 221 = .ok (.aload_n 3, 1) := by decide +kernel
theorem d_LW_law_222 : decode code 222 = .ok (.iconst 0, 1) := by decide +kernel
theorem d_LW_law_223 : decode code 223 = .ok (.laload, 1) := by decide +kernel
theorem d_LW_law_224 : decode code 224 = .ok (.iload 6, 2) := by decide +kernel
theorem d_LW_law_226 : decode code 226 = .ok (.i2l, 1) := by decide +kernel
theorem d_LW_law_227 : decode code 227 = .ok (.lcmp, 1) := by decide +kernel
theorem d_LW_law_228 : decode code 228 = .ok (.ifCond .eq 5, 3) := by decide +kernel
theorem d_LW_law_231 : decode code 231 = .ok (.iconst 0, 1) := by decide +kernel
theorem d_LW_law_232 : decode code 232 = .ok (.ireturn, 1) := by decide +kernel
theorem d_LW_law_233 : decode code 233 = .ok (.goto 1315, 3) := by decide +kernel
theorem d_LW_law_236 : decode code 236 = .ok (.aload_n 1, 1) := by decide +kernel
theorem d_LW_law_237 : decode code 237 = .ok (.aload_n 0, 1) := by decide +kernel
theorem d_LW_law_238 : decode code 238 = .ok (.iload 4, 2) := by decide +kernel
theorem d_LW_law_240 : decode code 240 = .ok (.iconst 1, 1) := by decide +kernel
theorem d_LW_law_241 : decode code 241 = .ok (.iadd, 1) := by decide +kernel
theorem d_LW_law_242 : decode code 242 = .ok (.iaload, 1) := by decide +kernel
theorem d_LW_law_243 : decode code 243 = .ok (.invokestatic 104, 3) := by decide +kernel
theorem d_LW_law_246 : decode code 246 = .ok (.istore 5, 2) := by decide +kernel
theorem d_LW_law_248 : decode code 248 = .ok (.aload_n 2, 1) := by decide +kernel
theorem d_LW_law_249 : decode code 249 = .ok (.aload_n 0, 1) := by decide +kernel
theorem d_LW_law_250 : decode code 250 = .ok (.iload 4, 2) := by decide +kernel
theorem d_LW_law_252 : decode code 252 = .ok (.iconst 1, 1) := by decide +kernel
theorem d_LW_law_253 : decode code 253 = .ok (.iadd, 1) := by decide +kernel
theorem d_LW_law_254 : decode code 254 = .ok (.iaload, 1) := by decide +kernel
theorem d_LW_law_255 : decode code 255 = .ok (.invokevirtual 107, 3) := by decide +kernel
theorem d_LW_law_258 : decode code 258 = .ok (.aload_n 2, 1) := by decide +kernel
theorem d_LW_law_259 : decode code 259 = .ok (.invokevirtual 100, 3) := by decide +kernel
theorem d_LW_law_262 : decode code 262 = .ok (.iload 5, 2) := by decide +kernel
theorem d_LW_law_264 : decode code 264 = .ok (.if_icmp .eq 5, 3) := by decide +kernel
theorem d_LW_law_267 : decode code 267 = .ok (.iconst 0, 1) := by decide +kernel
theorem d_LW_law_268 : decode code 268 = .ok (.ireturn, 1) := by decide +kernel
theorem d_LW_law_269 : decode code 269 = .ok (.goto 1279, 3) := by decide +kernel
theorem d_LW_law_272 : decode code 272 = .ok (.aload_n 1, 1) := by decide +kernel
theorem d_LW_law_273 : decode code 273 = .ok (.aload_n 0, 1) := by decide +kernel
theorem d_LW_law_274 : decode code 274 = .ok (.iload 4, 2) := by decide +kernel
theorem d_LW_law_276 : decode code 276 = .ok (.iconst 1, 1) := by decide +kernel
theorem d_LW_law_277 : decode code 277 = .ok (.iadd, 1) := by decide +kernel
theorem d_LW_law_278 : decode code 278 = .ok (.iaload, 1) := by decide +kernel
theorem d_LW_law_279 : decode code 279 = .ok (.aload_n 0, 1) := by decide +kernel
theorem d_LW_law_280 : decode code 280 = .ok (.iload 4, 2) := by decide +kernel
theorem d_LW_law_282 : decode code 282 = .ok (.iconst 2, 1) := by decide +kernel
theorem d_LW_law_283 : decode code 283 = .ok (.iadd, 1) := by decide +kernel
theorem d_LW_law_284 : decode code 284 = .ok (.iaload, 1) := by decide +kernel
theorem d_LW_law_285 : decode code 285 = .ok (.aload_n 0, 1) := by decide +kernel
theorem d_LW_law_286 : decode code 286 = .ok (.iload 4, 2) := by decide +kernel
theorem d_LW_law_288 : decode code 288 = .ok (.iconst 3, 1) := by decide +kernel
theorem d_LW_law_289 : decode code 289 = .ok (.iadd, 1) := by decide +kernel
theorem d_LW_law_290 : decode code 290 = .ok (.iaload, 1) := by decide +kernel
theorem d_LW_law_291 : decode code 291 = .ok (.aload_n 0, 1) := by decide +kernel
theorem d_LW_law_292 : decode code 292 = .ok (.iload 4, 2) := by decide +kernel
theorem d_LW_law_294 : decode code 294 = .ok (.iconst 4, 1) := by decide +kernel
theorem d_LW_law_295 : decode code 295 = .ok (.iadd, 1) := by decide +kernel
theorem d_LW_law_296 : decode code 296 = .ok (.iaload, 1) := by decide +kernel
theorem d_LW_law_297 : decode code 297 = .ok (.aload_n 0, 1) := by decide +kernel
theorem d_LW_law_298 : decode code 298 = .ok (.iload 4, 2) := by decide +kernel
theorem d_LW_law_300 : decode code 300 = .ok (.iconst 5, 1) := by decide +kernel
theorem d_LW_law_301 : decode code 301 = .ok (.iadd, 1) := by decide +kernel
theorem d_LW_law_302 : decode code 302 = .ok (.iaload, 1) := by decide +kernel
theorem d_LW_law_303 : decode code 303 = .ok (.aload_n 3, 1) := by decide +kernel
theorem d_LW_law_304 : decode code 304 = .ok (.invokestatic 108, 3) := by decide +kernel
theorem d_LW_law_307 : decode code 307 = .ok (.istore 5, 2) := by decide +kernel
theorem d_LW_law_309 : decode code 309 = .ok (.aload_n 2, 1) := by decide +kernel
theorem d_LW_law_310 : decode code 310 = .ok (.aload_n 0, 1) := by decide +kernel
theorem d_LW_law_311 : decode code 311 = .ok (.iload 4, 2) := by decide +kernel
theorem d_LW_law_313 : decode code 313 = .ok (.iconst 1, 1) := by decide +kernel
theorem d_LW_law_314 : decode code 314 = .ok (.iadd, 1) := by decide +kernel
theorem d_LW_law_315 : decode code 315 = .ok (.iaload, 1) := by decide +kernel
theorem d_LW_law_316 : decode code 316 = .ok (.aload_n 0, 1) := by decide +kernel
theorem d_LW_law_317 : decode code 317 = .ok (.iload 4, 2) := by decide +kernel
theorem d_LW_law_319 : decode code 319 = .ok (.iconst 2, 1) := by decide +kernel
theorem d_LW_law_320 : decode code 320 = .ok (.iadd, 1) := by decide +kernel
theorem d_LW_law_321 : decode code 321 = .ok (.iaload, 1) := by decide +kernel
theorem d_LW_law_322 : decode code 322 = .ok (.aload_n 0, 1) := by decide +kernel
theorem d_LW_law_323 : decode code 323 = .ok (.iload 4, 2) := by decide +kernel
theorem d_LW_law_325 : decode code 325 = .ok (.iconst 3, 1) := by decide +kernel
theorem d_LW_law_326 : decode code 326 = .ok (.iadd, 1) := by decide +kernel
theorem d_LW_law_327 : decode code 327 = .ok (.iaload, 1) := by decide +kernel
theorem d_LW_law_328 : decode code 328 = .ok (.aload_n 0, 1) := by decide +kernel
theorem d_LW_law_329 : decode code 329 = .ok (.iload 4, 2) := by decide +kernel
theorem d_LW_law_331 : decode code 331 = .ok (.iconst 4, 1) := by decide +kernel
theorem d_LW_law_332 : decode code 332 = .ok (.iadd, 1) := by decide +kernel
theorem d_LW_law_333 : decode code 333 = .ok (.iaload, 1) := by decide +kernel
theorem d_LW_law_334 : decode code 334 = .ok (.aload_n 0, 1) := by decide +kernel
theorem d_LW_law_335 : decode code 335 = .ok (.iload 4, 2) := by decide +kernel
theorem d_LW_law_337 : decode code 337 = .ok (.iconst 5, 1) := by decide +kernel
theorem d_LW_law_338 : decode code 338 = .ok (.iadd, 1) := by decide +kernel
theorem d_LW_law_339 : decode code 339 = .ok (.iaload, 1) := by decide +kernel
theorem d_LW_law_340 : decode code 340 = .ok (.invokevirtual 111, 3) := by decide +kernel
theorem d_LW_law_343 : decode code 343 = .ok (.istore 6, 2) := by decide +kernel
theorem d_LW_law_345 : decode code 345 = .ok (.aload_n 2, 1) := by decide +kernel
theorem d_LW_law_346 : decode code 346 = .ok (.invokevirtual 100, 3) := by decide +kernel
theorem d_LW_law_349 : decode code 349 = .ok (.iload 5, 2) := by decide +kernel
theorem d_LW_law_351 : decode code 351 = .ok (.if_icmp .eq 5, 3) := by decide +kernel
theorem d_LW_law_354 : decode code 354 = .ok (.iconst 0, 1) := by decide +kernel
theorem d_LW_law_355 : decode code 355 = .ok (.ireturn, 1) := by decide +kernel
theorem d_LW_law_356 : decode code 356 = .ok (.iload 5, 2) := by decide +kernel
theorem d_LW_law_358 : decode code 358 = .ok (.ifCond .ne 15, 3) := by decide +kernel
theorem d_LW_law_361 : decode code 361 = .ok (.aload_n 3, 1) := by decide +kernel
theorem d_LW_law_362 : decode code 362 = .ok (.iconst 0, 1) := by decide +kernel
theorem d_LW_law_363 : decode code 363 = .ok (.laload, 1) := by decide +kernel
theorem d_LW_law_364 : decode code 364 = .ok (.iload 6, 2) := by decide +kernel
theorem d_LW_law_366 : decode code 366 = .ok (.i2l, 1) := by decide +kernel
theorem d_LW_law_367 : decode code 367 = .ok (.lcmp, 1) := by decide +kernel
theorem d_LW_law_368 : decode code 368 = .ok (.ifCond .eq 5, 3) := by decide +kernel
theorem d_LW_law_371 : decode code 371 = .ok (.iconst 0, 1) := by decide +kernel
theorem d_LW_law_372 : decode code 372 = .ok (.ireturn, 1) := by decide +kernel
theorem d_LW_law_373 : decode code 373 = .ok (.goto 1175, 3) := by decide +kernel
theorem d_LW_law_376 : decode code 376 = .ok (.aload_n 1, 1) := by decide +kernel
theorem d_LW_law_377 : decode code 377 = .ok (.aload_n 0, 1) := by decide +kernel
theorem d_LW_law_378 : decode code 378 = .ok (.iload 4, 2) := by decide +kernel
theorem d_LW_law_380 : decode code 380 = .ok (.iconst 1, 1) := by decide +kernel
theorem d_LW_law_381 : decode code 381 = .ok (.iadd, 1) := by decide +kernel
theorem d_LW_law_382 : decode code 382 = .ok (.iaload, 1) := by decide +kernel
theorem d_LW_law_383 : decode code 383 = .ok (.aload_n 3, 1) := by decide +kernel
theorem d_LW_law_384 : decode code 384 = .ok (.invokestatic 112, 3) := by decide +kernel
theorem d_LW_law_387 : decode code 387 = .ok (.istore 5, 2) := by decide +kernel
theorem d_LW_law_389 : decode code 389 = .ok (.aload_n 2, 1) := by decide +kernel
theorem d_LW_law_390 : decode code 390 = .ok (.aload_n 0, 1) := by decide +kernel
theorem d_LW_law_391 : decode code 391 = .ok (.iload 4, 2) := by decide +kernel
theorem d_LW_law_393 : decode code 393 = .ok (.iconst 1, 1) := by decide +kernel
theorem d_LW_law_394 : decode code 394 = .ok (.iadd, 1) := by decide +kernel
theorem d_LW_law_395 : decode code 395 = .ok (.iaload, 1) := by decide +kernel
theorem d_LW_law_396 : decode code 396 = .ok (.invokevirtual 115, 3) := by decide +kernel
theorem d_LW_law_399 : decode code 399 = .ok (.istore 6, 2) := by decide +kernel
theorem d_LW_law_401 : decode code 401 = .ok (.aload_n 2, 1) := by decide +kernel
theorem d_LW_law_402 : decode code 402 = .ok (.invokevirtual 100, 3) := by decide +kernel
theorem d_LW_law_405 : decode code 405 = .ok (.iload 5, 2) := by decide +kernel
theorem d_LW_law_407 : decode code 407 = .ok (.if_icmp .eq 5, 3) := by decide +kernel
theorem d_LW_law_410 : decode code 410 = .ok (.iconst 0, 1) := by decide +kernel
theorem d_LW_law_411 : decode code 411 = .ok (.ireturn, 1) := by decide +kernel
theorem d_LW_law_412 : decode code 412 = .ok (.iload 5, 2) := by decide +kernel
theorem d_LW_law_414 : decode code 414 = .ok (.ifCond .ne 15, 3) := by decide +kernel
theorem d_LW_law_417 : decode code 417 = .ok (.aload_n 3, 1) := by decide +kernel
theorem d_LW_law_418 : decode code 418 = .ok (.iconst 0, 1) := by decide +kernel
theorem d_LW_law_419 : decode code 419 = .ok (.laload, 1) := by decide +kernel
theorem d_LW_law_420 : decode code 420 = .ok (.iload 6, 2) := by decide +kernel
theorem d_LW_law_422 : decode code 422 = .ok (.i2l, 1) := by decide +kernel
theorem d_LW_law_423 : decode code 423 = .ok (.lcmp, 1) := by decide +kernel
theorem d_LW_law_424 : decode code 424 = .ok (.ifCond .eq 5, 3) := by decide +kernel
theorem d_LW_law_427 : decode code 427 = .ok (.iconst 0, 1) := by decide +kernel
theorem d_LW_law_428 : decode code 428 = .ok (.ireturn, 1) := by decide +kernel
theorem d_LW_law_429 : decode code 429 = .ok (.goto 1119, 3) := by decide +kernel
theorem d_LW_law_432 : decode code 432 = .ok (.aload_n 1, 1) := by decide +kernel
theorem d_LW_law_433 : decode code 433 = .ok (.invokevirtual 116, 3) := by decide +kernel
theorem d_LW_law_436 : decode code 436 = .ok (.aload_n 2, 1) := by decide +kernel
theorem d_LW_law_437 : decode code 437 = .ok (.invokevirtual 120, 3) := by decide +kernel
theorem d_LW_law_440 : decode code 440 = .ok (.if_icmp .eq 1108, 3) := by decide +kernel
theorem d_LW_law_443 : decode code 443 = .ok (.iconst 0, 1) := by decide +kernel
theorem d_LW_law_444 : decode code 444 = .ok (.ireturn, 1) := by decide +kernel
theorem d_LW_law_445 : decode code 445 = .ok (.aload_n 1, 1) := by decide +kernel
theorem d_LW_law_446 : decode code 446 = .ok (.aload_n 0, 1) := by decide +kernel
theorem d_LW_law_447 : decode code 447 = .ok (.iload 4, 2) := by decide +kernel
theorem d_LW_law_449 : decode code 449 = .ok (.iconst 1, 1) := by decide +kernel
theorem d_LW_law_450 : decode code 450 = .ok (.iadd, 1) := by decide +kernel
theorem d_LW_law_451 : decode code 451 = .ok (.iaload, 1) := by decide +kernel
theorem d_LW_law_452 : decode code 452 = .ok (.aload_n 0, 1) := by decide +kernel
theorem d_LW_law_453 : decode code 453 = .ok (.iload 4, 2) := by decide +kernel
theorem d_LW_law_455 : decode code 455 = .ok (.iconst 2, 1) := by decide +kernel
theorem d_LW_law_456 : decode code 456 = .ok (.iadd, 1) := by decide +kernel
theorem d_LW_law_457 : decode code 457 = .ok (.iaload, 1) := by decide +kernel
theorem d_LW_law_458 : decode code 458 = .ok (.aload_n 0, 1) := by decide +kernel
theorem d_LW_law_459 : decode code 459 = .ok (.iload 4, 2) := by decide +kernel
theorem d_LW_law_461 : decode code 461 = .ok (.iconst 3, 1) := by decide +kernel
theorem d_LW_law_462 : decode code 462 = .ok (.iadd, 1) := by decide +kernel
theorem d_LW_law_463 : decode code 463 = .ok (.iaload, 1) := by decide +kernel
theorem d_LW_law_464 : decode code 464 = .ok (.aload_n 3, 1) := by decide +kernel
theorem d_LW_law_465 : decode code 465 = .ok (.invokestatic 121, 3) := by decide +kernel
theorem d_LW_law_468 : decode code 468 = .ok (.istore 5, 2) := by decide +kernel
theorem d_LW_law_470 : decode code 470 = .ok (.aload_n 2, 1) := by decide +kernel
theorem d_LW_law_471 : decode code 471 = .ok (.aload_n 0, 1) := by decide +kernel
theorem d_LW_law_472 : decode code 472 = .ok (.iload 4, 2) := by decide +kernel
theorem d_LW_law_474 : decode code 474 = .ok (.iconst 1, 1) := by decide +kernel
theorem d_LW_law_475 : decode code 475 = .ok (.iadd, 1) := by decide +kernel
theorem d_LW_law_476 : decode code 476 = .ok (.iaload, 1) := by decide +kernel
theorem d_LW_law_477 : decode code 477 = .ok (.aload_n 0, 1) := by decide +kernel
theorem d_LW_law_478 : decode code 478 = .ok (.iload 4, 2) := by decide +kernel
theorem d_LW_law_480 : decode code 480 = .ok (.iconst 2, 1) := by decide +kernel
theorem d_LW_law_481 : decode code 481 = .ok (.iadd, 1) := by decide +kernel
theorem d_LW_law_482 : decode code 482 = .ok (.iaload, 1) := by decide +kernel
theorem d_LW_law_483 : decode code 483 = .ok (.aload_n 0, 1) := by decide +kernel
theorem d_LW_law_484 : decode code 484 = .ok (.iload 4, 2) := by decide +kernel
theorem d_LW_law_486 : decode code 486 = .ok (.iconst 3, 1) := by decide +kernel
theorem d_LW_law_487 : decode code 487 = .ok (.iadd, 1) := by decide +kernel
theorem d_LW_law_488 : decode code 488 = .ok (.iaload, 1) := by decide +kernel
theorem d_LW_law_489 : decode code 489 = .ok (.invokevirtual 124, 3) := by decide +kernel
theorem d_LW_law_492 : decode code 492 = .ok (.istore 6, 2) := by decide +kernel
theorem d_LW_law_494 : decode code 494 = .ok (.aload_n 2, 1) := by decide +kernel
theorem d_LW_law_495 : decode code 495 = .ok (.invokevirtual 100, 3) := by decide +kernel
theorem d_LW_law_498 : decode code 498 = .ok (.iload 5, 2) := by decide +kernel
theorem d_LW_law_500 : decode code 500 = .ok (.if_icmp .eq 5, 3) := by decide +kernel
theorem d_LW_law_503 : decode code 503 = .ok (.iconst 0, 1) := by decide +kernel
theorem d_LW_law_504 : decode code 504 = .ok (.ireturn, 1) := by decide +kernel
theorem d_LW_law_505 : decode code 505 = .ok (.iload 5, 2) := by decide +kernel
theorem d_LW_law_507 : decode code 507 = .ok (.ifCond .ne 15, 3) := by decide +kernel
theorem d_LW_law_510 : decode code 510 = .ok (.aload_n 3, 1) := by decide +kernel
theorem d_LW_law_511 : decode code 511 = .ok (.iconst 0, 1) := by decide +kernel
theorem d_LW_law_512 : decode code 512 = .ok (.laload, 1) := by decide +kernel
theorem d_LW_law_513 : decode code 513 = .ok (.iload 6, 2) := by decide +kernel
theorem d_LW_law_515 : decode code 515 = .ok (.i2l, 1) := by decide +kernel
theorem d_LW_law_516 : decode code 516 = .ok (.lcmp, 1) := by decide +kernel
theorem d_LW_law_517 : decode code 517 = .ok (.ifCond .eq 5, 3) := by decide +kernel
theorem d_LW_law_520 : decode code 520 = .ok (.iconst 0, 1) := by decide +kernel
theorem d_LW_law_521 : decode code 521 = .ok (.ireturn, 1) := by decide +kernel
theorem d_LW_law_522 : decode code 522 = .ok (.goto 1026, 3) := by decide +kernel
theorem d_LW_law_525 : decode code 525 = .ok (.aload_n 1, 1) := by decide +kernel
theorem d_LW_law_526 : decode code 526 = .ok (.aload_n 0, 1) := by decide +kernel
theorem d_LW_law_527 : decode code 527 = .ok (.iload 4, 2) := by decide +kernel
theorem d_LW_law_529 : decode code 529 = .ok (.iconst 1, 1) := by decide +kernel
theorem d_LW_law_530 : decode code 530 = .ok (.iadd, 1) := by decide +kernel
theorem d_LW_law_531 : decode code 531 = .ok (.iaload, 1) := by decide +kernel
theorem d_LW_law_532 : decode code 532 = .ok (.aload_n 3, 1) := by decide +kernel
theorem d_LW_law_533 : decode code 533 = .ok (.invokestatic 125, 3) := by decide +kernel
theorem d_LW_law_536 : decode code 536 = .ok (.istore 5, 2) := by decide +kernel
theorem d_LW_law_538 : decode code 538 = .ok (.aload_n 2, 1) := by decide +kernel
theorem d_LW_law_539 : decode code 539 = .ok (.aload_n 0, 1) := by decide +kernel
theorem d_LW_law_540 : decode code 540 = .ok (.iload 4, 2) := by decide +kernel
theorem d_LW_law_542 : decode code 542 = .ok (.iconst 1, 1) := by decide +kernel
theorem d_LW_law_543 : decode code 543 = .ok (.iadd, 1) := by decide +kernel
theorem d_LW_law_544 : decode code 544 = .ok (.iaload, 1) := by decide +kernel
theorem d_LW_law_545 : decode code 545 = .ok (.invokevirtual 127, 3) := by decide +kernel
theorem d_LW_law_548 : decode code 548 = .ok (.istore 6, 2) := by decide +kernel
theorem d_LW_law_550 : decode code 550 = .ok (.aload_n 2, 1) := by decide +kernel
theorem d_LW_law_551 : decode code 551 = .ok (.invokevirtual 100, 3) := by decide +kernel
theorem d_LW_law_554 : decode code 554 = .ok (.iload 5, 2) := by decide +kernel
theorem d_LW_law_556 : decode code 556 = .ok (.if_icmp .eq 5, 3) := by decide +kernel
theorem d_LW_law_559 : decode code 559 = .ok (.iconst 0, 1) := by decide +kernel
theorem d_LW_law_560 : decode code 560 = .ok (.ireturn, 1) := by decide +kernel
theorem d_LW_law_561 : decode code 561 = .ok (.iload 5, 2) := by decide +kernel
theorem d_LW_law_563 : decode code 563 = .ok (.ifCond .ne 15, 3) := by decide +kernel
theorem d_LW_law_566 : decode code 566 = .ok (.aload_n 3, 1) := by decide +kernel
theorem d_LW_law_567 : decode code 567 = .ok (.iconst 0, 1) := by decide +kernel
theorem d_LW_law_568 : decode code 568 = .ok (.laload, 1) := by decide +kernel
theorem d_LW_law_569 : decode code 569 = .ok (.iload 6, 2) := by decide +kernel
theorem d_LW_law_571 : decode code 571 = .ok (.i2l, 1) := by decide +kernel
theorem d_LW_law_572 : decode code 572 = .ok (.lcmp, 1) := by decide +kernel
theorem d_LW_law_573 : decode code 573 = .ok (.ifCond .eq 5, 3) := by decide +kernel
theorem d_LW_law_576 : decode code 576 = .ok (.iconst 0, 1) := by decide +kernel
theorem d_LW_law_577 : decode code 577 = .ok (.ireturn, 1) := by decide +kernel
theorem d_LW_law_578 : decode code 578 = .ok (.goto 970, 3) := by decide +kernel
theorem d_LW_law_581 : decode code 581 = .ok (.aload_n 1, 1) := by decide +kernel
theorem d_LW_law_582 : decode code 582 = .ok (.aload_n 0, 1) := by decide +kernel
theorem d_LW_law_583 : decode code 583 = .ok (.iload 4, 2) := by decide +kernel
theorem d_LW_law_585 : decode code 585 = .ok (.iconst 1, 1) := by decide +kernel
theorem d_LW_law_586 : decode code 586 = .ok (.iadd, 1) := by decide +kernel
theorem d_LW_law_587 : decode code 587 = .ok (.iaload, 1) := by decide +kernel
theorem d_LW_law_588 : decode code 588 = .ok (.aload_n 3, 1) := by decide +kernel
theorem d_LW_law_589 : decode code 589 = .ok (.invokestatic 128, 3) := by decide +kernel
theorem d_LW_law_592 : decode code 592 = .ok (.istore 5, 2) := by decide +kernel
theorem d_LW_law_594 : decode code 594 = .ok (.aload_n 2, 1) := by decide +kernel
theorem d_LW_law_595 : decode code 595 = .ok (.aload_n 0, 1) := by decide +kernel
theorem d_LW_law_596 : decode code 596 = .ok (.iload 4, 2) := by decide +kernel
theorem d_LW_law_598 : decode code 598 = .ok (.iconst 1, 1) := by decide +kernel
theorem d_LW_law_599 : decode code 599 = .ok (.iadd, 1) := by decide +kernel
theorem d_LW_law_600 : decode code 600 = .ok (.iaload, 1) := by decide +kernel
theorem d_LW_law_601 : decode code 601 = .ok (.invokevirtual 130, 3) := by decide +kernel
theorem d_LW_law_604 : decode code 604 = .ok (.istore 6, 2) := by decide +kernel
theorem d_LW_law_606 : decode code 606 = .ok (.aload_n 2, 1) := by decide +kernel
theorem d_LW_law_607 : decode code 607 = .ok (.invokevirtual 100, 3) := by decide +kernel
theorem d_LW_law_610 : decode code 610 = .ok (.iload 5, 2) := by decide +kernel
theorem d_LW_law_612 : decode code 612 = .ok (.if_icmp .eq 5, 3) := by decide +kernel
theorem d_LW_law_615 : decode code 615 = .ok (.iconst 0, 1) := by decide +kernel
theorem d_LW_law_616 : decode code 616 = .ok (.ireturn, 1) := by decide +kernel
theorem d_LW_law_617 : decode code 617 = .ok (.iload 5, 2) := by decide +kernel
theorem d_LW_law_619 : decode code 619 = .ok (.ifCond .ne 15, 3) := by decide +kernel
theorem d_LW_law_622 : decode code 622 = .ok (.aload_n 3, 1) := by decide +kernel
theorem d_LW_law_623 : decode code 623 = .ok (.iconst 0, 1) := by decide +kernel
theorem d_LW_law_624 : decode code 624 = .ok (.laload, 1) := by decide +kernel
theorem d_LW_law_625 : decode code 625 = .ok (.iload 6, 2) := by decide +kernel
theorem d_LW_law_627 : decode code 627 = .ok (.i2l, 1) := by decide +kernel
theorem d_LW_law_628 : decode code 628 = .ok (.lcmp, 1) := by decide +kernel
theorem d_LW_law_629 : decode code 629 = .ok (.ifCond .eq 5, 3) := by decide +kernel
theorem d_LW_law_632 : decode code 632 = .ok (.iconst 0, 1) := by decide +kernel
theorem d_LW_law_633 : decode code 633 = .ok (.ireturn, 1) := by decide +kernel
theorem d_LW_law_634 : decode code 634 = .ok (.goto 914, 3) := by decide +kernel
theorem d_LW_law_637 : decode code 637 = .ok (.aload_n 1, 1) := by decide +kernel
theorem d_LW_law_638 : decode code 638 = .ok (.aload_n 0, 1) := by decide +kernel
theorem d_LW_law_639 : decode code 639 = .ok (.iload 4, 2) := by decide +kernel
theorem d_LW_law_641 : decode code 641 = .ok (.iconst 1, 1) := by decide +kernel
theorem d_LW_law_642 : decode code 642 = .ok (.iadd, 1) := by decide +kernel
theorem d_LW_law_643 : decode code 643 = .ok (.iaload, 1) := by decide +kernel
theorem d_LW_law_644 : decode code 644 = .ok (.aload_n 3, 1) := by decide +kernel
theorem d_LW_law_645 : decode code 645 = .ok (.invokestatic 131, 3) := by decide +kernel
theorem d_LW_law_648 : decode code 648 = .ok (.istore 5, 2) := by decide +kernel
theorem d_LW_law_650 : decode code 650 = .ok (.aload_n 2, 1) := by decide +kernel
theorem d_LW_law_651 : decode code 651 = .ok (.aload_n 0, 1) := by decide +kernel
theorem d_LW_law_652 : decode code 652 = .ok (.iload 4, 2) := by decide +kernel
theorem d_LW_law_654 : decode code 654 = .ok (.iconst 1, 1) := by decide +kernel
theorem d_LW_law_655 : decode code 655 = .ok (.iadd, 1) := by decide +kernel
theorem d_LW_law_656 : decode code 656 = .ok (.iaload, 1) := by decide +kernel
theorem d_LW_law_657 : decode code 657 = .ok (.invokevirtual 133, 3) := by decide +kernel
theorem d_LW_law_660 : decode code 660 = .ok (.istore 6, 2) := by decide +kernel
theorem d_LW_law_662 : decode code 662 = .ok (.aload_n 2, 1) := by decide +kernel
theorem d_LW_law_663 : decode code 663 = .ok (.invokevirtual 100, 3) := by decide +kernel
theorem d_LW_law_666 : decode code 666 = .ok (.iload 5, 2) := by decide +kernel
theorem d_LW_law_668 : decode code 668 = .ok (.if_icmp .eq 5, 3) := by decide +kernel
theorem d_LW_law_671 : decode code 671 = .ok (.iconst 0, 1) := by decide +kernel
theorem d_LW_law_672 : decode code 672 = .ok (.ireturn, 1) := by decide +kernel
theorem d_LW_law_673 : decode code 673 = .ok (.iload 5, 2) := by decide +kernel
theorem d_LW_law_675 : decode code 675 = .ok (.ifCond .ne 15, 3) := by decide +kernel
theorem d_LW_law_678 : decode code 678 = .ok (.aload_n 3, 1) := by decide +kernel
theorem d_LW_law_679 : decode code 679 = .ok (.iconst 0, 1) := by decide +kernel
theorem d_LW_law_680 : decode code 680 = .ok (.laload, 1) := by decide +kernel
theorem d_LW_law_681 : decode code 681 = .ok (.iload 6, 2) := by decide +kernel
theorem d_LW_law_683 : decode code 683 = .ok (.i2l, 1) := by decide +kernel
theorem d_LW_law_684 : decode code 684 = .ok (.lcmp, 1) := by decide +kernel
theorem d_LW_law_685 : decode code 685 = .ok (.ifCond .eq 5, 3) := by decide +kernel
theorem d_LW_law_688 : decode code 688 = .ok (.iconst 0, 1) := by decide +kernel
theorem d_LW_law_689 : decode code 689 = .ok (.ireturn, 1) := by decide +kernel
theorem d_LW_law_690 : decode code 690 = .ok (.goto 858, 3) := by decide +kernel
theorem d_LW_law_693 : decode code 693 = .ok (.aload_n 1, 1) := by decide +kernel
theorem d_LW_law_694 : decode code 694 = .ok (.aload_n 0, 1) := by decide +kernel
theorem d_LW_law_695 : decode code 695 = .ok (.iload 4, 2) := by decide +kernel
theorem d_LW_law_697 : decode code 697 = .ok (.iconst 1, 1) := by decide +kernel
theorem d_LW_law_698 : decode code 698 = .ok (.iadd, 1) := by decide +kernel
theorem d_LW_law_699 : decode code 699 = .ok (.iaload, 1) := by decide +kernel
theorem d_LW_law_700 : decode code 700 = .ok (.invokestatic 134, 3) := by decide +kernel
theorem d_LW_law_703 : decode code 703 = .ok (.istore 5, 2) := by decide +kernel
theorem d_LW_law_705 : decode code 705 = .ok (.aload_n 2, 1) := by decide +kernel
theorem d_LW_law_706 : decode code 706 = .ok (.aload_n 0, 1) := by decide +kernel
theorem d_LW_law_707 : decode code 707 = .ok (.iload 4, 2) := by decide +kernel
theorem d_LW_law_709 : decode code 709 = .ok (.iconst 1, 1) := by decide +kernel
theorem d_LW_law_710 : decode code 710 = .ok (.iadd, 1) := by decide +kernel
theorem d_LW_law_711 : decode code 711 = .ok (.iaload, 1) := by decide +kernel
theorem d_LW_law_712 : decode code 712 = .ok (.invokevirtual 136, 3) := by decide +kernel
theorem d_LW_law_715 : decode code 715 = .ok (.aload_n 2, 1) := by decide +kernel
theorem d_LW_law_716 : decode code 716 = .ok (.invokevirtual 100, 3) := by decide +kernel
theorem d_LW_law_719 : decode code 719 = .ok (.iload 5, 2) := by decide +kernel
theorem d_LW_law_721 : decode code 721 = .ok (.if_icmp .eq 5, 3) := by decide +kernel
theorem d_LW_law_724 : decode code 724 = .ok (.iconst 0, 1) := by decide +kernel
theorem d_LW_law_725 : decode code 725 = .ok (.ireturn, 1) := by decide +kernel
theorem d_LW_law_726 : decode code 726 = .ok (.goto 822, 3) := by decide +kernel
theorem d_LW_law_729 : decode code 729 = .ok (.aload_n 1, 1) := by decide +kernel
theorem d_LW_law_730 : decode code 730 = .ok (.aload_n 0, 1) := by decide +kernel
theorem d_LW_law_731 : decode code 731 = .ok (.iload 4, 2) := by decide +kernel
theorem d_LW_law_733 : decode code 733 = .ok (.iconst 1, 1) := by decide +kernel
theorem d_LW_law_734 : decode code 734 = .ok (.iadd, 1) := by decide +kernel
theorem d_LW_law_735 : decode code 735 = .ok (.iaload, 1) := by decide +kernel
theorem d_LW_law_736 : decode code 736 = .ok (.aload_n 0, 1) := by decide +kernel
theorem d_LW_law_737 : decode code 737 = .ok (.iload 4, 2) := by decide +kernel
theorem d_LW_law_739 : decode code 739 = .ok (.iconst 2, 1) := by decide +kernel
theorem d_LW_law_740 : decode code 740 = .ok (.iadd, 1) := by decide +kernel
theorem d_LW_law_741 : decode code 741 = .ok (.iaload, 1) := by decide +kernel
theorem d_LW_law_742 : decode code 742 = .ok (.aload_n 0, 1) := by decide +kernel
theorem d_LW_law_743 : decode code 743 = .ok (.iload 4, 2) := by decide +kernel
theorem d_LW_law_745 : decode code 745 = .ok (.iconst 3, 1) := by decide +kernel
theorem d_LW_law_746 : decode code 746 = .ok (.iadd, 1) := by decide +kernel
theorem d_LW_law_747 : decode code 747 = .ok (.iaload, 1) := by decide +kernel
theorem d_LW_law_748 : decode code 748 = .ok (.invokestatic 137, 3) := by decide +kernel
theorem d_LW_law_751 : decode code 751 = .ok (.istore 5, 2) := by decide +kernel
theorem d_LW_law_753 : decode code 753 = .ok (.aload_n 2, 1) := by decide +kernel
theorem d_LW_law_754 : decode code 754 = .ok (.aload_n 0, 1) := by decide +kernel
theorem d_LW_law_755 : decode code 755 = .ok (.iload 4, 2) := by decide +kernel
theorem d_LW_law_757 : decode code 757 = .ok (.iconst 1, 1) := by decide +kernel
theorem d_LW_law_758 : decode code 758 = .ok (.iadd, 1) := by decide +kernel
theorem d_LW_law_759 : decode code 759 = .ok (.iaload, 1) := by decide +kernel
theorem d_LW_law_760 : decode code 760 = .ok (.aload_n 0, 1) := by decide +kernel
theorem d_LW_law_761 : decode code 761 = .ok (.iload 4, 2) := by decide +kernel
theorem d_LW_law_763 : decode code 763 = .ok (.iconst 2, 1) := by decide +kernel
theorem d_LW_law_764 : decode code 764 = .ok (.iadd, 1) := by decide +kernel
theorem d_LW_law_765 : decode code 765 = .ok (.iaload, 1) := by decide +kernel
theorem d_LW_law_766 : decode code 766 = .ok (.aload_n 0, 1) := by decide +kernel
theorem d_LW_law_767 : decode code 767 = .ok (.iload 4, 2) := by decide +kernel
theorem d_LW_law_769 : decode code 769 = .ok (.iconst 3, 1) := by decide +kernel
theorem d_LW_law_770 : decode code 770 = .ok (.iadd, 1) := by decide +kernel
theorem d_LW_law_771 : decode code 771 = .ok (.iaload, 1) := by decide +kernel
theorem d_LW_law_772 : decode code 772 = .ok (.invokevirtual 140, 3) := by decide +kernel
theorem d_LW_law_775 : decode code 775 = .ok (.aload_n 2, 1) := by decide +kernel
theorem d_LW_law_776 : decode code 776 = .ok (.invokevirtual 100, 3) := by decide +kernel
theorem d_LW_law_779 : decode code 779 = .ok (.iload 5, 2) := by decide +kernel
theorem d_LW_law_781 : decode code 781 = .ok (.if_icmp .eq 5, 3) := by decide +kernel
theorem d_LW_law_784 : decode code 784 = .ok (.iconst 0, 1) := by decide +kernel
theorem d_LW_law_785 : decode code 785 = .ok (.ireturn, 1) := by decide +kernel
theorem d_LW_law_786 : decode code 786 = .ok (.goto 762, 3) := by decide +kernel
theorem d_LW_law_789 : decode code 789 = .ok (.aload_n 1, 1) := by decide +kernel
theorem d_LW_law_790 : decode code 790 = .ok (.aload_n 0, 1) := by decide +kernel
theorem d_LW_law_791 : decode code 791 = .ok (.iload 4, 2) := by decide +kernel
theorem d_LW_law_793 : decode code 793 = .ok (.iconst 1, 1) := by decide +kernel
theorem d_LW_law_794 : decode code 794 = .ok (.iadd, 1) := by decide +kernel
theorem d_LW_law_795 : decode code 795 = .ok (.iaload, 1) := by decide +kernel
theorem d_LW_law_796 : decode code 796 = .ok (.aload_n 0, 1) := by decide +kernel
theorem d_LW_law_797 : decode code 797 = .ok (.iload 4, 2) := by decide +kernel
theorem d_LW_law_799 : decode code 799 = .ok (.iconst 2, 1) := by decide +kernel
theorem d_LW_law_800 : decode code 800 = .ok (.iadd, 1) := by decide +kernel
theorem d_LW_law_801 : decode code 801 = .ok (.iaload, 1) := by decide +kernel
theorem d_LW_law_802 : decode code 802 = .ok (.aload_n 0, 1) := by decide +kernel
theorem d_LW_law_803 : decode code 803 = .ok (.iload 4, 2) := by decide +kernel
theorem d_LW_law_805 : decode code 805 = .ok (.iconst 3, 1) := by decide +kernel
theorem d_LW_law_806 : decode code 806 = .ok (.iadd, 1) := by decide +kernel
theorem d_LW_law_807 : decode code 807 = .ok (.iaload, 1) := by decide +kernel
theorem d_LW_law_808 : decode code 808 = .ok (.aload_n 0, 1) := by decide +kernel
theorem d_LW_law_809 : decode code 809 = .ok (.iload 4, 2) := by decide +kernel
theorem d_LW_law_811 : decode code 811 = .ok (.iconst 4, 1) := by decide +kernel
theorem d_LW_law_812 : decode code 812 = .ok (.iadd, 1) := by decide +kernel
theorem d_LW_law_813 : decode code 813 = .ok (.iaload, 1) := by decide +kernel
theorem d_LW_law_814 : decode code 814 = .ok (.aload_n 3, 1) := by decide +kernel
theorem d_LW_law_815 : decode code 815 = .ok (.invokestatic 141, 3) := by decide +kernel
theorem d_LW_law_818 : decode code 818 = .ok (.istore 5, 2) := by decide +kernel
theorem d_LW_law_820 : decode code 820 = .ok (.aload_n 2, 1) := by decide +kernel
theorem d_LW_law_821 : decode code 821 = .ok (.aload_n 0, 1) := by decide +kernel
theorem d_LW_law_822 : decode code 822 = .ok (.iload 4, 2) := by decide +kernel
theorem d_LW_law_824 : decode code 824 = .ok (.iconst 1, 1) := by decide +kernel
theorem d_LW_law_825 : decode code 825 = .ok (.iadd, 1) := by decide +kernel
theorem d_LW_law_826 : decode code 826 = .ok (.iaload, 1) := by decide +kernel
theorem d_LW_law_827 : decode code 827 = .ok (.aload_n 0, 1) := by decide +kernel
theorem d_LW_law_828 : decode code 828 = .ok (.iload 4, 2) := by decide +kernel
theorem d_LW_law_830 : decode code 830 = .ok (.iconst 2, 1) := by decide +kernel
theorem d_LW_law_831 : decode code 831 = .ok (.iadd, 1) := by decide +kernel
theorem d_LW_law_832 : decode code 832 = .ok (.iaload, 1) := by decide +kernel
theorem d_LW_law_833 : decode code 833 = .ok (.aload_n 0, 1) := by decide +kernel
theorem d_LW_law_834 : decode code 834 = .ok (.iload 4, 2) := by decide +kernel
theorem d_LW_law_836 : decode code 836 = .ok (.iconst 3, 1) := by decide +kernel
theorem d_LW_law_837 : decode code 837 = .ok (.iadd, 1) := by decide +kernel
theorem d_LW_law_838 : decode code 838 = .ok (.iaload, 1) := by decide +kernel
theorem d_LW_law_839 : decode code 839 = .ok (.aload_n 0, 1) := by decide +kernel
theorem d_LW_law_840 : decode code 840 = .ok (.iload 4, 2) := by decide +kernel
theorem d_LW_law_842 : decode code 842 = .ok (.iconst 4, 1) := by decide +kernel
theorem d_LW_law_843 : decode code 843 = .ok (.iadd, 1) := by decide +kernel
theorem d_LW_law_844 : decode code 844 = .ok (.iaload, 1) := by decide +kernel
theorem d_LW_law_845 : decode code 845 = .ok (.invokevirtual 143, 3) := by decide +kernel
theorem d_LW_law_848 : decode code 848 = .ok (.istore 6, 2) := by decide +kernel
theorem d_LW_law_850 : decode code 850 = .ok (.aload_n 2, 1) := by decide +kernel
theorem d_LW_law_851 : decode code 851 = .ok (.invokevirtual 100, 3) := by decide +kernel
theorem d_LW_law_854 : decode code 854 = .ok (.iload 5, 2) := by decide +kernel
theorem d_LW_law_856 : decode code 856 = .ok (.if_icmp .eq 5, 3) := by decide +kernel
theorem d_LW_law_859 : decode code 859 = .ok (.iconst 0, 1) := by decide +kernel
theorem d_LW_law_860 : decode code 860 = .ok (.ireturn, 1) := by decide +kernel
theorem d_LW_law_861 : decode code 861 = .ok (.iload 5, 2) := by decide +kernel
theorem d_LW_law_863 : decode code 863 = .ok (.ifCond .ne 15, 3) := by decide +kernel
theorem d_LW_law_866 : decode code 866 = .ok (.aload_n 3, 1) := by decide +kernel
theorem d_LW_law_867 : decode code 867 = .ok (.iconst 0, 1) := by decide +kernel
theorem d_LW_law_868 : decode code 868 = .ok (.laload, 1) := by decide +kernel
theorem d_LW_law_869 : decode code 869 = .ok (.iload 6, 2) := by decide +kernel
theorem d_LW_law_871 : decode code 871 = .ok (.i2l, 1) := by decide +kernel
theorem d_LW_law_872 : decode code 872 = .ok (.lcmp, 1) := by decide +kernel
theorem d_LW_law_873 : decode code 873 = .ok (.ifCond .eq 5, 3) := by decide +kernel
theorem d_LW_law_876 : decode code 876 = .ok (.iconst 0, 1) := by decide +kernel
theorem d_LW_law_877 : decode code 877 = .ok (.ireturn, 1) := by decide +kernel
theorem d_LW_law_878 : decode code 878 = .ok (.goto 670, 3) := by decide +kernel
theorem d_LW_law_881 : decode code 881 = .ok (.aload_n 1, 1) := by decide +kernel
theorem d_LW_law_882 : decode code 882 = .ok (.aload_n 0, 1) := by decide +kernel
theorem d_LW_law_883 : decode code 883 = .ok (.iload 4, 2) := by decide +kernel
theorem d_LW_law_885 : decode code 885 = .ok (.iconst 1, 1) := by decide +kernel
theorem d_LW_law_886 : decode code 886 = .ok (.iadd, 1) := by decide +kernel
theorem d_LW_law_887 : decode code 887 = .ok (.iaload, 1) := by decide +kernel
theorem d_LW_law_888 : decode code 888 = .ok (.aload_n 0, 1) := by decide +kernel
theorem d_LW_law_889 : decode code 889 = .ok (.iload 4, 2) := by decide +kernel
theorem d_LW_law_891 : decode code 891 = .ok (.iconst 2, 1) := by decide +kernel
theorem d_LW_law_892 : decode code 892 = .ok (.iadd, 1) := by decide +kernel
theorem d_LW_law_893 : decode code 893 = .ok (.iaload, 1) := by decide +kernel
theorem d_LW_law_894 : decode code 894 = .ok (.aload_n 0, 1) := by decide +kernel
theorem d_LW_law_895 : decode code 895 = .ok (.iload 4, 2) := by decide +kernel
theorem d_LW_law_897 : decode code 897 = .ok (.iconst 3, 1) := by decide +kernel
theorem d_LW_law_898 : decode code 898 = .ok (.iadd, 1) := by decide +kernel
theorem d_LW_law_899 : decode code 899 = .ok (.iaload, 1) := by decide +kernel
theorem d_LW_law_900 : decode code 900 = .ok (.invokestatic 144, 3) := by decide +kernel
theorem d_LW_law_903 : decode code 903 = .ok (.istore 5, 2) := by decide +kernel
theorem d_LW_law_905 : decode code 905 = .ok (.aload_n 2, 1) := by decide +kernel
theorem d_LW_law_906 : decode code 906 = .ok (.aload_n 0, 1) := by decide +kernel
theorem d_LW_law_907 : decode code 907 = .ok (.iload 4, 2) := by decide +kernel
theorem d_LW_law_909 : decode code 909 = .ok (.iconst 1, 1) := by decide +kernel
theorem d_LW_law_910 : decode code 910 = .ok (.iadd, 1) := by decide +kernel
theorem d_LW_law_911 : decode code 911 = .ok (.iaload, 1) := by decide +kernel
theorem d_LW_law_912 : decode code 912 = .ok (.aload_n 0, 1) := by decide +kernel
theorem d_LW_law_913 : decode code 913 = .ok (.iload 4, 2) := by decide +kernel
theorem d_LW_law_915 : decode code 915 = .ok (.iconst 2, 1) := by decide +kernel
theorem d_LW_law_916 : decode code 916 = .ok (.iadd, 1) := by decide +kernel
theorem d_LW_law_917 : decode code 917 = .ok (.iaload, 1) := by decide +kernel
theorem d_LW_law_918 : decode code 918 = .ok (.aload_n 0, 1) := by decide +kernel
theorem d_LW_law_919 : decode code 919 = .ok (.iload 4, 2) := by decide +kernel
theorem d_LW_law_921 : decode code 921 = .ok (.iconst 3, 1) := by decide +kernel
theorem d_LW_law_922 : decode code 922 = .ok (.iadd, 1) := by decide +kernel
theorem d_LW_law_923 : decode code 923 = .ok (.iaload, 1) := by decide +kernel
theorem d_LW_law_924 : decode code 924 = .ok (.invokevirtual 146, 3) := by decide +kernel
theorem d_LW_law_927 : decode code 927 = .ok (.aload_n 2, 1) := by decide +kernel
theorem d_LW_law_928 : decode code 928 = .ok (.invokevirtual 100, 3) := by decide +kernel
theorem d_LW_law_931 : decode code 931 = .ok (.iload 5, 2) := by decide +kernel
theorem d_LW_law_933 : decode code 933 = .ok (.if_icmp .eq 5, 3) := by decide +kernel
theorem d_LW_law_936 : decode code 936 = .ok (.iconst 0, 1) := by decide +kernel
theorem d_LW_law_937 : decode code 937 = .ok (.ireturn, 1) := by decide +kernel
theorem d_LW_law_938 : decode code 938 = .ok (.goto 610, 3) := by decide +kernel
theorem d_LW_law_941 : decode code 941 = .ok (.aload_n 1, 1) := by decide +kernel
theorem d_LW_law_942 : decode code 942 = .ok (.aload_n 0, 1) := by decide +kernel
theorem d_LW_law_943 : decode code 943 = .ok (.iload 4, 2) := by decide +kernel
theorem d_LW_law_945 : decode code 945 = .ok (.iconst 1, 1) := by decide +kernel
theorem d_LW_law_946 : decode code 946 = .ok (.iadd, 1) := by decide +kernel
theorem d_LW_law_947 : decode code 947 = .ok (.iaload, 1) := by decide +kernel
theorem d_LW_law_948 : decode code 948 = .ok (.aload_n 0, 1) := by decide +kernel
theorem d_LW_law_949 : decode code 949 = .ok (.iload 4, 2) := by decide +kernel
theorem d_LW_law_951 : decode code 951 = .ok (.iconst 2, 1) := by decide +kernel
theorem d_LW_law_952 : decode code 952 = .ok (.iadd, 1) := by decide +kernel
theorem d_LW_law_953 : decode code 953 = .ok (.iaload, 1) := by decide +kernel
theorem d_LW_law_954 : decode code 954 = .ok (.aload_n 3, 1) := by decide +kernel
theorem d_LW_law_955 : decode code 955 = .ok (.invokestatic 147, 3) := by decide +kernel
theorem d_LW_law_958 : decode code 958 = .ok (.istore 5, 2) := by decide +kernel
theorem d_LW_law_960 : decode code 960 = .ok (.aload_n 2, 1) := by decide +kernel
theorem d_LW_law_961 : decode code 961 = .ok (.aload_n 0, 1) := by decide +kernel
theorem d_LW_law_962 : decode code 962 = .ok (.iload 4, 2) := by decide +kernel
theorem d_LW_law_964 : decode code 964 = .ok (.iconst 1, 1) := by decide +kernel
theorem d_LW_law_965 : decode code 965 = .ok (.iadd, 1) := by decide +kernel
theorem d_LW_law_966 : decode code 966 = .ok (.iaload, 1) := by decide +kernel
theorem d_LW_law_967 : decode code 967 = .ok (.aload_n 0, 1) := by decide +kernel
theorem d_LW_law_968 : decode code 968 = .ok (.iload 4, 2) := by decide +kernel
theorem d_LW_law_970 : decode code 970 = .ok (.iconst 2, 1) := by decide +kernel
theorem d_LW_law_971 : decode code 971 = .ok (.iadd, 1) := by decide +kernel
theorem d_LW_law_972 : decode code 972 = .ok (.iaload, 1) := by decide +kernel
theorem d_LW_law_973 : decode code 973 = .ok (.invokevirtual 150, 3) := by decide +kernel
theorem d_LW_law_976 : decode code 976 = .ok (.istore 6, 2) := by decide +kernel
theorem d_LW_law_978 : decode code 978 = .ok (.aload_n 2, 1) := by decide +kernel
theorem d_LW_law_979 : decode code 979 = .ok (.invokevirtual 100, 3) := by decide +kernel
theorem d_LW_law_982 : decode code 982 = .ok (.iload 5, 2) := by decide +kernel
theorem d_LW_law_984 : decode code 984 = .ok (.if_icmp .eq 5, 3) := by decide +kernel
theorem d_LW_law_987 : decode code 987 = .ok (.iconst 0, 1) := by decide +kernel
theorem d_LW_law_988 : decode code 988 = .ok (.ireturn, 1) := by decide +kernel
theorem d_LW_law_989 : decode code 989 = .ok (.iload 5, 2) := by decide +kernel
theorem d_LW_law_991 : decode code 991 = .ok (.ifCond .ne 15, 3) := by decide +kernel
theorem d_LW_law_994 : decode code 994 = .ok (.aload_n 3, 1) := by decide +kernel
theorem d_LW_law_995 : decode code 995 = .ok (.iconst 0, 1) := by decide +kernel
theorem d_LW_law_996 : decode code 996 = .ok (.laload, 1) := by decide +kernel
theorem d_LW_law_997 : decode code 997 = .ok (.iload 6, 2) := by decide +kernel
theorem d_LW_law_999 : decode code 999 = .ok (.i2l, 1) := by decide +kernel
theorem d_LW_law_1000 : decode code 1000 = .ok (.lcmp, 1) := by decide +kernel
theorem d_LW_law_1001 : decode code 1001 = .ok (.ifCond .eq 5, 3) := by decide +kernel
theorem d_LW_law_1004 : decode code 1004 = .ok (.iconst 0, 1) := by decide +kernel
theorem d_LW_law_1005 : decode code 1005 = .ok (.ireturn, 1) := by decide +kernel
theorem d_LW_law_1006 : decode code 1006 = .ok (.goto 542, 3) := by decide +kernel
theorem d_LW_law_1009 : decode code 1009 = .ok (.aload_n 1, 1) := by decide +kernel
theorem d_LW_law_1010 : decode code 1010 = .ok (.aload_n 0, 1) := by decide +kernel
theorem d_LW_law_1011 : decode code 1011 = .ok (.iload 4, 2) := by decide +kernel
theorem d_LW_law_1013 : decode code 1013 = .ok (.iconst 1, 1) := by decide +kernel
theorem d_LW_law_1014 : decode code 1014 = .ok (.iadd, 1) := by decide +kernel
theorem d_LW_law_1015 : decode code 1015 = .ok (.iaload, 1) := by decide +kernel
theorem d_LW_law_1016 : decode code 1016 = .ok (.aload_n 0, 1) := by decide +kernel
theorem d_LW_law_1017 : decode code 1017 = .ok (.iload 4, 2) := by decide +kernel
theorem d_LW_law_1019 : decode code 1019 = .ok (.iconst 2, 1) := by decide +kernel
theorem d_LW_law_1020 : decode code 1020 = .ok (.iadd, 1) := by decide +kernel
theorem d_LW_law_1021 : decode code 1021 = .ok (.iaload, 1) := by decide +kernel
theorem d_LW_law_1022 : decode code 1022 = .ok (.aload_n 3, 1) := by decide +kernel
theorem d_LW_law_1023 : decode code 1023 = .ok (.invokestatic 151, 3) := by decide +kernel
theorem d_LW_law_1026 : decode code 1026 = .ok (.istore 5, 2) := by decide +kernel
theorem d_LW_law_1028 : decode code 1028 = .ok (.aload_n 2, 1) := by decide +kernel
theorem d_LW_law_1029 : decode code 1029 = .ok (.aload_n 0, 1) := by decide +kernel
theorem d_LW_law_1030 : decode code 1030 = .ok (.iload 4, 2) := by decide +kernel
theorem d_LW_law_1032 : decode code 1032 = .ok (.iconst 1, 1) := by decide +kernel
theorem d_LW_law_1033 : decode code 1033 = .ok (.iadd, 1) := by decide +kernel
theorem d_LW_law_1034 : decode code 1034 = .ok (.iaload, 1) := by decide +kernel
theorem d_LW_law_1035 : decode code 1035 = .ok (.aload_n 0, 1) := by decide +kernel
theorem d_LW_law_1036 : decode code 1036 = .ok (.iload 4, 2) := by decide +kernel
theorem d_LW_law_1038 : decode code 1038 = .ok (.iconst 2, 1) := by decide +kernel
theorem d_LW_law_1039 : decode code 1039 = .ok (.iadd, 1) := by decide +kernel
theorem d_LW_law_1040 : decode code 1040 = .ok (.iaload, 1) := by decide +kernel
theorem d_LW_law_1041 : decode code 1041 = .ok (.invokevirtual 153, 3) := by decide +kernel
theorem d_LW_law_1044 : decode code 1044 = .ok (.istore 6, 2) := by decide +kernel
theorem d_LW_law_1046 : decode code 1046 = .ok (.aload_n 2, 1) := by decide +kernel
theorem d_LW_law_1047 : decode code 1047 = .ok (.invokevirtual 100, 3) := by decide +kernel
theorem d_LW_law_1050 : decode code 1050 = .ok (.iload 5, 2) := by decide +kernel
theorem d_LW_law_1052 : decode code 1052 = .ok (.if_icmp .eq 5, 3) := by decide +kernel
theorem d_LW_law_1055 : decode code 1055 = .ok (.iconst 0, 1) := by decide +kernel
theorem d_LW_law_1056 : decode code 1056 = .ok (.ireturn, 1) := by decide +kernel
theorem d_LW_law_1057 : decode code 1057 = .ok (.iload 5, 2) := by decide +kernel
theorem d_LW_law_1059 : decode code 1059 = .ok (.ifCond .ne 15, 3) := by decide +kernel
theorem d_LW_law_1062 : decode code 1062 = .ok (.aload_n 3, 1) := by decide +kernel
theorem d_LW_law_1063 : decode code 1063 = .ok (.iconst 0, 1) := by decide +kernel
theorem d_LW_law_1064 : decode code 1064 = .ok (.laload, 1) := by decide +kernel
theorem d_LW_law_1065 : decode code 1065 = .ok (.iload 6, 2) := by decide +kernel
theorem d_LW_law_1067 : decode code 1067 = .ok (.i2l, 1) := by decide +kernel
theorem d_LW_law_1068 : decode code 1068 = .ok (.lcmp, 1) := by decide +kernel
theorem d_LW_law_1069 : decode code 1069 = .ok (.ifCond .eq 5, 3) := by decide +kernel
theorem d_LW_law_1072 : decode code 1072 = .ok (.iconst 0, 1) := by decide +kernel
theorem d_LW_law_1073 : decode code 1073 = .ok (.ireturn, 1) := by decide +kernel
theorem d_LW_law_1074 : decode code 1074 = .ok (.goto 474, 3) := by decide +kernel
theorem d_LW_law_1077 : decode code 1077 = .ok (.aload_n 1, 1) := by decide +kernel
theorem d_LW_law_1078 : decode code 1078 = .ok (.aload_n 0, 1) := by decide +kernel
theorem d_LW_law_1079 : decode code 1079 = .ok (.iload 4, 2) := by decide +kernel
theorem d_LW_law_1081 : decode code 1081 = .ok (.iconst 1, 1) := by decide +kernel
theorem d_LW_law_1082 : decode code 1082 = .ok (.iadd, 1) := by decide +kernel
theorem d_LW_law_1083 : decode code 1083 = .ok (.iaload, 1) := by decide +kernel
theorem d_LW_law_1084 : decode code 1084 = .ok (.aload_n 0, 1) := by decide +kernel
theorem d_LW_law_1085 : decode code 1085 = .ok (.iload 4, 2) := by decide +kernel
theorem d_LW_law_1087 : decode code 1087 = .ok (.iconst 2, 1) := by decide +kernel
theorem d_LW_law_1088 : decode code 1088 = .ok (.iadd, 1) := by decide +kernel
theorem d_LW_law_1089 : decode code 1089 = .ok (.iaload, 1) := by decide +kernel
theorem d_LW_law_1090 : decode code 1090 = .ok (.aload_n 0, 1) := by decide +kernel
theorem d_LW_law_1091 : decode code 1091 = .ok (.iload 4, 2) := by decide +kernel
theorem d_LW_law_1093 : decode code 1093 = .ok (.iconst 3, 1) := by decide +kernel
theorem d_LW_law_1094 : decode code 1094 = .ok (.iadd, 1) := by decide +kernel
theorem d_LW_law_1095 : decode code 1095 = .ok (.iaload, 1) := by decide +kernel
theorem d_LW_law_1096 : decode code 1096 = .ok (.aload_n 3, 1) := by decide +kernel
theorem d_LW_law_1097 : decode code 1097 = .ok (.invokestatic 154, 3) := by decide +kernel
theorem d_LW_law_1100 : decode code 1100 = .ok (.istore 5, 2) := by decide +kernel
theorem d_LW_law_1102 : decode code 1102 = .ok (.aload_n 2, 1) := by decide +kernel
theorem d_LW_law_1103 : decode code 1103 = .ok (.aload_n 0, 1) := by decide +kernel
theorem d_LW_law_1104 : decode code 1104 = .ok (.iload 4, 2) := by decide +kernel
theorem d_LW_law_1106 : decode code 1106 = .ok (.iconst 1, 1) := by decide +kernel
theorem d_LW_law_1107 : decode code 1107 = .ok (.iadd, 1) := by decide +kernel
theorem d_LW_law_1108 : decode code 1108 = .ok (.iaload, 1) := by decide +kernel
theorem d_LW_law_1109 : decode code 1109 = .ok (.aload_n 0, 1) := by decide +kernel
theorem d_LW_law_1110 : decode code 1110 = .ok (.iload 4, 2) := by decide +kernel
theorem d_LW_law_1112 : decode code 1112 = .ok (.iconst 2, 1) := by decide +kernel
theorem d_LW_law_1113 : decode code 1113 = .ok (.iadd, 1) := by decide +kernel
theorem d_LW_law_1114 : decode code 1114 = .ok (.iaload, 1) := by decide +kernel
theorem d_LW_law_1115 : decode code 1115 = .ok (.aload_n 0, 1) := by decide +kernel
theorem d_LW_law_1116 : decode code 1116 = .ok (.iload 4, 2) := by decide +kernel
theorem d_LW_law_1118 : decode code 1118 = .ok (.iconst 3, 1) := by decide +kernel
theorem d_LW_law_1119 : decode code 1119 = .ok (.iadd, 1) := by decide +kernel
theorem d_LW_law_1120 : decode code 1120 = .ok (.iaload, 1) := by decide +kernel
theorem d_LW_law_1121 : decode code 1121 = .ok (.invokevirtual 156, 3) := by decide +kernel
theorem d_LW_law_1124 : decode code 1124 = .ok (.istore 6, 2) := by decide +kernel
theorem d_LW_law_1126 : decode code 1126 = .ok (.aload_n 2, 1) := by decide +kernel
theorem d_LW_law_1127 : decode code 1127 = .ok (.invokevirtual 100, 3) := by decide +kernel
theorem d_LW_law_1130 : decode code 1130 = .ok (.iload 5, 2) := by decide +kernel
theorem d_LW_law_1132 : decode code 1132 = .ok (.if_icmp .eq 5, 3) := by decide +kernel
theorem d_LW_law_1135 : decode code 1135 = .ok (.iconst 0, 1) := by decide +kernel
theorem d_LW_law_1136 : decode code 1136 = .ok (.ireturn, 1) := by decide +kernel
theorem d_LW_law_1137 : decode code 1137 = .ok (.iload 5, 2) := by decide +kernel
theorem d_LW_law_1139 : decode code 1139 = .ok (.ifCond .ne 15, 3) := by decide +kernel
theorem d_LW_law_1142 : decode code 1142 = .ok (.aload_n 3, 1) := by decide +kernel
theorem d_LW_law_1143 : decode code 1143 = .ok (.iconst 0, 1) := by decide +kernel
theorem d_LW_law_1144 : decode code 1144 = .ok (.laload, 1) := by decide +kernel
theorem d_LW_law_1145 : decode code 1145 = .ok (.iload 6, 2) := by decide +kernel
theorem d_LW_law_1147 : decode code 1147 = .ok (.i2l, 1) := by decide +kernel
theorem d_LW_law_1148 : decode code 1148 = .ok (.lcmp, 1) := by decide +kernel
theorem d_LW_law_1149 : decode code 1149 = .ok (.ifCond .eq 5, 3) := by decide +kernel
theorem d_LW_law_1152 : decode code 1152 = .ok (.iconst 0, 1) := by decide +kernel
theorem d_LW_law_1153 : decode code 1153 = .ok (.ireturn, 1) := by decide +kernel
theorem d_LW_law_1154 : decode code 1154 = .ok (.goto 394, 3) := by decide +kernel
theorem d_LW_law_1157 : decode code 1157 = .ok (.aload_n 1, 1) := by decide +kernel
theorem d_LW_law_1158 : decode code 1158 = .ok (.aload_n 0, 1) := by decide +kernel
theorem d_LW_law_1159 : decode code 1159 = .ok (.iload 4, 2) := by decide +kernel
theorem d_LW_law_1161 : decode code 1161 = .ok (.iconst 1, 1) := by decide +kernel
theorem d_LW_law_1162 : decode code 1162 = .ok (.iadd, 1) := by decide +kernel
theorem d_LW_law_1163 : decode code 1163 = .ok (.iaload, 1) := by decide +kernel
theorem d_LW_law_1164 : decode code 1164 = .ok (.aload_n 3, 1) := by decide +kernel
theorem d_LW_law_1165 : decode code 1165 = .ok (.invokestatic 157, 3) := by decide +kernel
theorem d_LW_law_1168 : decode code 1168 = .ok (.istore 5, 2) := by decide +kernel
theorem d_LW_law_1170 : decode code 1170 = .ok (.aload_n 2, 1) := by decide +kernel
theorem d_LW_law_1171 : decode code 1171 = .ok (.aload_n 0, 1) := by decide +kernel
theorem d_LW_law_1172 : decode code 1172 = .ok (.iload 4, 2) := by decide +kernel
theorem d_LW_law_1174 : decode code 1174 = .ok (.iconst 1, 1) := by decide +kernel
theorem d_LW_law_1175 : decode code 1175 = .ok (.iadd, 1) := by decide +kernel
theorem d_LW_law_1176 : decode code 1176 = .ok (.iaload, 1) := by decide +kernel
theorem d_LW_law_1177 : decode code 1177 = .ok (.invokevirtual 159, 3) := by decide +kernel
theorem d_LW_law_1180 : decode code 1180 = .ok (.istore 6, 2) := by decide +kernel
theorem d_LW_law_1182 : decode code 1182 = .ok (.aload_n 2, 1) := by decide +kernel
theorem d_LW_law_1183 : decode code 1183 = .ok (.invokevirtual 100, 3) := by decide +kernel
theorem d_LW_law_1186 : decode code 1186 = .ok (.iload 5, 2) := by decide +kernel
theorem d_LW_law_1188 : decode code 1188 = .ok (.if_icmp .eq 5, 3) := by decide +kernel
theorem d_LW_law_1191 : decode code 1191 = .ok (.iconst 0, 1) := by decide +kernel
theorem d_LW_law_1192 : decode code 1192 = .ok (.ireturn, 1) := by decide +kernel
theorem d_LW_law_1193 : decode code 1193 = .ok (.iload 5, 2) := by decide +kernel
theorem d_LW_law_1195 : decode code 1195 = .ok (.ifCond .ne 15, 3) := by decide +kernel
theorem d_LW_law_1198 : decode code 1198 = .ok (.aload_n 3, 1) := by decide +kernel
theorem d_LW_law_1199 : decode code 1199 = .ok (.iconst 0, 1) := by decide +kernel
theorem d_LW_law_1200 : decode code 1200 = .ok (.laload, 1) := by decide +kernel
theorem d_LW_law_1201 : decode code 1201 = .ok (.iload 6, 2) := by decide +kernel
theorem d_LW_law_1203 : decode code 1203 = .ok (.i2l, 1) := by decide +kernel
theorem d_LW_law_1204 : decode code 1204 = .ok (.lcmp, 1) := by decide +kernel
theorem d_LW_law_1205 : decode code 1205 = .ok (.ifCond .eq 5, 3) := by decide +kernel
theorem d_LW_law_1208 : decode code 1208 = .ok (.iconst 0, 1) := by decide +kernel
theorem d_LW_law_1209 : decode code 1209 = .ok (.ireturn, 1) := by decide +kernel
theorem d_LW_law_1210 : decode code 1210 = .ok (.goto 338, 3) := by decide +kernel
theorem d_LW_law_1213 : decode code 1213 = .ok (.aload_n 1, 1) := by decide +kernel
theorem d_LW_law_1214 : decode code 1214 = .ok (.aload_n 0, 1) := by decide +kernel
theorem d_LW_law_1215 : decode code 1215 = .ok (.iload 4, 2) := by decide +kernel
theorem d_LW_law_1217 : decode code 1217 = .ok (.iconst 1, 1) := by decide +kernel
theorem d_LW_law_1218 : decode code 1218 = .ok (.iadd, 1) := by decide +kernel
theorem d_LW_law_1219 : decode code 1219 = .ok (.iaload, 1) := by decide +kernel
theorem d_LW_law_1220 : decode code 1220 = .ok (.aload_n 3, 1) := by decide +kernel
theorem d_LW_law_1221 : decode code 1221 = .ok (.invokestatic 160, 3) := by decide +kernel
theorem d_LW_law_1224 : decode code 1224 = .ok (.istore 5, 2) := by decide +kernel
theorem d_LW_law_1226 : decode code 1226 = .ok (.aload_n 2, 1) := by decide +kernel
theorem d_LW_law_1227 : decode code 1227 = .ok (.aload_n 0, 1) := by decide +kernel
theorem d_LW_law_1228 : decode code 1228 = .ok (.iload 4, 2) := by decide +kernel
theorem d_LW_law_1230 : decode code 1230 = .ok (.iconst 1, 1) := by decide +kernel
theorem d_LW_law_1231 : decode code 1231 = .ok (.iadd, 1) := by decide +kernel
theorem d_LW_law_1232 : decode code 1232 = .ok (.iaload, 1) := by decide +kernel
theorem d_LW_law_1233 : decode code 1233 = .ok (.invokevirtual 162, 3) := by decide +kernel
theorem d_LW_law_1236 : decode code 1236 = .ok (.istore 6, 2) := by decide +kernel
theorem d_LW_law_1238 : decode code 1238 = .ok (.aload_n 2, 1) := by decide +kernel
theorem d_LW_law_1239 : decode code 1239 = .ok (.invokevirtual 100, 3) := by decide +kernel
theorem d_LW_law_1242 : decode code 1242 = .ok (.iload 5, 2) := by decide +kernel
theorem d_LW_law_1244 : decode code 1244 = .ok (.if_icmp .eq 5, 3) := by decide +kernel
theorem d_LW_law_1247 : decode code 1247 = .ok (.iconst 0, 1) := by decide +kernel
theorem d_LW_law_1248 : decode code 1248 = .ok (.ireturn, 1) := by decide +kernel
theorem d_LW_law_1249 : decode code 1249 = .ok (.iload 5, 2) := by decide +kernel
theorem d_LW_law_1251 : decode code 1251 = .ok (.ifCond .ne 15, 3) := by decide +kernel
theorem d_LW_law_1254 : decode code 1254 = .ok (.aload_n 3, 1) := by decide +kernel
theorem d_LW_law_1255 : decode code 1255 = .ok (.iconst 0, 1) := by decide +kernel
theorem d_LW_law_1256 : decode code 1256 = .ok (.laload, 1) := by decide +kernel
theorem d_LW_law_1257 : decode code 1257 = .ok (.iload 6, 2) := by decide +kernel
theorem d_LW_law_1259 : decode code 1259 = .ok (.i2l, 1) := by decide +kernel
theorem d_LW_law_1260 : decode code 1260 = .ok (.lcmp, 1) := by decide +kernel
theorem d_LW_law_1261 : decode code 1261 = .ok (.ifCond .eq 5, 3) := by decide +kernel
theorem d_LW_law_1264 : decode code 1264 = .ok (.iconst 0, 1) := by decide +kernel
theorem d_LW_law_1265 : decode code 1265 = .ok (.ireturn, 1) := by decide +kernel
theorem d_LW_law_1266 : decode code 1266 = .ok (.goto 282, 3) := by decide +kernel
theorem d_LW_law_1269 : decode code 1269 = .ok (.aload_n 1, 1) := by decide +kernel
theorem d_LW_law_1270 : decode code 1270 = .ok (.aload_n 0, 1) := by decide +kernel
theorem d_LW_law_1271 : decode code 1271 = .ok (.iload 4, 2) := by decide +kernel
theorem d_LW_law_1273 : decode code 1273 = .ok (.iconst 1, 1) := by decide +kernel
theorem d_LW_law_1274 : decode code 1274 = .ok (.iadd, 1) := by decide +kernel
theorem d_LW_law_1275 : decode code 1275 = .ok (.iaload, 1) := by decide +kernel
theorem d_LW_law_1276 : decode code 1276 = .ok (.aload_n 0, 1) := by decide +kernel
theorem d_LW_law_1277 : decode code 1277 = .ok (.iload 4, 2) := by decide +kernel
theorem d_LW_law_1279 : decode code 1279 = .ok (.iconst 2, 1) := by decide +kernel
theorem d_LW_law_1280 : decode code 1280 = .ok (.iadd, 1) := by decide +kernel
theorem d_LW_law_1281 : decode code 1281 = .ok (.iaload, 1) := by decide +kernel
theorem d_LW_law_1282 : decode code 1282 = .ok (.aload_n 3, 1) := by decide +kernel
theorem d_LW_law_1283 : decode code 1283 = .ok (.invokestatic 163, 3) := by decide +kernel
theorem d_LW_law_1286 : decode code 1286 = .ok (.istore 5, 2) := by decide +kernel
theorem d_LW_law_1288 : decode code 1288 = .ok (.aload_n 2, 1) := by decide +kernel
theorem d_LW_law_1289 : decode code 1289 = .ok (.aload_n 0, 1) := by decide +kernel
theorem d_LW_law_1290 : decode code 1290 = .ok (.iload 4, 2) := by decide +kernel
theorem d_LW_law_1292 : decode code 1292 = .ok (.iconst 1, 1) := by decide +kernel
theorem d_LW_law_1293 : decode code 1293 = .ok (.iadd, 1) := by decide +kernel
theorem d_LW_law_1294 : decode code 1294 = .ok (.iaload, 1) := by decide +kernel
theorem d_LW_law_1295 : decode code 1295 = .ok (.aload_n 0, 1) := by decide +kernel
theorem d_LW_law_1296 : decode code 1296 = .ok (.iload 4, 2) := by decide +kernel
theorem d_LW_law_1298 : decode code 1298 = .ok (.iconst 2, 1) := by decide +kernel
theorem d_LW_law_1299 : decode code 1299 = .ok (.iadd, 1) := by decide +kernel
theorem d_LW_law_1300 : decode code 1300 = .ok (.iaload, 1) := by decide +kernel
theorem d_LW_law_1301 : decode code 1301 = .ok (.invokevirtual 165, 3) := by decide +kernel
theorem d_LW_law_1304 : decode code 1304 = .ok (.istore 6, 2) := by decide +kernel
theorem d_LW_law_1306 : decode code 1306 = .ok (.aload_n 2, 1) := by decide +kernel
theorem d_LW_law_1307 : decode code 1307 = .ok (.invokevirtual 100, 3) := by decide +kernel
theorem d_LW_law_1310 : decode code 1310 = .ok (.iload 5, 2) := by decide +kernel
theorem d_LW_law_1312 : decode code 1312 = .ok (.if_icmp .eq 5, 3) := by decide +kernel
theorem d_LW_law_1315 : decode code 1315 = .ok (.iconst 0, 1) := by decide +kernel
theorem d_LW_law_1316 : decode code 1316 = .ok (.ireturn, 1) := by decide +kernel
theorem d_LW_law_1317 : decode code 1317 = .ok (.iload 5, 2) := by decide +kernel
theorem d_LW_law_1319 : decode code 1319 = .ok (.ifCond .ne 22, 3) := by decide +kernel
theorem d_LW_law_1322 : decode code 1322 = .ok (.aload_n 3, 1) := by decide +kernel
theorem d_LW_law_1323 : decode code 1323 = .ok (.iconst 0, 1) := by decide +kernel
theorem d_LW_law_1324 : decode code 1324 = .ok (.laload, 1) := by decide +kernel
theorem d_LW_law_1325 : decode code 1325 = .ok (.iload 6, 2) := by decide +kernel
theorem d_LW_law_1327 : decode code 1327 = .ok (.ifCond .eq 7, 3) := by decide +kernel
theorem d_LW_law_1330 : decode code 1330 = .ok (.lconst 1, 1) := by decide +kernel
theorem d_LW_law_1331 : decode code 1331 = .ok (.goto 4, 3) := by decide +kernel
theorem d_LW_law_1334 : decode code 1334 = .ok (.lconst 0, 1) := by decide +kernel
theorem d_LW_law_1335 : decode code 1335 = .ok (.lcmp, 1) := by decide +kernel
theorem d_LW_law_1336 : decode code 1336 = .ok (.ifCond .eq 5, 3) := by decide +kernel
theorem d_LW_law_1339 : decode code 1339 = .ok (.iconst 0, 1) := by decide +kernel
theorem d_LW_law_1340 : decode code 1340 = .ok (.ireturn, 1) := by decide +kernel
theorem d_LW_law_1341 : decode code 1341 = .ok (.goto 207, 3) := by decide +kernel
theorem d_LW_law_1344 : decode code 1344 = .ok (.aload_n 1, 1) := by decide +kernel
theorem d_LW_law_1345 : decode code 1345 = .ok (.aload_n 0, 1) := by decide +kernel
theorem d_LW_law_1346 : decode code 1346 = .ok (.iload 4, 2) := by decide +kernel
theorem d_LW_law_1348 : decode code 1348 = .ok (.iconst 1, 1) := by decide +kernel
theorem d_LW_law_1349 : decode code 1349 = .ok (.iadd, 1) := by decide +kernel
theorem d_LW_law_1350 : decode code 1350 = .ok (.iaload, 1) := by decide +kernel
theorem d_LW_law_1351 : decode code 1351 = .ok (.aload_n 0, 1) := by decide +kernel
theorem d_LW_law_1352 : decode code 1352 = .ok (.iload 4, 2) := by decide +kernel
theorem d_LW_law_1354 : decode code 1354 = .ok (.iconst 2, 1) := by decide +kernel
theorem d_LW_law_1355 : decode code 1355 = .ok (.iadd, 1) := by decide +kernel
theorem d_LW_law_1356 : decode code 1356 = .ok (.iaload, 1) := by decide +kernel
theorem d_LW_law_1357 : decode code 1357 = .ok (.aload_n 3, 1) := by decide +kernel
theorem d_LW_law_1358 : decode code 1358 = .ok (.invokestatic 166, 3) := by decide +kernel
theorem d_LW_law_1361 : decode code 1361 = .ok (.istore 5, 2) := by decide +kernel
theorem d_LW_law_1363 : decode code 1363 = .ok (.aload_n 2, 1) := by decide +kernel
theorem d_LW_law_1364 : decode code 1364 = .ok (.aload_n 0, 1) := by decide +kernel
theorem d_LW_law_1365 : decode code 1365 = .ok (.iload 4, 2) := by decide +kernel
theorem d_LW_law_1367 : decode code 1367 = .ok (.iconst 1, 1) := by decide +kernel
theorem d_LW_law_1368 : decode code 1368 = .ok (.iadd, 1) := by decide +kernel
theorem d_LW_law_1369 : decode code 1369 = .ok (.iaload, 1) := by decide +kernel
theorem d_LW_law_1370 : decode code 1370 = .ok (.aload_n 0, 1) := by decide +kernel
theorem d_LW_law_1371 : decode code 1371 = .ok (.iload 4, 2) := by decide +kernel
theorem d_LW_law_1373 : decode code 1373 = .ok (.iconst 2, 1) := by decide +kernel
theorem d_LW_law_1374 : decode code 1374 = .ok (.iadd, 1) := by decide +kernel
theorem d_LW_law_1375 : decode code 1375 = .ok (.iaload, 1) := by decide +kernel
theorem d_LW_law_1376 : decode code 1376 = .ok (.invokevirtual 168, 3) := by decide +kernel
theorem d_LW_law_1379 : decode code 1379 = .ok (.istore 6, 2) := by decide +kernel
theorem d_LW_law_1381 : decode code 1381 = .ok (.aload_n 2, 1) := by decide +kernel
theorem d_LW_law_1382 : decode code 1382 = .ok (.invokevirtual 100, 3) := by decide +kernel
theorem d_LW_law_1385 : decode code 1385 = .ok (.iload 5, 2) := by decide +kernel
theorem d_LW_law_1387 : decode code 1387 = .ok (.if_icmp .eq 5, 3) := by decide +kernel
theorem d_LW_law_1390 : decode code 1390 = .ok (.iconst 0, 1) := by decide +kernel
theorem d_LW_law_1391 : decode code 1391 = .ok (.ireturn, 1) := by decide +kernel
theorem d_LW_law_1392 : decode code 1392 = .ok (.iload 5, 2) := by decide +kernel
theorem d_LW_law_1394 : decode code 1394 = .ok (.ifCond .ne 15, 3) := by decide +kernel
theorem d_LW_law_1397 : decode code 1397 = .ok (.aload_n 3, 1) := by decide +kernel
theorem d_LW_law_1398 : decode code 1398 = .ok (.iconst 0, 1) := by decide +kernel
theorem d_LW_law_1399 : decode code 1399 = .ok (.laload, 1) := by decide +kernel
theorem d_LW_law_1400 : decode code 1400 = .ok (.iload 6, 2) := by decide +kernel
theorem d_LW_law_1402 : decode code 1402 = .ok (.i2l, 1) := by decide +kernel
theorem d_LW_law_1403 : decode code 1403 = .ok (.lcmp, 1) := by decide +kernel
theorem d_LW_law_1404 : decode code 1404 = .ok (.ifCond .eq 5, 3) := by decide +kernel
theorem d_LW_law_1407 : decode code 1407 = .ok (.iconst 0, 1) := by decide +kernel
theorem d_LW_law_1408 : decode code 1408 = .ok (.ireturn, 1) := by decide +kernel
theorem d_LW_law_1409 : decode code 1409 = .ok (.goto 139, 3) := by decide +kernel
theorem d_LW_law_1412 : decode code 1412 = .ok (.aload_n 1, 1) := by decide +kernel
theorem d_LW_law_1413 : decode code 1413 = .ok (.aload_n 0, 1) := by decide +kernel
theorem d_LW_law_1414 : decode code 1414 = .ok (.iload 4, 2) := by decide +kernel
theorem d_LW_law_1416 : decode code 1416 = .ok (.iconst 1, 1) := by decide +kernel
theorem d_LW_law_1417 : decode code 1417 = .ok (.iadd, 1) := by decide +kernel
theorem d_LW_law_1418 : decode code 1418 = .ok (.iaload, 1) := by decide +kernel
theorem d_LW_law_1419 : decode code 1419 = .ok (.aload_n 0, 1) := by decide +kernel
theorem d_LW_law_1420 : decode code 1420 = .ok (.iload 4, 2) := by decide +kernel
theorem d_LW_law_1422 : decode code 1422 = .ok (.iconst 2, 1) := by decide +kernel
theorem d_LW_law_1423 : decode code 1423 = .ok (.iadd, 1) := by decide +kernel
theorem d_LW_law_1424 : decode code 1424 = .ok (.iaload, 1) := by decide +kernel
theorem d_LW_law_1425 : decode code 1425 = .ok (.aload_n 0, 1) := by decide +kernel
theorem d_LW_law_1426 : decode code 1426 = .ok (.iload 4, 2) := by decide +kernel
theorem d_LW_law_1428 : decode code 1428 = .ok (.iconst 3, 1) := by decide +kernel
theorem d_LW_law_1429 : decode code 1429 = .ok (.iadd, 1) := by decide +kernel
theorem d_LW_law_1430 : decode code 1430 = .ok (.iaload, 1) := by decide +kernel
theorem d_LW_law_1431 : decode code 1431 = .ok (.aload_n 3, 1) := by decide +kernel
theorem d_LW_law_1432 : decode code 1432 = .ok (.invokestatic 169, 3) := by decide +kernel
theorem d_LW_law_1435 : decode code 1435 = .ok (.istore 5, 2) := by decide +kernel
theorem d_LW_law_1437 : decode code 1437 = .ok (.aload_n 2, 1) := by decide +kernel
theorem d_LW_law_1438 : decode code 1438 = .ok (.aload_n 0, 1) := by decide +kernel
theorem d_LW_law_1439 : decode code 1439 = .ok (.iload 4, 2) := by decide +kernel
theorem d_LW_law_1441 : decode code 1441 = .ok (.iconst 1, 1) := by decide +kernel
theorem d_LW_law_1442 : decode code 1442 = .ok (.iadd, 1) := by decide +kernel
theorem d_LW_law_1443 : decode code 1443 = .ok (.iaload, 1) := by decide +kernel
theorem d_LW_law_1444 : decode code 1444 = .ok (.aload_n 0, 1) := by decide +kernel
theorem d_LW_law_1445 : decode code 1445 = .ok (.iload 4, 2) := by decide +kernel
theorem d_LW_law_1447 : decode code 1447 = .ok (.iconst 2, 1) := by decide +kernel
theorem d_LW_law_1448 : decode code 1448 = .ok (.iadd, 1) := by decide +kernel
theorem d_LW_law_1449 : decode code 1449 = .ok (.iaload, 1) := by decide +kernel
theorem d_LW_law_1450 : decode code 1450 = .ok (.aload_n 0, 1) := by decide +kernel
theorem d_LW_law_1451 : decode code 1451 = .ok (.iload 4, 2) := by decide +kernel
theorem d_LW_law_1453 : decode code 1453 = .ok (.iconst 3, 1) := by decide +kernel
theorem d_LW_law_1454 : decode code 1454 = .ok (.iadd, 1) := by decide +kernel
theorem d_LW_law_1455 : decode code 1455 = .ok (.iaload, 1) := by decide +kernel
theorem d_LW_law_1456 : decode code 1456 = .ok (.invokevirtual 171, 3) := by decide +kernel
theorem d_LW_law_1459 : decode code 1459 = .ok (.istore 6, 2) := by decide +kernel
theorem d_LW_law_1461 : decode code 1461 = .ok (.aload_n 2, 1) := by decide +kernel
theorem d_LW_law_1462 : decode code 1462 = .ok (.invokevirtual 100, 3) := by decide +kernel
theorem d_LW_law_1465 : decode code 1465 = .ok (.iload 5, 2) := by decide +kernel
theorem d_LW_law_1467 : decode code 1467 = .ok (.if_icmp .eq 5, 3) := by decide +kernel
theorem d_LW_law_1470 : decode code 1470 = .ok (.iconst 0, 1) := by decide +kernel
theorem d_LW_law_1471 : decode code 1471 = .ok (.ireturn, 1) := by decide +kernel
theorem d_LW_law_1472 : decode code 1472 = .ok (.iload 5, 2) := by decide +kernel
theorem d_LW_law_1474 : decode code 1474 = .ok (.ifCond .ne 15, 3) := by decide +kernel
theorem d_LW_law_1477 : decode code 1477 = .ok (.aload_n 3, 1) := by decide +kernel
theorem d_LW_law_1478 : decode code 1478 = .ok (.iconst 0, 1) := by decide +kernel
theorem d_LW_law_1479 : decode code 1479 = .ok (.laload, 1) := by decide +kernel
theorem d_LW_law_1480 : decode code 1480 = .ok (.iload 6, 2) := by decide +kernel
theorem d_LW_law_1482 : decode code 1482 = .ok (.i2l, 1) := by decide +kernel
theorem d_LW_law_1483 : decode code 1483 = .ok (.lcmp, 1) := by decide +kernel
theorem d_LW_law_1484 : decode code 1484 = .ok (.ifCond .eq 5, 3) := by decide +kernel
theorem d_LW_law_1487 : decode code 1487 = .ok (.iconst 0, 1) := by decide +kernel
theorem d_LW_law_1488 : decode code 1488 = .ok (.ireturn, 1) := by decide +kernel
theorem d_LW_law_1489 : decode code 1489 = .ok (.goto 59, 3) := by decide +kernel
theorem d_LW_law_1492 : decode code 1492 = .ok (.aload_n 1, 1) := by decide +kernel
theorem d_LW_law_1493 : decode code 1493 = .ok (.aload_n 0, 1) := by decide +kernel
theorem d_LW_law_1494 : decode code 1494 = .ok (.iload 4, 2) := by decide +kernel
theorem d_LW_law_1496 : decode code 1496 = .ok (.iconst 1, 1) := by decide +kernel
theorem d_LW_law_1497 : decode code 1497 = .ok (.iadd, 1) := by decide +kernel
theorem d_LW_law_1498 : decode code 1498 = .ok (.iaload, 1) := by decide +kernel
theorem d_LW_law_1499 : decode code 1499 = .ok (.aload_n 3, 1) := by decide +kernel
theorem d_LW_law_1500 : decode code 1500 = .ok (.invokestatic 172, 3) := by decide +kernel
theorem d_LW_law_1503 : decode code 1503 = .ok (.istore 5, 2) := by decide +kernel
theorem d_LW_law_1505 : decode code 1505 = .ok (.aload_n 2, 1) := by decide +kernel
theorem d_LW_law_1506 : decode code 1506 = .ok (.aload_n 0, 1) := by decide +kernel
theorem d_LW_law_1507 : decode code 1507 = .ok (.iload 4, 2) := by decide +kernel
theorem d_LW_law_1509 : decode code 1509 = .ok (.iconst 1, 1) := by decide +kernel
theorem d_LW_law_1510 : decode code 1510 = .ok (.iadd, 1) := by decide +kernel
theorem d_LW_law_1511 : decode code 1511 = .ok (.iaload, 1) := by decide +kernel
theorem d_LW_law_1512 : decode code 1512 = .ok (.invokevirtual 174, 3) := by decide +kernel
theorem d_LW_law_1515 : decode code 1515 = .ok (.istore 6, 2) := by decide +kernel
theorem d_LW_law_1517 : decode code 1517 = .ok (.aload_n 2, 1) := by decide +kernel
theorem d_LW_law_1518 : decode code 1518 = .ok (.invokevirtual 100, 3) := by decide +kernel
theorem d_LW_law_1521 : decode code 1521 = .ok (.iload 5, 2) := by decide +kernel
theorem d_LW_law_1523 : decode code 1523 = .ok (.if_icmp .eq 5, 3) := by decide +kernel
theorem d_LW_law_1526 : decode code 1526 = .ok (.iconst 0, 1) := by decide +kernel
theorem d_LW_law_1527 : decode code 1527 = .ok (.ireturn, 1) := by decide +kernel
theorem d_LW_law_1528 : decode code 1528 = .ok (.iload 5, 2) := by decide +kernel
theorem d_LW_law_1530 : decode code 1530 = .ok (.ifCond .ne 15, 3) := by decide +kernel
theorem d_LW_law_1533 : decode code 1533 = .ok (.aload_n 3, 1) := by decide +kernel
theorem d_LW_law_1534 : decode code 1534 = .ok (.iconst 0, 1) := by decide +kernel
theorem d_LW_law_1535 : decode code 1535 = .ok (.laload, 1) := by decide +kernel
theorem d_LW_law_1536 : decode code 1536 = .ok (.iload 6, 2) := by decide +kernel
theorem d_LW_law_1538 : decode code 1538 = .ok (.i2l, 1) := by decide +kernel
theorem d_LW_law_1539 : decode code 1539 = .ok (.lcmp, 1) := by decide +kernel
theorem d_LW_law_1540 : decode code 1540 = .ok (.ifCond .eq 5, 3) := by decide +kernel
theorem d_LW_law_1543 : decode code 1543 = .ok (.iconst 0, 1) := by decide +kernel
theorem d_LW_law_1544 : decode code 1544 = .ok (.ireturn, 1) := by decide +kernel
theorem d_LW_law_1545 : decode code 1545 = .ok (.goto 3, 3) := by decide +kernel
theorem d_LW_law_1548 : decode code 1548 = .ok (.iinc 4 6, 3) := by decide +kernel
theorem d_LW_law_1551 : decode code 1551 = .ok (.goto (-1528), 3) := by decide +kernel
theorem d_LW_law_1554 : decode code 1554 = .ok (.iconst 1, 1) := by decide +kernel
theorem d_LW_law_1555 : decode code 1555 = .ok (.ireturn, 1) := by decide +kernel
