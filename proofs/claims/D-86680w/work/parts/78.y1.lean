set_option maxRecDepth 100000
set_option maxHeartbeats 4000000
theorem dX0_isIn_0 : decode cX0_isIn 0 = .ok (.iload_n 0, 1) := by decide +kernel
theorem dX0_isIn_1 : decode cX0_isIn 1 = .ok (.iload_n 1, 1) := by decide +kernel
theorem dX0_isIn_2 : decode cX0_isIn 2 = .ok (.if_icmp .lt 12, 3) := by decide +kernel
theorem dX0_isIn_5 : decode cX0_isIn 5 = .ok (.iload_n 0, 1) := by decide +kernel
theorem dX0_isIn_6 : decode cX0_isIn 6 = .ok (.iload_n 2, 1) := by decide +kernel
theorem dX0_isIn_7 : decode cX0_isIn 7 = .ok (.if_icmp .gt 7, 3) := by decide +kernel
theorem dX0_isIn_10 : decode cX0_isIn 10 = .ok (.iconst 1, 1) := by decide +kernel
theorem dX0_isIn_11 : decode cX0_isIn 11 = .ok (.goto 4, 3) := by decide +kernel
theorem dX0_isIn_14 : decode cX0_isIn 14 = .ok (.iconst 0, 1) := by decide +kernel
theorem dX0_isIn_15 : decode cX0_isIn 15 = .ok (.ireturn, 1) := by decide +kernel
theorem dX0_isNumber_0 : decode cX0_isNumber 0 = .ok (.lload_n 0, 1) := by decide +kernel
theorem dX0_isNumber_1 : decode cX0_isNumber 1 = .ok (.ldc2_w 98, 3) := by decide +kernel
theorem dX0_isNumber_4 : decode cX0_isNumber 4 = .ok (.land, 1) := by decide +kernel
theorem dX0_isNumber_5 : decode cX0_isNumber 5 = .ok (.ldc2_w 100, 3) := by decide +kernel
theorem dX0_isNumber_8 : decode cX0_isNumber 8 = .ok (.lcmp, 1) := by decide +kernel
theorem dX0_isNumber_9 : decode cX0_isNumber 9 = .ok (.ifCond .gt 7, 3) := by decide +kernel
theorem dX0_isNumber_12 : decode cX0_isNumber 12 = .ok (.iconst 1, 1) := by decide +kernel
theorem dX0_isNumber_13 : decode cX0_isNumber 13 = .ok (.goto 4, 3) := by decide +kernel
theorem dX0_isNumber_16 : decode cX0_isNumber 16 = .ok (.iconst 0, 1) := by decide +kernel
theorem dX0_isNumber_17 : decode cX0_isNumber 17 = .ok (.ireturn, 1) := by decide +kernel
theorem dX0_isWithin_0 : decode cX0_isWithin 0 = .ok (.lload_n 0, 1) := by decide +kernel
theorem dX0_isWithin_1 : decode cX0_isWithin 1 = .ok (.invokestatic 102, 3) := by decide +kernel
theorem dX0_isWithin_4 : decode cX0_isWithin 4 = .ok (.ifCond .ne 5, 3) := by decide +kernel
theorem dX0_isWithin_7 : decode cX0_isWithin 7 = .ok (.iconst 0, 1) := by decide +kernel
theorem dX0_isWithin_8 : decode cX0_isWithin 8 = .ok (.ireturn, 1) := by decide +kernel
theorem dX0_isWithin_9 : decode cX0_isWithin 9 = .ok (.lload_n 0, 1) := by decide +kernel
theorem dX0_isWithin_10 : decode cX0_isWithin 10 = .ok (.invokestatic 106, 3) := by decide +kernel
theorem dX0_isWithin_13 : decode cX0_isWithin 13 = .ok (.dstore 6, 2) := by decide +kernel
theorem dX0_isWithin_15 : decode cX0_isWithin 15 = .ok (.dload 6, 2) := by decide +kernel
theorem dX0_isWithin_17 : decode cX0_isWithin 17 = .ok (.dload_n 2, 1) := by decide +kernel
theorem dX0_isWithin_18 : decode cX0_isWithin 18 = .ok (.dcmp .l, 1) := by decide +kernel
theorem dX0_isWithin_19 : decode cX0_isWithin 19 = .ok (.ifCond .lt 15, 3) := by decide +kernel
theorem dX0_isWithin_22 : decode cX0_isWithin 22 = .ok (.dload 6, 2) := by decide +kernel
theorem dX0_isWithin_24 : decode cX0_isWithin 24 = .ok (.dload 4, 2) := by decide +kernel
theorem dX0_isWithin_26 : decode cX0_isWithin 26 = .ok (.dcmp .g, 1) := by decide +kernel
theorem dX0_isWithin_27 : decode cX0_isWithin 27 = .ok (.ifCond .gt 7, 3) := by decide +kernel
theorem dX0_isWithin_30 : decode cX0_isWithin 30 = .ok (.iconst 1, 1) := by decide +kernel
theorem dX0_isWithin_31 : decode cX0_isWithin 31 = .ok (.goto 4, 3) := by decide +kernel
theorem dX0_isWithin_34 : decode cX0_isWithin 34 = .ok (.iconst 0, 1) := by decide +kernel
theorem dX0_isWithin_35 : decode cX0_isWithin 35 = .ok (.ireturn, 1) := by decide +kernel
theorem dX0_isModule_0 : decode cX0_isModule 0 = .ok (.iload_n 1, 1) := by decide +kernel
theorem dX0_isModule_1 : decode cX0_isModule 1 = .ok (.iconst 0, 1) := by decide +kernel
theorem dX0_isModule_2 : decode cX0_isModule 2 = .ok (.aload_n 0, 1) := by decide +kernel
theorem dX0_isModule_3 : decode cX0_isModule 3 = .ok (.getfield 91, 3) := by decide +kernel
theorem dX0_isModule_6 : decode cX0_isModule 6 = .ok (.iconst 1, 1) := by decide +kernel
theorem dX0_isModule_7 : decode cX0_isModule 7 = .ok (.isub, 1) := by decide +kernel
theorem dX0_isModule_8 : decode cX0_isModule 8 = .ok (.invokestatic 94, 3) := by decide +kernel
theorem dX0_isModule_11 : decode cX0_isModule 11 = .ok (.ireturn, 1) := by decide +kernel
theorem dX0_isStrip_0 : decode cX0_isStrip 0 = .ok (.iload_n 1, 1) := by decide +kernel
theorem dX0_isStrip_1 : decode cX0_isStrip 1 = .ok (.iconst 0, 1) := by decide +kernel
theorem dX0_isStrip_2 : decode cX0_isStrip 2 = .ok (.aload_n 0, 1) := by decide +kernel
theorem dX0_isStrip_3 : decode cX0_isStrip 3 = .ok (.getfield 249, 3) := by decide +kernel
theorem dX0_isStrip_6 : decode cX0_isStrip 6 = .ok (.iconst 1, 1) := by decide +kernel
theorem dX0_isStrip_7 : decode cX0_isStrip 7 = .ok (.isub, 1) := by decide +kernel
theorem dX0_isStrip_8 : decode cX0_isStrip 8 = .ok (.invokestatic 94, 3) := by decide +kernel
theorem dX0_isStrip_11 : decode cX0_isStrip 11 = .ok (.ireturn, 1) := by decide +kernel
theorem dX0_isRead_0 : decode cX0_isRead 0 = .ok (.aload_n 0, 1) := by decide +kernel
theorem dX0_isRead_1 : decode cX0_isRead 1 = .ok (.getfield 88, 3) := by decide +kernel
theorem dX0_isRead_4 : decode cX0_isRead 4 = .ok (.ifCond .eq 15, 3) := by decide +kernel
theorem dX0_isRead_7 : decode cX0_isRead 7 = .ok (.aload_n 0, 1) := by decide +kernel
theorem dX0_isRead_8 : decode cX0_isRead 8 = .ok (.iload_n 1, 1) := by decide +kernel
theorem dX0_isRead_9 : decode cX0_isRead 9 = .ok (.invokevirtual 138, 3) := by decide +kernel
theorem dX0_isRead_12 : decode cX0_isRead 12 = .ok (.ifCond .eq 7, 3) := by decide +kernel
theorem dX0_isRead_15 : decode cX0_isRead 15 = .ok (.iconst 1, 1) := by decide +kernel
theorem dX0_isRead_16 : decode cX0_isRead 16 = .ok (.goto 4, 3) := by decide +kernel
theorem dX0_isRead_19 : decode cX0_isRead 19 = .ok (.iconst 0, 1) := by decide +kernel
theorem dX0_isRead_20 : decode cX0_isRead 20 = .ok (.ireturn, 1) := by decide +kernel
theorem dX0_rule_0 : decode cX0_rule 0 = .ok (.iload_n 1, 1) := by decide +kernel
theorem dX0_rule_1 : decode cX0_rule 1 = .ok (.iconst 0, 1) := by decide +kernel
theorem dX0_rule_2 : decode cX0_rule 2 = .ok (.iconst 2, 1) := by decide +kernel
theorem dX0_rule_3 : decode cX0_rule 3 = .ok (.invokestatic 94, 3) := by decide +kernel
theorem dX0_rule_6 : decode cX0_rule 6 = .ok (.ifCond .eq 13, 3) := by decide +kernel
theorem dX0_rule_9 : decode cX0_rule 9 = .ok (.iload_n 2, 1) := by decide +kernel
theorem dX0_rule_10 : decode cX0_rule 10 = .ok (.iconst 1, 1) := by decide +kernel
theorem dX0_rule_11 : decode cX0_rule 11 = .ok (.bipush 20, 2) := by decide +kernel
theorem dX0_rule_13 : decode cX0_rule 13 = .ok (.invokestatic 94, 3) := by decide +kernel
theorem dX0_rule_16 : decode cX0_rule 16 = .ok (.ifCond .ne 6, 3) := by decide +kernel
theorem dX0_rule_19 : decode cX0_rule 19 = .ok (.bipush (-102), 2) := by decide +kernel
theorem dX0_rule_21 : decode cX0_rule 21 = .ok (.ireturn, 1) := by decide +kernel
theorem dX0_rule_22 : decode cX0_rule 22 = .ok (.aload_n 0, 1) := by decide +kernel
theorem dX0_rule_23 : decode cX0_rule 23 = .ok (.getfield 88, 3) := by decide +kernel
theorem dX0_rule_26 : decode cX0_rule 26 = .ok (.ifCond .eq 6, 3) := by decide +kernel
theorem dX0_rule_29 : decode cX0_rule 29 = .ok (.bipush (-103), 2) := by decide +kernel
theorem dX0_rule_31 : decode cX0_rule 31 = .ok (.ireturn, 1) := by decide +kernel
theorem dX0_rule_32 : decode cX0_rule 32 = .ok (.aload_n 0, 1) := by decide +kernel
theorem dX0_rule_33 : decode cX0_rule 33 = .ok (.iload_n 1, 1) := by decide +kernel
theorem dX0_rule_34 : decode cX0_rule 34 = .ok (.putfield 174, 3) := by decide +kernel
theorem dX0_rule_37 : decode cX0_rule 37 = .ok (.aload_n 0, 1) := by decide +kernel
theorem dX0_rule_38 : decode cX0_rule 38 = .ok (.iload_n 2, 1) := by decide +kernel
theorem dX0_rule_39 : decode cX0_rule 39 = .ok (.putfield 59, 3) := by decide +kernel
theorem dX0_rule_42 : decode cX0_rule 42 = .ok (.iconst 1, 1) := by decide +kernel
theorem dX0_rule_43 : decode cX0_rule 43 = .ok (.ireturn, 1) := by decide +kernel
theorem dX0_broken_0 : decode cX0_broken 0 = .ok (.aload_n 0, 1) := by decide +kernel
theorem dX0_broken_1 : decode cX0_broken 1 = .ok (.getfield 185, 3) := by decide +kernel
theorem dX0_broken_4 : decode cX0_broken 4 = .ok (.ireturn, 1) := by decide +kernel
theorem dX0_now_0 : decode cX0_now 0 = .ok (.aload_n 0, 1) := by decide +kernel
theorem dX0_now_1 : decode cX0_now 1 = .ok (.getfield 88, 3) := by decide +kernel
theorem dX0_now_4 : decode cX0_now 4 = .ok (.ireturn, 1) := by decide +kernel
theorem dX0_time_0 : decode cX0_time 0 = .ok (.aload_n 0, 1) := by decide +kernel
theorem dX0_time_1 : decode cX0_time 1 = .ok (.getfield 208, 3) := by decide +kernel
theorem dX0_time_4 : decode cX0_time 4 = .ok (.ireturn, 1) := by decide +kernel
theorem dX0_fail_0 : decode cX0_fail 0 = .ok (.aload_n 0, 1) := by decide +kernel
theorem dX0_fail_1 : decode cX0_fail 1 = .ok (.iload_n 1, 1) := by decide +kernel
theorem dX0_fail_2 : decode cX0_fail 2 = .ok (.invokevirtual 138, 3) := by decide +kernel
theorem dX0_fail_5 : decode cX0_fail 5 = .ok (.ifCond .ne 6, 3) := by decide +kernel
theorem dX0_fail_8 : decode cX0_fail 8 = .ok (.bipush (-101), 2) := by decide +kernel
theorem dX0_fail_10 : decode cX0_fail 10 = .ok (.ireturn, 1) := by decide +kernel
theorem dX0_fail_11 : decode cX0_fail 11 = .ok (.iload_n 2, 1) := by decide +kernel
theorem dX0_fail_12 : decode cX0_fail 12 = .ok (.iconst 0, 1) := by decide +kernel
theorem dX0_fail_13 : decode cX0_fail 13 = .ok (.sipush 300, 3) := by decide +kernel
theorem dX0_fail_16 : decode cX0_fail 16 = .ok (.invokestatic 94, 3) := by decide +kernel
theorem dX0_fail_19 : decode cX0_fail 19 = .ok (.ifCond .ne 6, 3) := by decide +kernel
theorem dX0_fail_22 : decode cX0_fail 22 = .ok (.bipush (-102), 2) := by decide +kernel
theorem dX0_fail_24 : decode cX0_fail 24 = .ok (.ireturn, 1) := by decide +kernel
theorem dX0_fail_25 : decode cX0_fail 25 = .ok (.aload_n 0, 1) := by decide +kernel
theorem dX0_fail_26 : decode cX0_fail 26 = .ok (.getfield 55, 3) := by decide +kernel
theorem dX0_fail_29 : decode cX0_fail 29 = .ok (.iload_n 1, 1) := by decide +kernel
theorem dX0_fail_30 : decode cX0_fail 30 = .ok (.aaload, 1) := by decide +kernel
theorem dX0_fail_31 : decode cX0_fail 31 = .ok (.iload_n 2, 1) := by decide +kernel
theorem dX0_fail_32 : decode cX0_fail 32 = .ok (.putfield 267, 3) := by decide +kernel
theorem dX0_fail_35 : decode cX0_fail 35 = .ok (.iconst 1, 1) := by decide +kernel
theorem dX0_fail_36 : decode cX0_fail 36 = .ok (.ireturn, 1) := by decide +kernel
theorem dX0_reading_0 : decode cX0_reading 0 = .ok (.aload_n 0, 1) := by decide +kernel
theorem dX0_reading_1 : decode cX0_reading 1 = .ok (.iload_n 1, 1) := by decide +kernel
theorem dX0_reading_2 : decode cX0_reading 2 = .ok (.invokevirtual 285, 3) := by decide +kernel
theorem dX0_reading_5 : decode cX0_reading 5 = .ok (.ifCond .eq 18, 3) := by decide +kernel
theorem dX0_reading_8 : decode cX0_reading 8 = .ok (.aload_n 0, 1) := by decide +kernel
theorem dX0_reading_9 : decode cX0_reading 9 = .ok (.getfield 55, 3) := by decide +kernel
theorem dX0_reading_12 : decode cX0_reading 12 = .ok (.iload_n 1, 1) := by decide +kernel
theorem dX0_reading_13 : decode cX0_reading 13 = .ok (.aaload, 1) := by decide +kernel
theorem dX0_reading_14 : decode cX0_reading 14 = .ok (.getfield 252, 3) := by decide +kernel
theorem dX0_reading_17 : decode cX0_reading 17 = .ok (.invokestatic 288, 3) := by decide +kernel
theorem dX0_reading_20 : decode cX0_reading 20 = .ok (.goto 4, 3) := by decide +kernel
theorem dX0_reading_23 : decode cX0_reading 23 = .ok (.lconst 0, 1) := by decide +kernel
theorem dX0_reading_24 : decode cX0_reading 24 = .ok (.lreturn, 1) := by decide +kernel
theorem dX0_single_0 : decode cX0_single 0 = .ok (.aload_n 0, 1) := by decide +kernel
theorem dX0_single_1 : decode cX0_single 1 = .ok (.iload_n 1, 1) := by decide +kernel
theorem dX0_single_2 : decode cX0_single 2 = .ok (.invokevirtual 285, 3) := by decide +kernel
theorem dX0_single_5 : decode cX0_single 5 = .ok (.ifCond .eq 18, 3) := by decide +kernel
theorem dX0_single_8 : decode cX0_single 8 = .ok (.aload_n 0, 1) := by decide +kernel
theorem dX0_single_9 : decode cX0_single 9 = .ok (.getfield 55, 3) := by decide +kernel
theorem dX0_single_12 : decode cX0_single 12 = .ok (.iload_n 1, 1) := by decide +kernel
theorem dX0_single_13 : decode cX0_single 13 = .ok (.aaload, 1) := by decide +kernel
theorem dX0_single_14 : decode cX0_single 14 = .ok (.getfield 292, 3) := by decide +kernel
theorem dX0_single_17 : decode cX0_single 17 = .ok (.invokestatic 296, 3) := by decide +kernel
theorem dX0_single_20 : decode cX0_single 20 = .ok (.goto 4, 3) := by decide +kernel
theorem dX0_single_23 : decode cX0_single 23 = .ok (.iconst 0, 1) := by decide +kernel
theorem dX0_single_24 : decode cX0_single 24 = .ok (.ireturn, 1) := by decide +kernel
theorem dX0_lamp_0 : decode cX0_lamp 0 = .ok (.aload_n 0, 1) := by decide +kernel
theorem dX0_lamp_1 : decode cX0_lamp 1 = .ok (.iload_n 1, 1) := by decide +kernel
theorem dX0_lamp_2 : decode cX0_lamp 2 = .ok (.invokevirtual 138, 3) := by decide +kernel
theorem dX0_lamp_5 : decode cX0_lamp 5 = .ok (.ifCond .eq 15, 3) := by decide +kernel
theorem dX0_lamp_8 : decode cX0_lamp 8 = .ok (.aload_n 0, 1) := by decide +kernel
theorem dX0_lamp_9 : decode cX0_lamp 9 = .ok (.getfield 55, 3) := by decide +kernel
theorem dX0_lamp_12 : decode cX0_lamp 12 = .ok (.iload_n 1, 1) := by decide +kernel
theorem dX0_lamp_13 : decode cX0_lamp 13 = .ok (.aaload, 1) := by decide +kernel
theorem dX0_lamp_14 : decode cX0_lamp 14 = .ok (.getfield 302, 3) := by decide +kernel
theorem dX0_lamp_17 : decode cX0_lamp 17 = .ok (.goto 5, 3) := by decide +kernel
theorem dX0_lamp_20 : decode cX0_lamp 20 = .ok (.bipush (-101), 2) := by decide +kernel
theorem dX0_lamp_22 : decode cX0_lamp 22 = .ok (.ireturn, 1) := by decide +kernel
theorem dX0_apart_0 : decode cX0_apart 0 = .ok (.aload_n 0, 1) := by decide +kernel
theorem dX0_apart_1 : decode cX0_apart 1 = .ok (.iload_n 1, 1) := by decide +kernel
theorem dX0_apart_2 : decode cX0_apart 2 = .ok (.invokevirtual 285, 3) := by decide +kernel
theorem dX0_apart_5 : decode cX0_apart 5 = .ok (.ifCond .eq 18, 3) := by decide +kernel
theorem dX0_apart_8 : decode cX0_apart 8 = .ok (.aload_n 0, 1) := by decide +kernel
theorem dX0_apart_9 : decode cX0_apart 9 = .ok (.getfield 55, 3) := by decide +kernel
theorem dX0_apart_12 : decode cX0_apart 12 = .ok (.iload_n 1, 1) := by decide +kernel
theorem dX0_apart_13 : decode cX0_apart 13 = .ok (.aaload, 1) := by decide +kernel
theorem dX0_apart_14 : decode cX0_apart 14 = .ok (.getfield 305, 3) := by decide +kernel
theorem dX0_apart_17 : decode cX0_apart 17 = .ok (.invokestatic 288, 3) := by decide +kernel
theorem dX0_apart_20 : decode cX0_apart 20 = .ok (.goto 4, 3) := by decide +kernel
theorem dX0_apart_23 : decode cX0_apart 23 = .ok (.lconst 0, 1) := by decide +kernel
theorem dX0_apart_24 : decode cX0_apart 24 = .ok (.lreturn, 1) := by decide +kernel
theorem dX0_rate_0 : decode cX0_rate 0 = .ok (.aload_n 0, 1) := by decide +kernel
theorem dX0_rate_1 : decode cX0_rate 1 = .ok (.iload_n 1, 1) := by decide +kernel
theorem dX0_rate_2 : decode cX0_rate 2 = .ok (.invokevirtual 285, 3) := by decide +kernel
theorem dX0_rate_5 : decode cX0_rate 5 = .ok (.ifCond .eq 34, 3) := by decide +kernel
theorem dX0_rate_8 : decode cX0_rate 8 = .ok (.aload_n 0, 1) := by decide +kernel
theorem dX0_rate_9 : decode cX0_rate 9 = .ok (.getfield 55, 3) := by decide +kernel
theorem dX0_rate_12 : decode cX0_rate 12 = .ok (.iload_n 1, 1) := by decide +kernel
theorem dX0_rate_13 : decode cX0_rate 13 = .ok (.aaload, 1) := by decide +kernel
theorem dX0_rate_14 : decode cX0_rate 14 = .ok (.getfield 151, 3) := by decide +kernel
theorem dX0_rate_17 : decode cX0_rate 17 = .ok (.iconst 2, 1) := by decide +kernel
theorem dX0_rate_18 : decode cX0_rate 18 = .ok (.if_icmp .ne 21, 3) := by decide +kernel
theorem dX0_rate_21 : decode cX0_rate 21 = .ok (.aload_n 0, 1) := by decide +kernel
theorem dX0_rate_22 : decode cX0_rate 22 = .ok (.getfield 55, 3) := by decide +kernel
theorem dX0_rate_25 : decode cX0_rate 25 = .ok (.iload_n 1, 1) := by decide +kernel
theorem dX0_rate_26 : decode cX0_rate 26 = .ok (.aaload, 1) := by decide +kernel
theorem dX0_rate_27 : decode cX0_rate 27 = .ok (.checkcast 10, 3) := by decide +kernel
theorem dX0_rate_30 : decode cX0_rate 30 = .ok (.getfield 261, 3) := by decide +kernel
theorem dX0_rate_33 : decode cX0_rate 33 = .ok (.invokestatic 288, 3) := by decide +kernel
theorem dX0_rate_36 : decode cX0_rate 36 = .ok (.goto 4, 3) := by decide +kernel
theorem dX0_rate_39 : decode cX0_rate 39 = .ok (.lconst 0, 1) := by decide +kernel
theorem dX0_rate_40 : decode cX0_rate 40 = .ok (.lreturn, 1) := by decide +kernel
theorem dX0_strip_0 : decode cX0_strip 0 = .ok (.aload_n 0, 1) := by decide +kernel
theorem dX0_strip_1 : decode cX0_strip 1 = .ok (.iload_n 1, 1) := by decide +kernel
theorem dX0_strip_2 : decode cX0_strip 2 = .ok (.invokevirtual 138, 3) := by decide +kernel
theorem dX0_strip_5 : decode cX0_strip 5 = .ok (.ifCond .ne 6, 3) := by decide +kernel
theorem dX0_strip_8 : decode cX0_strip 8 = .ok (.bipush (-101), 2) := by decide +kernel
theorem dX0_strip_10 : decode cX0_strip 10 = .ok (.ireturn, 1) := by decide +kernel
theorem dX0_strip_11 : decode cX0_strip 11 = .ok (.aload_n 0, 1) := by decide +kernel
theorem dX0_strip_12 : decode cX0_strip 12 = .ok (.getfield 88, 3) := by decide +kernel
theorem dX0_strip_15 : decode cX0_strip 15 = .ok (.ifCond .eq 6, 3) := by decide +kernel
theorem dX0_strip_18 : decode cX0_strip 18 = .ok (.bipush (-103), 2) := by decide +kernel
theorem dX0_strip_20 : decode cX0_strip 20 = .ok (.ireturn, 1) := by decide +kernel
theorem dX0_strip_21 : decode cX0_strip 21 = .ok (.aload_n 0, 1) := by decide +kernel
theorem dX0_strip_22 : decode cX0_strip 22 = .ok (.getfield 249, 3) := by decide +kernel
theorem dX0_strip_25 : decode cX0_strip 25 = .ok (.bipush 6, 2) := by decide +kernel
theorem dX0_strip_27 : decode cX0_strip 27 = .ok (.if_icmp .ne 6, 3) := by decide +kernel
theorem dX0_strip_30 : decode cX0_strip 30 = .ok (.bipush (-104), 2) := by decide +kernel
theorem dX0_strip_32 : decode cX0_strip 32 = .ok (.ireturn, 1) := by decide +kernel
theorem dX0_strip_33 : decode cX0_strip 33 = .ok (.aload_n 0, 1) := by decide +kernel
theorem dX0_strip_34 : decode cX0_strip 34 = .ok (.getfield 63, 3) := by decide +kernel
theorem dX0_strip_37 : decode cX0_strip 37 = .ok (.aload_n 0, 1) := by decide +kernel
theorem dX0_strip_38 : decode cX0_strip 38 = .ok (.getfield 249, 3) := by decide +kernel
theorem dX0_strip_41 : decode cX0_strip 41 = .ok (.iload_n 1, 1) := by decide +kernel
theorem dX0_strip_42 : decode cX0_strip 42 = .ok (.iastore, 1) := by decide +kernel
theorem dX0_strip_43 : decode cX0_strip 43 = .ok (.aload_n 0, 1) := by decide +kernel
theorem dX0_strip_44 : decode cX0_strip 44 = .ok (.getfield 71, 3) := by decide +kernel
theorem dX0_strip_47 : decode cX0_strip 47 = .ok (.aload_n 0, 1) := by decide +kernel
theorem dX0_strip_48 : decode cX0_strip 48 = .ok (.getfield 249, 3) := by decide +kernel
theorem dX0_strip_51 : decode cX0_strip 51 = .ok (.iconst 0, 1) := by decide +kernel
theorem dX0_strip_52 : decode cX0_strip 52 = .ok (.iastore, 1) := by decide +kernel
theorem dX0_strip_53 : decode cX0_strip 53 = .ok (.aload_n 0, 1) := by decide +kernel
theorem dX0_strip_54 : decode cX0_strip 54 = .ok (.dup, 1) := by decide +kernel
theorem dX0_strip_55 : decode cX0_strip 55 = .ok (.getfield 249, 3) := by decide +kernel
theorem dX0_strip_58 : decode cX0_strip 58 = .ok (.iconst 1, 1) := by decide +kernel
theorem dX0_strip_59 : decode cX0_strip 59 = .ok (.iadd, 1) := by decide +kernel
theorem dX0_strip_60 : decode cX0_strip 60 = .ok (.putfield 249, 3) := by decide +kernel
theorem dX0_strip_63 : decode cX0_strip 63 = .ok (.aload_n 0, 1) := by decide +kernel
theorem dX0_strip_64 : decode cX0_strip 64 = .ok (.getfield 249, 3) := by decide +kernel
theorem dX0_strip_67 : decode cX0_strip 67 = .ok (.iconst 1, 1) := by decide +kernel
theorem dX0_strip_68 : decode cX0_strip 68 = .ok (.isub, 1) := by decide +kernel
theorem dX0_strip_69 : decode cX0_strip 69 = .ok (.ireturn, 1) := by decide +kernel
theorem dX0_samples_0 : decode cX0_samples 0 = .ok (.aload_n 0, 1) := by decide +kernel
theorem dX0_samples_1 : decode cX0_samples 1 = .ok (.iload_n 1, 1) := by decide +kernel
theorem dX0_samples_2 : decode cX0_samples 2 = .ok (.invokevirtual 308, 3) := by decide +kernel
theorem dX0_samples_5 : decode cX0_samples 5 = .ok (.ifCond .eq 12, 3) := by decide +kernel
theorem dX0_samples_8 : decode cX0_samples 8 = .ok (.aload_n 0, 1) := by decide +kernel
theorem dX0_samples_9 : decode cX0_samples 9 = .ok (.getfield 71, 3) := by decide +kernel
theorem dX0_samples_12 : decode cX0_samples 12 = .ok (.iload_n 1, 1) := by decide +kernel
theorem dX0_samples_13 : decode cX0_samples 13 = .ok (.iaload, 1) := by decide +kernel
theorem dX0_samples_14 : decode cX0_samples 14 = .ok (.goto 5, 3) := by decide +kernel
theorem dX0_samples_17 : decode cX0_samples 17 = .ok (.bipush (-101), 2) := by decide +kernel
theorem dX0_samples_19 : decode cX0_samples 19 = .ok (.ireturn, 1) := by decide +kernel
theorem dX0_sample_2_0 : decode cX0_sample_2 0 = .ok (.aload_n 0, 1) := by decide +kernel
theorem dX0_sample_2_1 : decode cX0_sample_2 1 = .ok (.iload_n 1, 1) := by decide +kernel
theorem dX0_sample_2_2 : decode cX0_sample_2 2 = .ok (.invokevirtual 308, 3) := by decide +kernel
theorem dX0_sample_2_5 : decode cX0_sample_2 5 = .ok (.ifCond .eq 36, 3) := by decide +kernel
theorem dX0_sample_2_8 : decode cX0_sample_2 8 = .ok (.iload_n 2, 1) := by decide +kernel
theorem dX0_sample_2_9 : decode cX0_sample_2 9 = .ok (.iconst 0, 1) := by decide +kernel
theorem dX0_sample_2_10 : decode cX0_sample_2 10 = .ok (.aload_n 0, 1) := by decide +kernel
theorem dX0_sample_2_11 : decode cX0_sample_2 11 = .ok (.getfield 71, 3) := by decide +kernel
theorem dX0_sample_2_14 : decode cX0_sample_2 14 = .ok (.iload_n 1, 1) := by decide +kernel
theorem dX0_sample_2_15 : decode cX0_sample_2 15 = .ok (.iaload, 1) := by decide +kernel
theorem dX0_sample_2_16 : decode cX0_sample_2 16 = .ok (.iconst 1, 1) := by decide +kernel
theorem dX0_sample_2_17 : decode cX0_sample_2 17 = .ok (.isub, 1) := by decide +kernel
theorem dX0_sample_2_18 : decode cX0_sample_2 18 = .ok (.invokestatic 94, 3) := by decide +kernel
theorem dX0_sample_2_21 : decode cX0_sample_2 21 = .ok (.ifCond .eq 20, 3) := by decide +kernel
theorem dX0_sample_2_24 : decode cX0_sample_2 24 = .ok (.aload_n 0, 1) := by decide +kernel
theorem dX0_sample_2_25 : decode cX0_sample_2 25 = .ok (.getfield 67, 3) := by decide +kernel
theorem dX0_sample_2_28 : decode cX0_sample_2 28 = .ok (.bipush 120, 2) := by decide +kernel
theorem dX0_sample_2_30 : decode cX0_sample_2 30 = .ok (.iload_n 1, 1) := by decide +kernel
theorem dX0_sample_2_31 : decode cX0_sample_2 31 = .ok (.imul, 1) := by decide +kernel
theorem dX0_sample_2_32 : decode cX0_sample_2 32 = .ok (.iload_n 2, 1) := by decide +kernel
theorem dX0_sample_2_33 : decode cX0_sample_2 33 = .ok (.iadd, 1) := by decide +kernel
theorem dX0_sample_2_34 : decode cX0_sample_2 34 = .ok (.daload, 1) := by decide +kernel
theorem dX0_sample_2_35 : decode cX0_sample_2 35 = .ok (.invokestatic 288, 3) := by decide +kernel
theorem dX0_sample_2_38 : decode cX0_sample_2 38 = .ok (.goto 4, 3) := by decide +kernel
theorem dX0_sample_2_41 : decode cX0_sample_2 41 = .ok (.lconst 0, 1) := by decide +kernel
theorem dX0_sample_2_42 : decode cX0_sample_2 42 = .ok (.lreturn, 1) := by decide +kernel
theorem dX0_swept_0 : decode cX0_swept 0 = .ok (.iload_n 1, 1) := by decide +kernel
theorem dX0_swept_1 : decode cX0_swept 1 = .ok (.iconst 0, 1) := by decide +kernel
theorem dX0_swept_2 : decode cX0_swept 2 = .ok (.aload_n 0, 1) := by decide +kernel
theorem dX0_swept_3 : decode cX0_swept 3 = .ok (.getfield 327, 3) := by decide +kernel
theorem dX0_swept_6 : decode cX0_swept 6 = .ok (.iconst 1, 1) := by decide +kernel
theorem dX0_swept_7 : decode cX0_swept 7 = .ok (.isub, 1) := by decide +kernel
theorem dX0_swept_8 : decode cX0_swept 8 = .ok (.invokestatic 94, 3) := by decide +kernel
theorem dX0_swept_11 : decode cX0_swept 11 = .ok (.ifCond .eq 12, 3) := by decide +kernel
theorem dX0_swept_14 : decode cX0_swept 14 = .ok (.aload_n 0, 1) := by decide +kernel
theorem dX0_swept_15 : decode cX0_swept 15 = .ok (.getfield 74, 3) := by decide +kernel
theorem dX0_swept_18 : decode cX0_swept 18 = .ok (.iload_n 1, 1) := by decide +kernel
theorem dX0_swept_19 : decode cX0_swept 19 = .ok (.laload, 1) := by decide +kernel
theorem dX0_swept_20 : decode cX0_swept 20 = .ok (.goto 4, 3) := by decide +kernel
theorem dX0_swept_23 : decode cX0_swept 23 = .ok (.lconst 0, 1) := by decide +kernel
theorem dX0_swept_24 : decode cX0_swept 24 = .ok (.lreturn, 1) := by decide +kernel
theorem dX0_crossing_0 : decode cX0_crossing 0 = .ok (.aload_n 0, 1) := by decide +kernel
theorem dX0_crossing_1 : decode cX0_crossing 1 = .ok (.iload_n 1, 1) := by decide +kernel
theorem dX0_crossing_2 : decode cX0_crossing 2 = .ok (.invokevirtual 308, 3) := by decide +kernel
theorem dX0_crossing_5 : decode cX0_crossing 5 = .ok (.ifCond .ne 6, 3) := by decide +kernel
theorem dX0_crossing_8 : decode cX0_crossing 8 = .ok (.bipush (-101), 2) := by decide +kernel
theorem dX0_crossing_10 : decode cX0_crossing 10 = .ok (.ireturn, 1) := by decide +kernel
theorem dX0_crossing_11 : decode cX0_crossing 11 = .ok (.iconst 0, 1) := by decide +kernel
theorem dX0_crossing_12 : decode cX0_crossing 12 = .ok (.istore_n 3, 1) := by decide +kernel
theorem dX0_crossing_13 : decode cX0_crossing 13 = .ok (.iconst 1, 1) := by decide +kernel
theorem dX0_crossing_14 : decode cX0_crossing 14 = .ok (.istore 4, 2) := by decide +kernel
theorem dX0_crossing_16 : decode cX0_crossing 16 = .ok (.iload 4, 2) := by decide +kernel
theorem dX0_crossing_18 : decode cX0_crossing 18 = .ok (.aload_n 0, 1) := by decide +kernel
theorem dX0_crossing_19 : decode cX0_crossing 19 = .ok (.getfield 71, 3) := by decide +kernel
theorem dX0_crossing_22 : decode cX0_crossing 22 = .ok (.iload_n 1, 1) := by decide +kernel
theorem dX0_crossing_23 : decode cX0_crossing 23 = .ok (.iaload, 1) := by decide +kernel
theorem dX0_crossing_24 : decode cX0_crossing 24 = .ok (.if_icmp .ge 69, 3) := by decide +kernel
theorem dX0_crossing_27 : decode cX0_crossing 27 = .ok (.aload_n 0, 1) := by decide +kernel
theorem dX0_crossing_28 : decode cX0_crossing 28 = .ok (.getfield 67, 3) := by decide +kernel
theorem dX0_crossing_31 : decode cX0_crossing 31 = .ok (.bipush 120, 2) := by decide +kernel
theorem dX0_crossing_33 : decode cX0_crossing 33 = .ok (.iload_n 1, 1) := by decide +kernel
theorem dX0_crossing_34 : decode cX0_crossing 34 = .ok (.imul, 1) := by decide +kernel
theorem dX0_crossing_35 : decode cX0_crossing 35 = .ok (.iload 4, 2) := by decide +kernel
theorem dX0_crossing_37 : decode cX0_crossing 37 = .ok (.iadd, 1) := by decide +kernel
theorem dX0_crossing_38 : decode cX0_crossing 38 = .ok (.daload, 1) := by decide +kernel
theorem dX0_crossing_39 : decode cX0_crossing 39 = .ok (.dconst 0, 1) := by decide +kernel
theorem dX0_crossing_40 : decode cX0_crossing 40 = .ok (.dcmp .l, 1) := by decide +kernel
theorem dX0_crossing_41 : decode cX0_crossing 41 = .ok (.ifCond .le 7, 3) := by decide +kernel
theorem dX0_crossing_44 : decode cX0_crossing 44 = .ok (.iconst 1, 1) := by decide +kernel
theorem dX0_crossing_45 : decode cX0_crossing 45 = .ok (.goto 4, 3) := by decide +kernel
theorem dX0_crossing_48 : decode cX0_crossing 48 = .ok (.iconst 0, 1) := by decide +kernel
theorem dX0_crossing_49 : decode cX0_crossing 49 = .ok (.aload_n 0, 1) := by decide +kernel
theorem dX0_crossing_50 : decode cX0_crossing 50 = .ok (.getfield 67, 3) := by decide +kernel
theorem dX0_crossing_53 : decode cX0_crossing 53 = .ok (.bipush 120, 2) := by decide +kernel
theorem dX0_crossing_55 : decode cX0_crossing 55 = .ok (.iload_n 1, 1) := by decide +kernel
theorem dX0_crossing_56 : decode cX0_crossing 56 = .ok (.imul, 1) := by decide +kernel
theorem dX0_crossing_57 : decode cX0_crossing 57 = .ok (.iload 4, 2) := by decide +kernel
theorem dX0_crossing_59 : decode cX0_crossing 59 = .ok (.iadd, 1) := by decide +kernel
theorem dX0_crossing_60 : decode cX0_crossing 60 = .ok (.iconst 1, 1) := by decide +kernel
theorem dX0_crossing_61 : decode cX0_crossing 61 = .ok (.isub, 1) := by decide +kernel
theorem dX0_crossing_62 : decode cX0_crossing 62 = .ok (.daload, 1) := by decide +kernel
theorem dX0_crossing_63 : decode cX0_crossing 63 = .ok (.dconst 0, 1) := by decide +kernel
theorem dX0_crossing_64 : decode cX0_crossing 64 = .ok (.dcmp .l, 1) := by decide +kernel
theorem dX0_crossing_65 : decode cX0_crossing 65 = .ok (.ifCond .le 7, 3) := by decide +kernel
theorem dX0_crossing_68 : decode cX0_crossing 68 = .ok (.iconst 1, 1) := by decide +kernel
theorem dX0_crossing_69 : decode cX0_crossing 69 = .ok (.goto 4, 3) := by decide +kernel
theorem dX0_crossing_72 : decode cX0_crossing 72 = .ok (.iconst 0, 1) := by decide +kernel
theorem dX0_crossing_73 : decode cX0_crossing 73 = .ok (.if_icmp .eq 14, 3) := by decide +kernel
theorem dX0_crossing_76 : decode cX0_crossing 76 = .ok (.iload_n 3, 1) := by decide +kernel
theorem dX0_crossing_77 : decode cX0_crossing 77 = .ok (.iload_n 2, 1) := by decide +kernel
theorem dX0_crossing_78 : decode cX0_crossing 78 = .ok (.if_icmp .ne 6, 3) := by decide +kernel
theorem dX0_crossing_81 : decode cX0_crossing 81 = .ok (.iload 4, 2) := by decide +kernel
theorem dX0_crossing_83 : decode cX0_crossing 83 = .ok (.ireturn, 1) := by decide +kernel
theorem dX0_crossing_84 : decode cX0_crossing 84 = .ok (.iinc 3 1, 3) := by decide +kernel
theorem dX0_crossing_87 : decode cX0_crossing 87 = .ok (.iinc 4 1, 3) := by decide +kernel
theorem dX0_crossing_90 : decode cX0_crossing 90 = .ok (.goto (-74), 3) := by decide +kernel
theorem dX0_crossing_93 : decode cX0_crossing 93 = .ok (.iconst (-1), 1) := by decide +kernel
theorem dX0_crossing_94 : decode cX0_crossing 94 = .ok (.ireturn, 1) := by decide +kernel
theorem dX0_peak_0 : decode cX0_peak 0 = .ok (.aload_n 0, 1) := by decide +kernel
theorem dX0_peak_1 : decode cX0_peak 1 = .ok (.iload_n 1, 1) := by decide +kernel
theorem dX0_peak_2 : decode cX0_peak 2 = .ok (.invokevirtual 308, 3) := by decide +kernel
theorem dX0_peak_5 : decode cX0_peak 5 = .ok (.ifCond .ne 6, 3) := by decide +kernel
theorem dX0_peak_8 : decode cX0_peak 8 = .ok (.bipush (-101), 2) := by decide +kernel
theorem dX0_peak_10 : decode cX0_peak 10 = .ok (.ireturn, 1) := by decide +kernel
theorem dX0_peak_11 : decode cX0_peak 11 = .ok (.iconst 0, 1) := by decide +kernel
theorem dX0_peak_12 : decode cX0_peak 12 = .ok (.istore_n 3, 1) := by decide +kernel
theorem dX0_peak_13 : decode cX0_peak 13 = .ok (.iconst 1, 1) := by decide +kernel
theorem dX0_peak_14 : decode cX0_peak 14 = .ok (.istore 4, 2) := by decide +kernel
theorem dX0_peak_16 : decode cX0_peak 16 = .ok (.iload 4, 2) := by decide +kernel
theorem dX0_peak_18 : decode cX0_peak 18 = .ok (.aload_n 0, 1) := by decide +kernel
theorem dX0_peak_19 : decode cX0_peak 19 = .ok (.getfield 71, 3) := by decide +kernel
theorem dX0_peak_22 : decode cX0_peak 22 = .ok (.iload_n 1, 1) := by decide +kernel
theorem dX0_peak_23 : decode cX0_peak 23 = .ok (.iaload, 1) := by decide +kernel
theorem dX0_peak_24 : decode cX0_peak 24 = .ok (.iconst 1, 1) := by decide +kernel
theorem dX0_peak_25 : decode cX0_peak 25 = .ok (.isub, 1) := by decide +kernel
theorem dX0_peak_26 : decode cX0_peak 26 = .ok (.if_icmp .ge 74, 3) := by decide +kernel
theorem dX0_peak_29 : decode cX0_peak 29 = .ok (.aload_n 0, 1) := by decide +kernel
theorem dX0_peak_30 : decode cX0_peak 30 = .ok (.getfield 67, 3) := by decide +kernel
theorem dX0_peak_33 : decode cX0_peak 33 = .ok (.bipush 120, 2) := by decide +kernel
theorem dX0_peak_35 : decode cX0_peak 35 = .ok (.iload_n 1, 1) := by decide +kernel
theorem dX0_peak_36 : decode cX0_peak 36 = .ok (.imul, 1) := by decide +kernel
theorem dX0_peak_37 : decode cX0_peak 37 = .ok (.iload 4, 2) := by decide +kernel
theorem dX0_peak_39 : decode cX0_peak 39 = .ok (.iadd, 1) := by decide +kernel
theorem dX0_peak_40 : decode cX0_peak 40 = .ok (.daload, 1) := by decide +kernel
theorem dX0_peak_41 : decode cX0_peak 41 = .ok (.dstore 5, 2) := by decide +kernel
theorem dX0_peak_43 : decode cX0_peak 43 = .ok (.dload 5, 2) := by decide +kernel
theorem dX0_peak_45 : decode cX0_peak 45 = .ok (.aload_n 0, 1) := by decide +kernel
theorem dX0_peak_46 : decode cX0_peak 46 = .ok (.getfield 67, 3) := by decide +kernel
theorem dX0_peak_49 : decode cX0_peak 49 = .ok (.bipush 120, 2) := by decide +kernel
theorem dX0_peak_51 : decode cX0_peak 51 = .ok (.iload_n 1, 1) := by decide +kernel
theorem dX0_peak_52 : decode cX0_peak 52 = .ok (.imul, 1) := by decide +kernel
theorem dX0_peak_53 : decode cX0_peak 53 = .ok (.iload 4, 2) := by decide +kernel
theorem dX0_peak_55 : decode cX0_peak 55 = .ok (.iadd, 1) := by decide +kernel
theorem dX0_peak_56 : decode cX0_peak 56 = .ok (.iconst 1, 1) := by decide +kernel
theorem dX0_peak_57 : decode cX0_peak 57 = .ok (.isub, 1) := by decide +kernel
theorem dX0_peak_58 : decode cX0_peak 58 = .ok (.daload, 1) := by decide +kernel
theorem dX0_peak_59 : decode cX0_peak 59 = .ok (.dcmp .l, 1) := by decide +kernel
theorem dX0_peak_60 : decode cX0_peak 60 = .ok (.ifCond .le 34, 3) := by decide +kernel
theorem dX0_peak_63 : decode cX0_peak 63 = .ok (.dload 5, 2) := by decide +kernel
theorem dX0_peak_65 : decode cX0_peak 65 = .ok (.aload_n 0, 1) := by decide +kernel
theorem dX0_peak_66 : decode cX0_peak 66 = .ok (.getfield 67, 3) := by decide +kernel
theorem dX0_peak_69 : decode cX0_peak 69 = .ok (.bipush 120, 2) := by decide +kernel
theorem dX0_peak_71 : decode cX0_peak 71 = .ok (.iload_n 1, 1) := by decide +kernel
theorem dX0_peak_72 : decode cX0_peak 72 = .ok (.imul, 1) := by decide +kernel
theorem dX0_peak_73 : decode cX0_peak 73 = .ok (.iload 4, 2) := by decide +kernel
theorem dX0_peak_75 : decode cX0_peak 75 = .ok (.iadd, 1) := by decide +kernel
theorem dX0_peak_76 : decode cX0_peak 76 = .ok (.iconst 1, 1) := by decide +kernel
theorem dX0_peak_77 : decode cX0_peak 77 = .ok (.iadd, 1) := by decide +kernel
theorem dX0_peak_78 : decode cX0_peak 78 = .ok (.daload, 1) := by decide +kernel
theorem dX0_peak_79 : decode cX0_peak 79 = .ok (.dcmp .l, 1) := by decide +kernel
theorem dX0_peak_80 : decode cX0_peak 80 = .ok (.ifCond .lt 14, 3) := by decide +kernel
theorem dX0_peak_83 : decode cX0_peak 83 = .ok (.iload_n 3, 1) := by decide +kernel
theorem dX0_peak_84 : decode cX0_peak 84 = .ok (.iload_n 2, 1) := by decide +kernel
theorem dX0_peak_85 : decode cX0_peak 85 = .ok (.if_icmp .ne 6, 3) := by decide +kernel
theorem dX0_peak_88 : decode cX0_peak 88 = .ok (.iload 4, 2) := by decide +kernel
theorem dX0_peak_90 : decode cX0_peak 90 = .ok (.ireturn, 1) := by decide +kernel
theorem dX0_peak_91 : decode cX0_peak 91 = .ok (.iinc 3 1, 3) := by decide +kernel
theorem dX0_peak_94 : decode cX0_peak 94 = .ok (.iinc 4 1, 3) := by decide +kernel
theorem dX0_peak_97 : decode cX0_peak 97 = .ok (.goto (-81), 3) := by decide +kernel
theorem dX0_peak_100 : decode cX0_peak 100 = .ok (.iconst (-1), 1) := by decide +kernel
theorem dX0_peak_101 : decode cX0_peak 101 = .ok (.ireturn, 1) := by decide +kernel
theorem dX0_about_0 : decode cX0_about 0 = .ok (.aload_n 0, 1) := by decide +kernel
theorem dX0_about_1 : decode cX0_about 1 = .ok (.iload_n 1, 1) := by decide +kernel
theorem dX0_about_2 : decode cX0_about 2 = .ok (.invokevirtual 138, 3) := by decide +kernel
theorem dX0_about_5 : decode cX0_about 5 = .ok (.ifCond .ne 6, 3) := by decide +kernel
theorem dX0_about_8 : decode cX0_about 8 = .ok (.bipush (-101), 2) := by decide +kernel
theorem dX0_about_10 : decode cX0_about 10 = .ok (.ireturn, 1) := by decide +kernel
theorem dX0_about_11 : decode cX0_about 11 = .ok (.aload_n 0, 1) := by decide +kernel
theorem dX0_about_12 : decode cX0_about 12 = .ok (.getfield 55, 3) := by decide +kernel
theorem dX0_about_15 : decode cX0_about 15 = .ok (.iload_n 1, 1) := by decide +kernel
theorem dX0_about_16 : decode cX0_about 16 = .ok (.aaload, 1) := by decide +kernel
theorem dX0_about_17 : decode cX0_about 17 = .ok (.astore_n 3, 1) := by decide +kernel
theorem dX0_about_18 : decode cX0_about 18 = .ok (.iload_n 2, 1) := by decide +kernel
theorem dX0_about_19 : decode cX0_about 19 = .ok (.ifCond .ne 8, 3) := by decide +kernel
theorem dX0_about_22 : decode cX0_about 22 = .ok (.aload_n 3, 1) := by decide +kernel
theorem dX0_about_23 : decode cX0_about 23 = .ok (.getfield 151, 3) := by decide +kernel
theorem dX0_about_26 : decode cX0_about 26 = .ok (.ireturn, 1) := by decide +kernel
theorem dX0_about_27 : decode cX0_about 27 = .ok (.iload_n 2, 1) := by decide +kernel
theorem dX0_about_28 : decode cX0_about 28 = .ok (.iconst 1, 1) := by decide +kernel
theorem dX0_about_29 : decode cX0_about 29 = .ok (.bipush 6, 2) := by decide +kernel
theorem dX0_about_31 : decode cX0_about 31 = .ok (.invokestatic 94, 3) := by decide +kernel
theorem dX0_about_34 : decode cX0_about 34 = .ok (.ifCond .eq 12, 3) := by decide +kernel
theorem dX0_about_37 : decode cX0_about 37 = .ok (.aload_n 3, 1) := by decide +kernel
theorem dX0_about_38 : decode cX0_about 38 = .ok (.getfield 145, 3) := by decide +kernel
theorem dX0_about_41 : decode cX0_about 41 = .ok (.iload_n 2, 1) := by decide +kernel
theorem dX0_about_42 : decode cX0_about 42 = .ok (.iconst 1, 1) := by decide +kernel
theorem dX0_about_43 : decode cX0_about 43 = .ok (.isub, 1) := by decide +kernel
theorem dX0_about_44 : decode cX0_about 44 = .ok (.iaload, 1) := by decide +kernel
theorem dX0_about_45 : decode cX0_about 45 = .ok (.ireturn, 1) := by decide +kernel
theorem dX0_about_46 : decode cX0_about 46 = .ok (.iload_n 2, 1) := by decide +kernel
theorem dX0_about_47 : decode cX0_about 47 = .ok (.bipush 7, 2) := by decide +kernel
theorem dX0_about_49 : decode cX0_about 49 = .ok (.bipush 12, 2) := by decide +kernel
theorem dX0_about_51 : decode cX0_about 51 = .ok (.invokestatic 94, 3) := by decide +kernel
theorem dX0_about_54 : decode cX0_about 54 = .ok (.ifCond .eq 21, 3) := by decide +kernel
theorem dX0_about_57 : decode cX0_about 57 = .ok (.aload_n 3, 1) := by decide +kernel
theorem dX0_about_58 : decode cX0_about 58 = .ok (.getfield 148, 3) := by decide +kernel
theorem dX0_about_61 : decode cX0_about 61 = .ok (.iload_n 2, 1) := by decide +kernel
theorem dX0_about_62 : decode cX0_about 62 = .ok (.bipush 7, 2) := by decide +kernel
theorem dX0_about_64 : decode cX0_about 64 = .ok (.isub, 1) := by decide +kernel
theorem dX0_about_65 : decode cX0_about 65 = .ok (.baload, 1) := by decide +kernel
theorem dX0_about_66 : decode cX0_about 66 = .ok (.ifCond .eq 7, 3) := by decide +kernel
theorem dX0_about_69 : decode cX0_about 69 = .ok (.iconst 1, 1) := by decide +kernel
theorem dX0_about_70 : decode cX0_about 70 = .ok (.goto 4, 3) := by decide +kernel
theorem dX0_about_73 : decode cX0_about 73 = .ok (.iconst 0, 1) := by decide +kernel
theorem dX0_about_74 : decode cX0_about 74 = .ok (.ireturn, 1) := by decide +kernel
theorem dX0_about_75 : decode cX0_about 75 = .ok (.iload_n 2, 1) := by decide +kernel
theorem dX0_about_76 : decode cX0_about 76 = .ok (.bipush 13, 2) := by decide +kernel
theorem dX0_about_78 : decode cX0_about 78 = .ok (.if_icmp .ne 24, 3) := by decide +kernel
theorem dX0_about_81 : decode cX0_about 81 = .ok (.aload_n 3, 1) := by decide +kernel
theorem dX0_about_82 : decode cX0_about 82 = .ok (.getfield 151, 3) := by decide +kernel
theorem dX0_about_85 : decode cX0_about 85 = .ok (.bipush 7, 2) := by decide +kernel
theorem dX0_about_87 : decode cX0_about 87 = .ok (.if_icmp .ne 13, 3) := by decide +kernel
theorem dX0_about_90 : decode cX0_about 90 = .ok (.aload_n 3, 1) := by decide +kernel
theorem dX0_about_91 : decode cX0_about 91 = .ok (.checkcast 25, 3) := by decide +kernel
theorem dX0_about_94 : decode cX0_about 94 = .ok (.getfield 156, 3) := by decide +kernel
theorem dX0_about_97 : decode cX0_about 97 = .ok (.goto 4, 3) := by decide +kernel
theorem dX0_about_100 : decode cX0_about 100 = .ok (.iconst 0, 1) := by decide +kernel
theorem dX0_about_101 : decode cX0_about 101 = .ok (.ireturn, 1) := by decide +kernel
theorem dX0_about_102 : decode cX0_about 102 = .ok (.iload_n 2, 1) := by decide +kernel
theorem dX0_about_103 : decode cX0_about 103 = .ok (.bipush 14, 2) := by decide +kernel
theorem dX0_about_105 : decode cX0_about 105 = .ok (.if_icmp .ne 10, 3) := by decide +kernel
theorem dX0_about_108 : decode cX0_about 108 = .ok (.aload_n 3, 1) := by decide +kernel
theorem dX0_about_109 : decode cX0_about 109 = .ok (.getfield 267, 3) := by decide +kernel
theorem dX0_about_112 : decode cX0_about 112 = .ok (.goto 5, 3) := by decide +kernel
theorem dX0_about_115 : decode cX0_about 115 = .ok (.bipush (-102), 2) := by decide +kernel
theorem dX0_about_117 : decode cX0_about 117 = .ok (.ireturn, 1) := by decide +kernel
theorem hd_X0_isIn : yX0_isIn.cls ≠ "java/lang/invoke/MethodHandle" ∧ yX0_isIn.cls ≠ "java/lang/invoke/VarHandle" ∧ (parseMethodDescriptor yX0_isIn.desc).map (fun d => d.parameters.length) = some 3 := by decide +kernel
theorem hd_X0_isModule : yX0_isModule.cls = RX0 ∧ yX0_isModule.cls ≠ "java/lang/invoke/MethodHandle" ∧ yX0_isModule.cls ≠ "java/lang/invoke/VarHandle" ∧ (parseMethodDescriptor yX0_isModule.desc).map (fun d => d.parameters.length) = some 1 := by decide +kernel
theorem hd_X0_isNumber : yX0_isNumber.cls ≠ "java/lang/invoke/MethodHandle" ∧ yX0_isNumber.cls ≠ "java/lang/invoke/VarHandle" ∧ (parseMethodDescriptor yX0_isNumber.desc).map (fun d => d.parameters.length) = some 1 := by decide +kernel
theorem hd_X0_isRead : yX0_isRead.cls = RX0 ∧ yX0_isRead.cls ≠ "java/lang/invoke/MethodHandle" ∧ yX0_isRead.cls ≠ "java/lang/invoke/VarHandle" ∧ (parseMethodDescriptor yX0_isRead.desc).map (fun d => d.parameters.length) = some 1 := by decide +kernel
theorem hd_X0_isStrip : yX0_isStrip.cls = RX0 ∧ yX0_isStrip.cls ≠ "java/lang/invoke/MethodHandle" ∧ yX0_isStrip.cls ≠ "java/lang/invoke/VarHandle" ∧ (parseMethodDescriptor yX0_isStrip.desc).map (fun d => d.parameters.length) = some 1 := by decide +kernel
theorem hu_Module_needs : "TwinPanel$Module" ≠ "java/lang/invoke/MethodHandle" ∧ "TwinPanel$Module" ≠ "java/lang/invoke/VarHandle" ∧ (parseMethodDescriptor "()I").map (fun d => d.parameters.length) = some 0 := by decide +kernel
theorem hu_Module_remembers : "TwinPanel$Module" ≠ "java/lang/invoke/MethodHandle" ∧ "TwinPanel$Module" ≠ "java/lang/invoke/VarHandle" ∧ (parseMethodDescriptor "()Z").map (fun d => d.parameters.length) = some 0 := by decide +kernel
theorem isr {C : tp_C} {m : Int32} (h : (!decide (cM C = 0) && imB C m) = true) : ¬ cM C = 0 ∧ imB C m = true := by
  rw [Bool.and_eq_true] at h; exact ⟨by simpa using h.1, h.2⟩
theorem isr_f {C : tp_C} {m : Int32} (h : (!decide (cM C = 0) && imB C m) = false) : ¬ (imB C m = true ∧ ¬ cM C = 0) := by
  rintro ⟨h1, h2⟩; rw [h1] at h; simp [h2] at h
def ndN (k : Nat) : Nat := if k = 3 ∨ k = 4 ∨ k = 5 ∨ k = 8 then 2 else if k = 9 then 3 else if k = 13 then 0 else 1
section TD_remembers
variable {p : Program} {l : Launch} {e : Env} {R : Room} {s : State} {m : MethodId} {args : Array Value} {below : List Frame} {meth : Method} {c : Code} {H : Heap} {locs : List Loc} {cells slots : Nat} {Q : State → Prop}
variable {cc : ByteArray} {pc nL : Nat} {ls : Array Slot} {rest : List Value} {D : va_G} {dA : Nat → ClassId} {A : Nat → Prop} {C : tp_C} {d : md_T} {j : xj_T}
theorem xo_remembers (S : CallFix p m c cc nL s args lw_all RX0) (G : xG D dA A C d j s H locs) {mm : Nat} (hC : mOK C) (hm : mm < cN C) (hR : 1 ≤ R.frames ∧ 48 ≤ R.locals) (hf : cells ≤ R.cells ∧ slots ≤ R.slots) (hsz : ls.size = nL) (hW : (rest.map fun v => v.category).sum ≤ 8) (hdg : decode cc pc = .ok (.invokevirtual 163, 3))
    (kk : ∀ (H1 : Heap) (locs1 : List Loc), xG D dA A C d j s H1 locs1 → W p l e R s m args below meth c H1 locs1 cells slots Q (F0 m (pc + 3) ls (.int (bI (rmB (cK C mm))) :: rest))) : W p l e R s m args below meth c H locs cells slots Q (F0 m pc ls (.ref (jA j (xr mm 0)) :: rest)) := by
  have hN := hC.n; have hts := S.2.2.2.2; have hk14 := hC.k mm
  have hr : ∀ a L, a ≤ 0 → L ≤ 20 → a + 1 ≤ R.frames ∧ 8 + (L + 11) + 48 * a ≤ R.locals := fun a L h1 h2 => ⟨by omega, by omega⟩
  rcases (show cK C mm = 0 ∨ cK C mm = 1 ∨ cK C mm = 2 ∨ cK C mm = 3 ∨ cK C mm = 4 ∨ cK C mm = 5 ∨ cK C mm = 6 ∨ cK C mm = 7 ∨ cK C mm = 8 ∨ cK C mm = 9 ∨ cK C mm = 10 ∨ cK C mm = 11 ∨ cK C mm = 12 ∨ cK C mm = 13 by omega) with h_ | h_ | h_ | h_ | h_ | h_ | h_ | h_ | h_ | h_ | h_ | h_ | h_ | h_
  · rw [h_] at kk; exact xx_callM (mm := mm) (As := []) (rest := rest) S G hm hN (hC.k _) (xt_X2_remembers l D dA C d j mm hC hm) (xx_cw hts q588 q590 (by rw [h_]; exact q603) q589 q58 q607 rfl hu_Module_remembers (hr _ _ (by decide) (by decide))) rfl hsz rfl hW hdg hf kk
  · rw [h_] at kk; exact xx_callM (mm := mm) (As := []) (rest := rest) S G hm hN (hC.k _) (xt_X2_remembers l D dA C d j mm hC hm) (xx_cw hts q588 q590 (by rw [h_]; exact q606) q589 q58 q607 rfl hu_Module_remembers (hr _ _ (by decide) (by decide))) rfl hsz rfl hW hdg hf kk
  · rw [h_] at kk; exact xx_callM (mm := mm) (As := []) (rest := rest) S G hm hN (hC.k _) (xt_X5_remembers_2 l D dA C d j mm hC hm) (xx_cwO hts q588 q590 q589 (by rw [h_]; exact q595) q593 q61 q594 q607 hu_Module_remembers (hr _ _ (by decide) (by decide))) rfl hsz rfl hW hdg hf kk
  · rw [h_] at kk; exact xx_callM (mm := mm) (As := []) (rest := rest) S G hm hN (hC.k _) (xt_X5_remembers_2 l D dA C d j mm hC hm) (xx_cwO hts q588 q590 q589 (by rw [h_]; exact q605) q593 q61 q594 q607 hu_Module_remembers (hr _ _ (by decide) (by decide))) rfl hsz rfl hW hdg hf kk
  · rw [h_] at kk; exact xx_callM (mm := mm) (As := []) (rest := rest) S G hm hN (hC.k _) (xt_X2_remembers l D dA C d j mm hC hm) (xx_cw hts q588 q590 (by rw [h_]; exact q599) q589 q58 q607 rfl hu_Module_remembers (hr _ _ (by decide) (by decide))) rfl hsz rfl hW hdg hf kk
  · rw [h_] at kk; exact xx_callM (mm := mm) (As := []) (rest := rest) S G hm hN (hC.k _) (xt_X2_remembers l D dA C d j mm hC hm) (xx_cw hts q588 q590 (by rw [h_]; exact q600) q589 q58 q607 rfl hu_Module_remembers (hr _ _ (by decide) (by decide))) rfl hsz rfl hW hdg hf kk
  · rw [h_] at kk; exact xx_callM (mm := mm) (As := []) (rest := rest) S G hm hN (hC.k _) (xt_X2_remembers l D dA C d j mm hC hm) (xx_cw hts q588 q590 (by rw [h_]; exact q602) q589 q58 q607 rfl hu_Module_remembers (hr _ _ (by decide) (by decide))) rfl hsz rfl hW hdg hf kk
  · rw [h_] at kk; exact xx_callM (mm := mm) (As := []) (rest := rest) S G hm hN (hC.k _) (xt_X2_remembers l D dA C d j mm hC hm) (xx_cw hts q588 q590 (by rw [h_]; exact q604) q589 q58 q607 rfl hu_Module_remembers (hr _ _ (by decide) (by decide))) rfl hsz rfl hW hdg hf kk
  · rw [h_] at kk; exact xx_callM (mm := mm) (As := []) (rest := rest) S G hm hN (hC.k _) (xt_X2_remembers l D dA C d j mm hC hm) (xx_cw hts q588 q590 (by rw [h_]; exact q591) q589 q58 q607 rfl hu_Module_remembers (hr _ _ (by decide) (by decide))) rfl hsz rfl hW hdg hf kk
  · rw [h_] at kk; exact xx_callM (mm := mm) (As := []) (rest := rest) S G hm hN (hC.k _) (xt_X2_remembers l D dA C d j mm hC hm) (xx_cw hts q588 q590 (by rw [h_]; exact q601) q589 q58 q607 rfl hu_Module_remembers (hr _ _ (by decide) (by decide))) rfl hsz rfl hW hdg hf kk
  · rw [h_] at kk; exact xx_callM (mm := mm) (As := []) (rest := rest) S G hm hN (hC.k _) (xt_X2_remembers l D dA C d j mm hC hm) (xx_cw hts q588 q590 (by rw [h_]; exact q598) q589 q58 q607 rfl hu_Module_remembers (hr _ _ (by decide) (by decide))) rfl hsz rfl hW hdg hf kk
  · rw [h_] at kk; exact xx_callM (mm := mm) (As := []) (rest := rest) S G hm hN (hC.k _) (xt_X5_remembers_2 l D dA C d j mm hC hm) (xx_cwO hts q588 q590 q589 (by rw [h_]; exact q592) q593 q61 q594 q607 hu_Module_remembers (hr _ _ (by decide) (by decide))) rfl hsz rfl hW hdg hf kk
  · rw [h_] at kk; exact xx_callM (mm := mm) (As := []) (rest := rest) S G hm hN (hC.k _) (xt_X2_remembers l D dA C d j mm hC hm) (xx_cw hts q588 q590 (by rw [h_]; exact q596) q589 q58 q607 rfl hu_Module_remembers (hr _ _ (by decide) (by decide))) rfl hsz rfl hW hdg hf kk
  · rw [h_] at kk; exact xx_callM (mm := mm) (As := []) (rest := rest) S G hm hN (hC.k _) (xt_X5_remembers_2 l D dA C d j mm hC hm) (xx_cwO hts q588 q590 q589 (by rw [h_]; exact q597) q593 q61 q594 q607 hu_Module_remembers (hr _ _ (by decide) (by decide))) rfl hsz rfl hW hdg hf kk
end TD_remembers
section TD_needs
variable {p : Program} {l : Launch} {e : Env} {R : Room} {s : State} {m : MethodId} {args : Array Value} {below : List Frame} {meth : Method} {c : Code} {H : Heap} {locs : List Loc} {cells slots : Nat} {Q : State → Prop}
variable {cc : ByteArray} {pc nL : Nat} {ls : Array Slot} {rest : List Value} {D : va_G} {dA : Nat → ClassId} {A : Nat → Prop} {C : tp_C} {d : md_T} {j : xj_T}
theorem xo_needs (S : CallFix p m c cc nL s args lw_all RX0) (G : xG D dA A C d j s H locs) {mm : Nat} (hC : mOK C) (hm : mm < cN C) (hR : 1 ≤ R.frames ∧ 48 ≤ R.locals) (hf : cells ≤ R.cells ∧ slots ≤ R.slots) (hsz : ls.size = nL) (hW : (rest.map fun v => v.category).sum ≤ 8) (hdg : decode cc pc = .ok (.invokevirtual 177, 3))
    (kk : ∀ (H1 : Heap) (locs1 : List Loc), xG D dA A C d j s H1 locs1 → W p l e R s m args below meth c H1 locs1 cells slots Q (F0 m (pc + 3) ls (.int (nI (ndN (cK C mm))) :: rest))) : W p l e R s m args below meth c H locs cells slots Q (F0 m pc ls (.ref (jA j (xr mm 0)) :: rest)) := by
  have hN := hC.n; have hts := S.2.2.2.2; have hk14 := hC.k mm
  have hr : ∀ a L, a ≤ 0 → L ≤ 20 → a + 1 ≤ R.frames ∧ 8 + (L + 11) + 48 * a ≤ R.locals := fun a L h1 h2 => ⟨by omega, by omega⟩
  rcases (show cK C mm = 0 ∨ cK C mm = 1 ∨ cK C mm = 2 ∨ cK C mm = 3 ∨ cK C mm = 4 ∨ cK C mm = 5 ∨ cK C mm = 6 ∨ cK C mm = 7 ∨ cK C mm = 8 ∨ cK C mm = 9 ∨ cK C mm = 10 ∨ cK C mm = 11 ∨ cK C mm = 12 ∨ cK C mm = 13 by omega) with h_ | h_ | h_ | h_ | h_ | h_ | h_ | h_ | h_ | h_ | h_ | h_ | h_ | h_
  · rw [h_] at kk; exact xx_callM (mm := mm) (As := []) (rest := rest) S G hm hN (hC.k _) (xt_X2_needs l D dA C d j mm hC hm) (xx_cw hts q628 q630 (by rw [h_]; exact q651) q629 q58 q657 rfl hu_Module_needs (hr _ _ (by decide) (by decide))) rfl hsz rfl hW hdg hf kk
  · rw [h_] at kk; exact xx_callM (mm := mm) (As := []) (rest := rest) S G hm hN (hC.k _) (xt_X2_needs l D dA C d j mm hC hm) (xx_cw hts q628 q630 (by rw [h_]; exact q656) q629 q58 q657 rfl hu_Module_needs (hr _ _ (by decide) (by decide))) rfl hsz rfl hW hdg hf kk
  · rw [h_] at kk; exact xx_callM (mm := mm) (As := []) (rest := rest) S G hm hN (hC.k _) (xt_X2_needs l D dA C d j mm hC hm) (xx_cw hts q628 q630 (by rw [h_]; exact q635) q629 q58 q657 rfl hu_Module_needs (hr _ _ (by decide) (by decide))) rfl hsz rfl hW hdg hf kk
  · rw [h_] at kk; exact xx_callM (mm := mm) (As := []) (rest := rest) S G hm hN (hC.k _) (xt_X7_needs l D dA C d j mm hC hm h_) (xx_cwO hts q628 q630 q629 (by rw [h_]; exact q653) q654 q63 q655 q657 hu_Module_needs (hr _ _ (by decide) (by decide))) rfl hsz rfl hW hdg hf kk
  · rw [h_] at kk; exact xx_callM (mm := mm) (As := []) (rest := rest) S G hm hN (hC.k _) (xt_X8_needs l D dA C d j mm hC hm h_) (xx_cwO hts q628 q630 q629 (by rw [h_]; exact q641) q642 q64 q643 q657 hu_Module_needs (hr _ _ (by decide) (by decide))) rfl hsz rfl hW hdg hf kk
  · rw [h_] at kk; exact xx_callM (mm := mm) (As := []) (rest := rest) S G hm hN (hC.k _) (xt_X9_needs l D dA C d j mm hC hm h_) (xx_cwO hts q628 q630 q629 (by rw [h_]; exact q644) q645 q65 q646 q657 hu_Module_needs (hr _ _ (by decide) (by decide))) rfl hsz rfl hW hdg hf kk
  · rw [h_] at kk; exact xx_callM (mm := mm) (As := []) (rest := rest) S G hm hN (hC.k _) (xt_X2_needs l D dA C d j mm hC hm) (xx_cw hts q628 q630 (by rw [h_]; exact q650) q629 q58 q657 rfl hu_Module_needs (hr _ _ (by decide) (by decide))) rfl hsz rfl hW hdg hf kk
  · rw [h_] at kk; exact xx_callM (mm := mm) (As := []) (rest := rest) S G hm hN (hC.k _) (xt_X2_needs l D dA C d j mm hC hm) (xx_cw hts q628 q630 (by rw [h_]; exact q652) q629 q58 q657 rfl hu_Module_needs (hr _ _ (by decide) (by decide))) rfl hsz rfl hW hdg hf kk
  · rw [h_] at kk; exact xx_callM (mm := mm) (As := []) (rest := rest) S G hm hN (hC.k _) (xt_X12_needs l D dA C d j mm hC hm h_) (xx_cwO hts q628 q630 q629 (by rw [h_]; exact q631) q632 q68 q633 q657 hu_Module_needs (hr _ _ (by decide) (by decide))) rfl hsz rfl hW hdg hf kk
  · rw [h_] at kk; exact xx_callM (mm := mm) (As := []) (rest := rest) S G hm hN (hC.k _) (xt_X13_needs l D dA C d j mm hC hm h_) (xx_cwO hts q628 q630 q629 (by rw [h_]; exact q647) q648 q69 q649 q657 hu_Module_needs (hr _ _ (by decide) (by decide))) rfl hsz rfl hW hdg hf kk
  · rw [h_] at kk; exact xx_callM (mm := mm) (As := []) (rest := rest) S G hm hN (hC.k _) (xt_X2_needs l D dA C d j mm hC hm) (xx_cw hts q628 q630 (by rw [h_]; exact q640) q629 q58 q657 rfl hu_Module_needs (hr _ _ (by decide) (by decide))) rfl hsz rfl hW hdg hf kk
  · rw [h_] at kk; exact xx_callM (mm := mm) (As := []) (rest := rest) S G hm hN (hC.k _) (xt_X2_needs l D dA C d j mm hC hm) (xx_cw hts q628 q630 (by rw [h_]; exact q634) q629 q58 q657 rfl hu_Module_needs (hr _ _ (by decide) (by decide))) rfl hsz rfl hW hdg hf kk
  · rw [h_] at kk; exact xx_callM (mm := mm) (As := []) (rest := rest) S G hm hN (hC.k _) (xt_X2_needs l D dA C d j mm hC hm) (xx_cw hts q628 q630 (by rw [h_]; exact q636) q629 q58 q657 rfl hu_Module_needs (hr _ _ (by decide) (by decide))) rfl hsz rfl hW hdg hf kk
  · rw [h_] at kk; exact xx_callM (mm := mm) (As := []) (rest := rest) S G hm hN (hC.k _) (xt_X17_needs l D dA C d j mm hC hm h_) (xx_cwO hts q628 q630 q629 (by rw [h_]; exact q637) q638 q73 q639 q657 hu_Module_needs (hr _ _ (by decide) (by decide))) rfl hsz rfl hW hdg hf kk
end TD_needs
theorem st_X0_isIn (l : Launch) (v : Int32) (lo : Int32) (hi : Int32) : sC l yX0_isIn cX0_isIn 3 (some .boolean) 0 [.int v, .int lo, .int hi] (some (.int (bI (inB v lo hi)))) := by
  refine ss_start (own := RX0) (by decide) rfl (Nat.le_of_ble_eq_true rfl) ?_
  intro p0 e0 s0 mid bl0 me0 co0 ls S hr hlk hl
  have hx := S.1; have hb := S.2.1; have hml := S.2.2.1; have hown := S.2.2.2.1; have hts := S.2.2.2.2
  have hl : lv_has ls 3 [(0, .int v), (1, .int lo), (2, .int hi)] := hl
  refine lv_iload_n hx hb dX0_isIn_0 rfl (lv_at hl 0 rfl) ?_
  refine lv_iload_n hx hb dX0_isIn_1 rfl (lv_at hl 1 rfl) ?_
  refine lv_icmp_lt (tgt := 14) hx hb dX0_isIn_2 (by decide) (fun c_2 => ?_) (fun c_2 => ?_)
  · refine lv_iconst (v := nI 0) hx hb dX0_isIn_14 (by decide) ?_
    exact ss_zret S hr hlk (by first | rfl | exact bb_nar _) (bI_f (by simp [inB, c_2])) dX0_isIn_15
  · refine lv_iload_n hx hb dX0_isIn_5 rfl (lv_at hl 0 rfl) ?_
    refine lv_iload_n hx hb dX0_isIn_6 rfl (lv_at hl 2 rfl) ?_
    refine lv_icmp_gt (tgt := 14) hx hb dX0_isIn_7 (by decide) (fun c_7 => ?_) (fun c_7 => ?_)
    · refine lv_iconst (v := nI 0) hx hb dX0_isIn_14 (by decide) ?_
      exact ss_zret S hr hlk (by first | rfl | exact bb_nar _) (bI_f (by simp [inB, c_2, c_7])) dX0_isIn_15
    · refine lv_iconst (v := nI 1) hx hb dX0_isIn_10 (by decide) ?_
      refine lv_goto (tgt := 15) hx hb dX0_isIn_11 (by decide) ?_
      exact ss_zret S hr hlk (by first | rfl | exact bb_nar _) (bI_t (by simp [inB, c_2, c_7])) dX0_isIn_15
theorem st_X0_isNumber (l : Launch) (b : Int64) : sC l yX0_isNumber cX0_isNumber 2 (some .boolean) 0 [.long b] (some (.int (bI (nbB b)))) := by
  refine ss_start (own := RX0) (by decide) rfl (Nat.le_of_ble_eq_true rfl) ?_
  intro p0 e0 s0 mid bl0 me0 co0 ls S hr hlk hl
  have hx := S.1; have hb := S.2.1; have hml := S.2.2.1; have hown := S.2.2.2.1; have hts := S.2.2.2.2
  have hl : lv_has ls 2 [(0, .long b)] := hl
  refine lv_lload_n hx hb dX0_isNumber_0 rfl (lv_at hl 0 rfl) ?_
  refine lv_ldc2 hx hb hown (hts _ q162) dX0_isNumber_1 ?_
  refine lv_land hx hb dX0_isNumber_4 ?_
  refine lv_ldc2 hx hb hown (hts _ q163) dX0_isNumber_5 ?_
  refine ll_gt (tgt := 16) hx hb dX0_isNumber_8 dX0_isNumber_9 (by decide) (fun c_9 => ?_) (fun c_9 => ?_)
  · refine lv_iconst (v := nI 0) hx hb dX0_isNumber_16 (by decide) ?_
    exact ss_zret S hr hlk (by first | rfl | exact bb_nar _) (bI_f (by simp [nbB, c_9])) dX0_isNumber_17
  · refine lv_iconst (v := nI 1) hx hb dX0_isNumber_12 (by decide) ?_
    refine lv_goto (tgt := 17) hx hb dX0_isNumber_13 (by decide) ?_
    exact ss_zret S hr hlk (by first | rfl | exact bb_nar _) (bI_t (by simp [nbB, c_9])) dX0_isNumber_17
theorem st_X0_isWithin (l : Launch) (b : Int64) (lo : UInt64) (hi : UInt64) : sC l yX0_isWithin cX0_isWithin 8 (some .boolean) 1 [.long b, .double lo, .double hi] (some (.int (bI (nbB b && wiB b.toUInt64 lo hi)))) := by
  refine ss_start (own := RX0) (by decide) rfl (Nat.le_of_ble_eq_true rfl) ?_
  intro p0 e0 s0 mid bl0 me0 co0 ls S hr hlk hl
  have hx := S.1; have hb := S.2.1; have hml := S.2.2.1; have hown := S.2.2.2.1; have hts := S.2.2.2.2
  have hl : lv_has ls 8 [(0, .long b), (2, .double lo), (4, .double hi)] := hl
  refine lv_lload_n hx hb dX0_isWithin_0 rfl (lv_at hl 0 rfl) ?_
  refine sC_call (As := [.long b]) (rest := []) S (st_X0_isNumber l b) q159 q160 q52 q161 hd_X0_isNumber ⟨Nat.le_of_ble_eq_true rfl, Nat.le_of_ble_eq_true rfl⟩ rfl hl.1 rfl (Nat.le_of_ble_eq_true rfl) dX0_isWithin_1 ⟨Nat.zero_le _, Nat.zero_le _⟩ ?_
  refine W.eq (g2 := F0 mid 4 ls [.int (bI (nbB b))]) rfl ?_
  refine bb_ne (tgt := 9) hx hb dX0_isWithin_4 (by decide) (fun c_4 => ?_) (fun c_4 => ?_)
  · refine lv_lload_n hx hb dX0_isWithin_9 rfl (lv_at hl 0 rfl) ?_
    refine vn_l2d hx hb (hml.trans hl.1.symm) hown (hts _ q164) (hts _ q166) (hts _ q165) (hts _ q55) (nb_sn (nb_n c_4)) (Nat.le_of_ble_eq_true rfl) (Nat.le_of_ble_eq_true rfl) dX0_isWithin_10 ?_
    refine lv_dstore (lv' := [(6, .double ((b).toUInt64)), (0, .long b), (2, .double lo), (4, .double hi)]) hx hb dX0_isWithin_13 hl (by decide) rfl (fun ls hl => ?_)
    refine lv_dload hx hb dX0_isWithin_15 (lv_at hl 0 rfl) ?_
    refine lv_dload_n hx hb dX0_isWithin_17 rfl (lv_at hl 2 rfl) ?_
    refine fx_jllt (tgt := 34) hx hb dX0_isWithin_18 dX0_isWithin_19 (by decide) (fun c_19 => ?_) (fun c_19 => ?_)
    · refine lv_iconst (v := nI 0) hx hb dX0_isWithin_34 (by decide) ?_
      exact ss_zret S hr hlk (by first | rfl | exact bb_nar _) (bI_f (by simp [wiB, c_4, c_19])) dX0_isWithin_35
    · refine lv_dload hx hb dX0_isWithin_22 (lv_at hl 0 rfl) ?_
      refine lv_dload hx hb dX0_isWithin_24 (lv_at hl 3 rfl) ?_
      refine fx_jggt (tgt := 34) hx hb dX0_isWithin_26 dX0_isWithin_27 (by decide) (fun c_27 => ?_) (fun c_27 => ?_)
      · refine lv_iconst (v := nI 0) hx hb dX0_isWithin_34 (by decide) ?_
        exact ss_zret S hr hlk (by first | rfl | exact bb_nar _) (bI_f (by simp [wiB, c_4, c_19, c_27])) dX0_isWithin_35
      · refine lv_iconst (v := nI 1) hx hb dX0_isWithin_30 (by decide) ?_
        refine lv_goto (tgt := 35) hx hb dX0_isWithin_31 (by decide) ?_
        exact ss_zret S hr hlk (by first | rfl | exact bb_nar _) (bI_t (by simp [wiB, c_4, c_19, c_27])) dX0_isWithin_35
  · refine lv_iconst (v := nI 0) hx hb dX0_isWithin_7 (by decide) ?_
    exact ss_zret S hr hlk (by first | rfl | exact bb_nar _) (bI_f (by simp [wiB, c_4])) dX0_isWithin_8
theorem xt_X0_isModule (l : Launch) (D : va_G) (dA : Nat → ClassId) (C : tp_C) (d : md_T) (j : xj_T) (m : Int32) (hC : mOK C) : xC l D dA yX0_isModule cX0_isModule 2 (some .boolean) 1 [.ref (jA j 0), .int m] C d j (some (.int (bI (inB m (nI 0) (nI (cN C) - nI 1))))) C d j := by
  refine xx_start (own := RX0) (by decide) rfl (Nat.le_of_ble_eq_true rfl) ?_
  intro p0 e0 s0 mid bl0 me0 co0 ls S hr hlk G hl
  have hx := S.1; have hb := S.2.1; have hml := S.2.2.1; have hown := S.2.2.2.1; have hts := S.2.2.2.2; have hN := hC.n
  have hl : lv_has ls 2 [(0, .ref (jA j 0)), (1, .int m)] := hl
  refine lv_iload_n hx hb dX0_isModule_0 rfl (lv_at hl 1 rfl) ?_
  refine lv_iconst (v := nI 0) hx hb dX0_isModule_1 (by decide) ?_
  refine lv_aload_n hx hb dX0_isModule_2 rfl (lv_at hl 0 rfl) ?_
  refine xx_getP S G 1 (by decide) q90 rfl (v := .int (nI (cN C))) rfl dX0_isModule_3 ?_
  refine lv_iconst (v := nI 1) hx hb dX0_isModule_6 (by decide) ?_
  refine lv_isub hx hb dX0_isModule_7 ?_
  refine sC_call (As := [.int m, .int (nI 0), .int ((nI (cN C)) - (nI 1))]) (rest := []) S (st_X0_isIn l m (nI 0) ((nI (cN C)) - (nI 1))) q149 q150 q52 q151 hd_X0_isIn ⟨Nat.le_of_ble_eq_true rfl, Nat.le_of_ble_eq_true rfl⟩ rfl hl.1 rfl (Nat.le_of_ble_eq_true rfl) dX0_isModule_8 ⟨Nat.zero_le _, Nat.zero_le _⟩ ?_
  refine W.eq (g2 := F0 mid 11 ls [.int (bI (inB m (nI 0) ((nI (cN C)) - (nI 1))))]) rfl ?_
  exact xx_zret S hr hlk G (by first | rfl | exact bb_nar _) (by rfl) rfl dX0_isModule_11
theorem xt_X0_isStrip (l : Launch) (D : va_G) (dA : Nat → ClassId) (C : tp_C) (d : md_T) (j : xj_T) (s : Int32) (hC : mOK C) : xC l D dA yX0_isStrip cX0_isStrip 2 (some .boolean) 1 [.ref (jA j 0), .int s] C d j (some (.int (bI (inB s (nI 0) (nI (cZ C) - nI 1))))) C d j := by
  refine xx_start (own := RX0) (by decide) rfl (Nat.le_of_ble_eq_true rfl) ?_
  intro p0 e0 s0 mid bl0 me0 co0 ls S hr hlk G hl
  have hx := S.1; have hb := S.2.1; have hml := S.2.2.1; have hown := S.2.2.2.1; have hts := S.2.2.2.2; have hN := hC.n
  have hl : lv_has ls 2 [(0, .ref (jA j 0)), (1, .int s)] := hl
  refine lv_iload_n hx hb dX0_isStrip_0 rfl (lv_at hl 1 rfl) ?_
  refine lv_iconst (v := nI 0) hx hb dX0_isStrip_1 (by decide) ?_
  refine lv_aload_n hx hb dX0_isStrip_2 rfl (lv_at hl 0 rfl) ?_
  refine xx_getP S G 9 (by decide) q98 rfl (v := .int (nI (cZ C))) rfl dX0_isStrip_3 ?_
  refine lv_iconst (v := nI 1) hx hb dX0_isStrip_6 (by decide) ?_
  refine lv_isub hx hb dX0_isStrip_7 ?_
  refine sC_call (As := [.int s, .int (nI 0), .int ((nI (cZ C)) - (nI 1))]) (rest := []) S (st_X0_isIn l s (nI 0) ((nI (cZ C)) - (nI 1))) q149 q150 q52 q151 hd_X0_isIn ⟨Nat.le_of_ble_eq_true rfl, Nat.le_of_ble_eq_true rfl⟩ rfl hl.1 rfl (Nat.le_of_ble_eq_true rfl) dX0_isStrip_8 ⟨Nat.zero_le _, Nat.zero_le _⟩ ?_
  refine W.eq (g2 := F0 mid 11 ls [.int (bI (inB s (nI 0) ((nI (cZ C)) - (nI 1))))]) rfl ?_
  exact xx_zret S hr hlk G (by first | rfl | exact bb_nar _) (by rfl) rfl dX0_isStrip_11
theorem xt_X0_isRead (l : Launch) (D : va_G) (dA : Nat → ClassId) (C : tp_C) (d : md_T) (j : xj_T) (m : Int32) (hC : mOK C) : xC l D dA yX0_isRead cX0_isRead 2 (some .boolean) 2 [.ref (jA j 0), .int m] C d j (some (.int (bI (!decide (cM C = 0) && imB C m)))) C d j := by
  refine xx_start (own := RX0) (by decide) rfl (Nat.le_of_ble_eq_true rfl) ?_
  intro p0 e0 s0 mid bl0 me0 co0 ls S hr hlk G hl
  have hx := S.1; have hb := S.2.1; have hml := S.2.2.1; have hown := S.2.2.2.1; have hts := S.2.2.2.2; have hN := hC.n
  have hl : lv_has ls 2 [(0, .ref (jA j 0)), (1, .int m)] := hl
  have hMo := hC.mo
  have hZ := hC.z
  refine lv_aload_n hx hb dX0_isRead_0 rfl (lv_at hl 0 rfl) ?_
  refine xx_getP S G 2 (by decide) q91 rfl (v := .int (nI (cM C))) rfl dX0_isRead_1 ?_
  refine nz_eq (tgt := 19) hx hb (by omega) dX0_isRead_4 (by decide) (fun c_4 => ?_) (fun c_4 => ?_)
  · refine lv_iconst (v := nI 0) hx hb dX0_isRead_19 (by decide) ?_
    exact xx_zret S hr hlk G (by first | rfl | exact bb_nar _) (bI_f (by simp [imB, c_4])) rfl dX0_isRead_20
  · refine lv_aload_n hx hb dX0_isRead_7 rfl (lv_at hl 0 rfl) ?_
    refine lv_iload_n hx hb dX0_isRead_8 rfl (lv_at hl 1 rfl) ?_
    refine xx_callP (As := [.int m]) (rest := []) S G (xt_X0_isModule l D dA C d j m hC) q575 q577 qs0 q578 hd_X0_isModule ⟨Nat.le_of_ble_eq_true rfl, Nat.le_of_ble_eq_true rfl⟩ rfl hl.1 rfl (Nat.le_of_ble_eq_true rfl) dX0_isRead_9 ⟨Nat.zero_le _, Nat.zero_le _⟩ (fun H locs G => ?_)
    refine W.eq (g2 := F0 mid 12 ls [.int (bI (inB m (nI 0) (nI (cN C) - nI 1)))]) rfl ?_
    refine bb_eq (tgt := 19) hx hb dX0_isRead_12 (by decide) (fun c_12 => ?_) (fun c_12 => ?_)
    · refine lv_iconst (v := nI 0) hx hb dX0_isRead_19 (by decide) ?_
      exact xx_zret S hr hlk G (by first | rfl | exact bb_nar _) (bI_f (by simp [imB, c_4, c_12])) rfl dX0_isRead_20
    · refine lv_iconst (v := nI 1) hx hb dX0_isRead_15 (by decide) ?_
      refine lv_goto (tgt := 20) hx hb dX0_isRead_16 (by decide) ?_
      exact xx_zret S hr hlk G (by first | rfl | exact bb_nar _) (bI_t (by simp [imB, c_4, c_12])) rfl dX0_isRead_20
theorem xt_X0_rule (l : Launch) (D : va_G) (dA : Nat → ClassId) (C : tp_C) (d : md_T) (j : xj_T) (a : Int32) (k : Int32) (hC : mOK C) : xC l D dA yX0_rule cX0_rule 3 (some .int) 1 [.ref (jA j 0), .int a, .int k] C d j (some (.int (ruR C a k))) (ruC C a k) d j := by
  refine xx_start (own := RX0) (by decide) rfl (Nat.le_of_ble_eq_true rfl) ?_
  intro p0 e0 s0 mid bl0 me0 co0 ls S hr hlk G hl
  have hx := S.1; have hb := S.2.1; have hml := S.2.2.1; have hown := S.2.2.2.1; have hts := S.2.2.2.2; have hN := hC.n
  have hl : lv_has ls 3 [(0, .ref (jA j 0)), (1, .int a), (2, .int k)] := hl
  have hMo := hC.mo
  have hZ := hC.z
  refine lv_iload_n hx hb dX0_rule_0 rfl (lv_at hl 1 rfl) ?_
  refine lv_iconst (v := nI 0) hx hb dX0_rule_1 (by decide) ?_
  refine lv_iconst (v := nI 2) hx hb dX0_rule_2 (by decide) ?_
  refine sC_call (As := [.int a, .int (nI 0), .int (nI 2)]) (rest := []) S (st_X0_isIn l a (nI 0) (nI 2)) q149 q150 q52 q151 hd_X0_isIn ⟨Nat.le_of_ble_eq_true rfl, Nat.le_of_ble_eq_true rfl⟩ rfl hl.1 rfl (Nat.le_of_ble_eq_true rfl) dX0_rule_3 ⟨Nat.zero_le _, Nat.zero_le _⟩ ?_
  refine W.eq (g2 := F0 mid 6 ls [.int (bI (inB a (nI 0) (nI 2)))]) rfl ?_
  refine bb_eq (tgt := 19) hx hb dX0_rule_6 (by decide) (fun c_6 => ?_) (fun c_6 => ?_)
  · refine lv_bipush (v := (-102)) hx hb dX0_rule_19 (by decide) ?_
    exact xx_iret S hr hlk G (by simp [ruR, ruC, ruB, c_6] <;> rfl) (xL_e (by simp [ruR, ruC, ruB, c_6] <;> rfl) rfl rfl) dX0_rule_21
  · obtain ⟨a1, -, ha1, rfl⟩ := in_nat c_6 (by decide) (by decide)
    have ij_a1 : ixN (nI a1) = a1 := ixN_nI (by omega)
    refine lv_iload_n hx hb dX0_rule_9 rfl (lv_at hl 2 rfl) ?_
    refine lv_iconst (v := nI 1) hx hb dX0_rule_10 (by decide) ?_
    refine lv_bipush (v := nI 20) hx hb dX0_rule_11 (by decide) ?_
    refine sC_call (As := [.int k, .int (nI 1), .int (nI 20)]) (rest := []) S (st_X0_isIn l k (nI 1) (nI 20)) q149 q150 q52 q151 hd_X0_isIn ⟨Nat.le_of_ble_eq_true rfl, Nat.le_of_ble_eq_true rfl⟩ rfl hl.1 rfl (Nat.le_of_ble_eq_true rfl) dX0_rule_13 ⟨Nat.zero_le _, Nat.zero_le _⟩ ?_
    refine W.eq (g2 := F0 mid 16 ls [.int (bI (inB k (nI 1) (nI 20)))]) rfl ?_
    refine bb_ne (tgt := 22) hx hb dX0_rule_16 (by decide) (fun c_16 => ?_) (fun c_16 => ?_)
    · obtain ⟨k1, -, hk1, rfl⟩ := in_nat c_16 (by decide) (by decide)
      have ij_k1 : ixN (nI k1) = k1 := ixN_nI (by omega)
      refine lv_aload_n hx hb dX0_rule_22 rfl (lv_at hl 0 rfl) ?_
      refine xx_getP S G 2 (by decide) q91 rfl (v := .int (nI (cM C))) rfl dX0_rule_23 ?_
      refine nz_eq (tgt := 32) hx hb (by omega) dX0_rule_26 (by decide) (fun c_26 => ?_) (fun c_26 => ?_)
      · refine lv_aload_n hx hb dX0_rule_32 rfl (lv_at hl 0 rfl) ?_
        refine lv_iload_n hx hb dX0_rule_33 rfl (lv_at hl 1 rfl) ?_
        refine xx_putP S G 3 (by decide) q92 rfl rfl rfl rfl xs_P3 dX0_rule_34 (fun H locs G => ?_)
        refine lv_aload_n hx hb dX0_rule_37 rfl (lv_at hl 0 rfl) ?_
        refine lv_iload_n hx hb dX0_rule_38 rfl (lv_at hl 2 rfl) ?_
        refine xx_putP S G 4 (by decide) q93 rfl rfl rfl rfl xs_P4 dX0_rule_39 (fun H locs G => ?_)
        refine lv_iconst (v := nI 1) hx hb dX0_rule_42 (by decide) ?_
        exact xx_iret S hr hlk G (by simp [ruR, ruC, ruB, c_6, ij_a1, c_16, ij_k1, c_26] <;> rfl) (xL_e (by simp [ruR, ruC, ruB, c_6, ij_a1, c_16, ij_k1, c_26] <;> rfl) rfl rfl) dX0_rule_43
      · refine lv_bipush (v := (-103)) hx hb dX0_rule_29 (by decide) ?_
        exact xx_iret S hr hlk G (by simp [ruR, ruC, ruB, c_6, ij_a1, c_16, ij_k1, c_26] <;> rfl) (xL_e (by simp [ruR, ruC, ruB, c_6, ij_a1, c_16, ij_k1, c_26] <;> rfl) rfl rfl) dX0_rule_31
    · refine lv_bipush (v := (-102)) hx hb dX0_rule_19 (by decide) ?_
      exact xx_iret S hr hlk G (by simp [ruR, ruC, ruB, c_6, ij_a1, c_16] <;> rfl) (xL_e (by simp [ruR, ruC, ruB, c_6, ij_a1, c_16] <;> rfl) rfl rfl) dX0_rule_21
theorem xt_X0_broken (l : Launch) (D : va_G) (dA : Nat → ClassId) (C : tp_C) (d : md_T) (j : xj_T) (hC : mOK C) : xC l D dA yX0_broken cX0_broken 1 (some .int) 0 [.ref (jA j 0)] C d j (some (.int (dI d 16))) C d j := by
  refine xx_start (own := RX0) (by decide) rfl (Nat.le_of_ble_eq_true rfl) ?_
  intro p0 e0 s0 mid bl0 me0 co0 ls S hr hlk G hl
  have hx := S.1; have hb := S.2.1; have hml := S.2.2.1; have hown := S.2.2.2.1; have hts := S.2.2.2.2; have hN := hC.n
  have hl : lv_has ls 1 [(0, .ref (jA j 0))] := hl
  refine lv_aload_n hx hb dX0_broken_0 rfl (lv_at hl 0 rfl) ?_
  refine xx_getP S G 7 (by decide) q96 rfl (v := .int (dI d 16)) rfl dX0_broken_1 ?_
  exact xx_iret S hr hlk G rfl rfl dX0_broken_4
theorem xt_X0_now (l : Launch) (D : va_G) (dA : Nat → ClassId) (C : tp_C) (d : md_T) (j : xj_T) (hC : mOK C) : xC l D dA yX0_now cX0_now 1 (some .int) 0 [.ref (jA j 0)] C d j (some (.int (nI (cM C)))) C d j := by
  refine xx_start (own := RX0) (by decide) rfl (Nat.le_of_ble_eq_true rfl) ?_
  intro p0 e0 s0 mid bl0 me0 co0 ls S hr hlk G hl
  have hx := S.1; have hb := S.2.1; have hml := S.2.2.1; have hown := S.2.2.2.1; have hts := S.2.2.2.2; have hN := hC.n
  have hl : lv_has ls 1 [(0, .ref (jA j 0))] := hl
  refine lv_aload_n hx hb dX0_now_0 rfl (lv_at hl 0 rfl) ?_
  refine xx_getP S G 2 (by decide) q91 rfl (v := .int (nI (cM C))) rfl dX0_now_1 ?_
  exact xx_iret S hr hlk G rfl rfl dX0_now_4
theorem xt_X0_time (l : Launch) (D : va_G) (dA : Nat → ClassId) (C : tp_C) (d : md_T) (j : xj_T) (hC : mOK C) : xC l D dA yX0_time cX0_time 1 (some .int) 0 [.ref (jA j 0)] C d j (some (.int (dI d 12))) C d j := by
  refine xx_start (own := RX0) (by decide) rfl (Nat.le_of_ble_eq_true rfl) ?_
  intro p0 e0 s0 mid bl0 me0 co0 ls S hr hlk G hl
  have hx := S.1; have hb := S.2.1; have hml := S.2.2.1; have hown := S.2.2.2.1; have hts := S.2.2.2.2; have hN := hC.n
  have hl : lv_has ls 1 [(0, .ref (jA j 0))] := hl
  refine lv_aload_n hx hb dX0_time_0 rfl (lv_at hl 0 rfl) ?_
  refine xx_getP S G 5 (by decide) q94 rfl (v := .int (dI d 12)) rfl dX0_time_1 ?_
  exact xx_iret S hr hlk G rfl rfl dX0_time_4
theorem xt_X0_fail (l : Launch) (D : va_G) (dA : Nat → ClassId) (C : tp_C) (d : md_T) (j : xj_T) (m : Int32) (a : Int32) (hC : mOK C) : xC l D dA yX0_fail cX0_fail 3 (some .int) 2 [.ref (jA j 0), .int m, .int a] C d j (some (.int (flR C m a))) (flC C m a) d j := by
  refine xx_start (own := RX0) (by decide) rfl (Nat.le_of_ble_eq_true rfl) ?_
  intro p0 e0 s0 mid bl0 me0 co0 ls S hr hlk G hl
  have hx := S.1; have hb := S.2.1; have hml := S.2.2.1; have hown := S.2.2.2.1; have hts := S.2.2.2.2; have hN := hC.n
  have hl : lv_has ls 3 [(0, .ref (jA j 0)), (1, .int m), (2, .int a)] := hl
  have hMo := hC.mo
  have hZ := hC.z
  refine lv_aload_n hx hb dX0_fail_0 rfl (lv_at hl 0 rfl) ?_
  refine lv_iload_n hx hb dX0_fail_1 rfl (lv_at hl 1 rfl) ?_
  refine xx_callP (As := [.int m]) (rest := []) S G (xt_X0_isModule l D dA C d j m hC) q575 q577 qs0 q578 hd_X0_isModule ⟨Nat.le_of_ble_eq_true rfl, Nat.le_of_ble_eq_true rfl⟩ rfl hl.1 rfl (Nat.le_of_ble_eq_true rfl) dX0_fail_2 ⟨Nat.zero_le _, Nat.zero_le _⟩ (fun H locs G => ?_)
  refine W.eq (g2 := F0 mid 5 ls [.int (bI (inB m (nI 0) (nI (cN C) - nI 1)))]) rfl ?_
  refine bb_ne (tgt := 11) hx hb dX0_fail_5 (by decide) (fun c_5 => ?_) (fun c_5 => ?_)
  · obtain ⟨u, hu, rfl⟩ := im_nat c_5 hN
    have ij_u : ixN (nI u) = u := ixN_nI (by omega)
    refine lv_iload_n hx hb dX0_fail_11 rfl (lv_at hl 2 rfl) ?_
    refine lv_iconst (v := nI 0) hx hb dX0_fail_12 (by decide) ?_
    refine lv_sipush (v := nI 300) hx hb dX0_fail_13 (by decide) ?_
    refine sC_call (As := [.int a, .int (nI 0), .int (nI 300)]) (rest := []) S (st_X0_isIn l a (nI 0) (nI 300)) q149 q150 q52 q151 hd_X0_isIn ⟨Nat.le_of_ble_eq_true rfl, Nat.le_of_ble_eq_true rfl⟩ rfl hl.1 rfl (Nat.le_of_ble_eq_true rfl) dX0_fail_16 ⟨Nat.zero_le _, Nat.zero_le _⟩ ?_
    refine W.eq (g2 := F0 mid 19 ls [.int (bI (inB a (nI 0) (nI 300)))]) rfl ?_
    refine bb_ne (tgt := 25) hx hb dX0_fail_19 (by decide) (fun c_19 => ?_) (fun c_19 => ?_)
    · obtain ⟨a1, -, ha1, rfl⟩ := in_nat c_19 (by decide) (by decide)
      have ij_a1 : ixN (nI a1) = a1 := ixN_nI (by omega)
      refine lv_aload_n hx hb dX0_fail_25 rfl (lv_at hl 0 rfl) ?_
      refine xx_getP S G 0 (by decide) q89 rfl (v := .ref (jA j 1)) rfl dX0_fail_26 ?_
      refine lv_iload_n hx hb dX0_fail_29 rfl (lv_at hl 1 rfl) ?_
      refine xx_aald S G (r := 1) (by decide) (xW_p (by decide) rfl) (i := u) (by omega) (by decide) (o := some (jA j (xr u 0))) (if_pos (by omega)) dX0_fail_30 ?_
      refine W.eq (g2 := F0 mid 31 ls [.ref (jA j (xr u 0))]) rfl ?_
      refine lv_iload_n hx hb dX0_fail_31 rfl (lv_at hl 2 rfl) ?_
      refine xx_put11 S G (mm := u) (by omega) hN (hC.k _) 10 (by decide) q233 rfl rfl rfl rfl (xs_fails (by omega)) dX0_fail_32 (fun H locs G => ?_)
      refine lv_iconst (v := nI 1) hx hb dX0_fail_35 (by decide) ?_
      exact xx_iret S hr hlk G (by simp [flR, flC, imB, c_5, ij_u, c_19, ij_a1] <;> rfl) (xL_e (by simp [flR, flC, imB, c_5, ij_u, c_19, ij_a1] <;> rfl) rfl rfl) dX0_fail_36
    · refine lv_bipush (v := (-102)) hx hb dX0_fail_22 (by decide) ?_
      exact xx_iret S hr hlk G (by simp [flR, flC, imB, c_5, ij_u, c_19] <;> rfl) (xL_e (by simp [flR, flC, imB, c_5, ij_u, c_19] <;> rfl) rfl rfl) dX0_fail_24
  · refine lv_bipush (v := (-101)) hx hb dX0_fail_8 (by decide) ?_
    exact xx_iret S hr hlk G (by simp [flR, flC, imB, c_5] <;> rfl) (xL_e (by simp [flR, flC, imB, c_5] <;> rfl) rfl rfl) dX0_fail_10
theorem xt_X0_reading (l : Launch) (D : va_G) (dA : Nat → ClassId) (C : tp_C) (d : md_T) (j : xj_T) (m : Int32) (hC : mOK C) (hR : rOK d) : xC l D dA yX0_reading cX0_reading 2 (some .long) 3 [.ref (jA j 0), .int m] C d j (some (.long (rdL C d 19 m))) C d j := by
  refine xx_start (own := RX0) (by decide) rfl (Nat.le_of_ble_eq_true rfl) ?_
  intro p0 e0 s0 mid bl0 me0 co0 ls S hr hlk G hl
  have hx := S.1; have hb := S.2.1; have hml := S.2.2.1; have hown := S.2.2.2.1; have hts := S.2.2.2.2; have hN := hC.n
  have hl : lv_has ls 2 [(0, .ref (jA j 0)), (1, .int m)] := hl
  have hMo := hC.mo
  have hZ := hC.z
  refine lv_aload_n hx hb dX0_reading_0 rfl (lv_at hl 0 rfl) ?_
  refine lv_iload_n hx hb dX0_reading_1 rfl (lv_at hl 1 rfl) ?_
  refine xx_callP (As := [.int m]) (rest := []) S G (xt_X0_isRead l D dA C d j m hC) q1151 q1153 qs13 q1154 hd_X0_isRead ⟨Nat.le_of_ble_eq_true rfl, Nat.le_of_ble_eq_true rfl⟩ rfl hl.1 rfl (Nat.le_of_ble_eq_true rfl) dX0_reading_2 ⟨Nat.zero_le _, Nat.zero_le _⟩ (fun H locs G => ?_)
  refine W.eq (g2 := F0 mid 5 ls [.int (bI (!decide (cM C = 0) && imB C m))]) rfl ?_
  refine bb_eq (tgt := 23) hx hb dX0_reading_5 (by decide) (fun c_5 => ?_) (fun c_5 => ?_)
  · have cn := isr_f c_5
    refine lv_lconst (v := 0) hx hb dX0_reading_23 (by decide) ?_
    exact xx_lret S hr hlk G (by exact (if_neg cn).symm) rfl dX0_reading_24
  · obtain ⟨ca, cb⟩ := isr c_5
    obtain ⟨u, hu, rfl⟩ := im_nat cb hN
    have ij_u : ixN (nI u) = u := ixN_nI (by omega)
    refine lv_aload_n hx hb dX0_reading_8 rfl (lv_at hl 0 rfl) ?_
    refine xx_getP S G 0 (by decide) q89 rfl (v := .ref (jA j 1)) rfl dX0_reading_9 ?_
    refine lv_iload_n hx hb dX0_reading_12 rfl (lv_at hl 1 rfl) ?_
    refine xx_aald S G (r := 1) (by decide) (xW_p (by decide) rfl) (i := u) (by omega) (by decide) (o := some (jA j (xr u 0))) (if_pos (by omega)) dX0_reading_13 ?_
    refine W.eq (g2 := F0 mid 14 ls [.ref (jA j (xr u 0))]) rfl ?_
    refine xx_get11 S G (mm := u) (by omega) hN (hC.k _) 6 (by decide) q226 rfl (v := .double (dAD d 19 u)) rfl dX0_reading_14 ?_
    refine sC_call (As := [.double (dAD d 19 u)]) (rest := []) S (st_J0_doubleToLongBits l (dAD d 19 u) (bD_n (hR.rd _))) q1155 q1156 q55 q1157 hd_J0_doubleToLongBits ⟨Nat.le_of_ble_eq_true rfl, Nat.le_of_ble_eq_true rfl⟩ rfl hl.1 rfl (Nat.le_of_ble_eq_true rfl) dX0_reading_17 ⟨Nat.zero_le _, Nat.zero_le _⟩ ?_
    refine W.eq (g2 := F0 mid 20 ls [.long (((dAD d 19 u)).toInt64)]) rfl ?_
    refine lv_goto (tgt := 24) hx hb dX0_reading_20 (by decide) ?_
    exact xx_lret S hr hlk G (by simp [rdL, ca, cb, ij_u] <;> rfl) rfl dX0_reading_24
theorem xt_X0_single (l : Launch) (D : va_G) (dA : Nat → ClassId) (C : tp_C) (d : md_T) (j : xj_T) (m : Int32) (hC : mOK C) (hR : rOK d) : xC l D dA yX0_single cX0_single 2 (some .int) 3 [.ref (jA j 0), .int m] C d j (some (.int (siI C d m))) C d j := by
  refine xx_start (own := RX0) (by decide) rfl (Nat.le_of_ble_eq_true rfl) ?_
  intro p0 e0 s0 mid bl0 me0 co0 ls S hr hlk G hl
  have hx := S.1; have hb := S.2.1; have hml := S.2.2.1; have hown := S.2.2.2.1; have hts := S.2.2.2.2; have hN := hC.n
  have hl : lv_has ls 2 [(0, .ref (jA j 0)), (1, .int m)] := hl
  have hMo := hC.mo
  have hZ := hC.z
  refine lv_aload_n hx hb dX0_single_0 rfl (lv_at hl 0 rfl) ?_
  refine lv_iload_n hx hb dX0_single_1 rfl (lv_at hl 1 rfl) ?_
  refine xx_callP (As := [.int m]) (rest := []) S G (xt_X0_isRead l D dA C d j m hC) q1151 q1153 qs13 q1154 hd_X0_isRead ⟨Nat.le_of_ble_eq_true rfl, Nat.le_of_ble_eq_true rfl⟩ rfl hl.1 rfl (Nat.le_of_ble_eq_true rfl) dX0_single_2 ⟨Nat.zero_le _, Nat.zero_le _⟩ (fun H locs G => ?_)
  refine W.eq (g2 := F0 mid 5 ls [.int (bI (!decide (cM C = 0) && imB C m))]) rfl ?_
  refine bb_eq (tgt := 23) hx hb dX0_single_5 (by decide) (fun c_5 => ?_) (fun c_5 => ?_)
  · have cn := isr_f c_5
    refine lv_iconst (v := nI 0) hx hb dX0_single_23 (by decide) ?_
    exact xx_iret S hr hlk G (by exact (if_neg cn).symm) rfl dX0_single_24
  · obtain ⟨ca, cb⟩ := isr c_5
    obtain ⟨u, hu, rfl⟩ := im_nat cb hN
    have ij_u : ixN (nI u) = u := ixN_nI (by omega)
    refine lv_aload_n hx hb dX0_single_8 rfl (lv_at hl 0 rfl) ?_
    refine xx_getP S G 0 (by decide) q89 rfl (v := .ref (jA j 1)) rfl dX0_single_9 ?_
    refine lv_iload_n hx hb dX0_single_12 rfl (lv_at hl 1 rfl) ?_
    refine xx_aald S G (r := 1) (by decide) (xW_p (by decide) rfl) (i := u) (by omega) (by decide) (o := some (jA j (xr u 0))) (if_pos (by omega)) dX0_single_13 ?_
    refine W.eq (g2 := F0 mid 14 ls [.ref (jA j (xr u 0))]) rfl ?_
    refine xx_get11 S G (mm := u) (by omega) hN (hC.k _) 7 (by decide) q228 rfl (v := .float (dAF d 20 u)) rfl dX0_single_14 ?_
    refine sC_call (As := [.float (dAF d 20 u)]) (rest := []) S (st_J6_floatToIntBits l (dAF d 20 u) (bF_n (hR.rf _))) q1167 q1168 q78 q1169 hd_J6_floatToIntBits ⟨Nat.le_of_ble_eq_true rfl, Nat.le_of_ble_eq_true rfl⟩ rfl hl.1 rfl (Nat.le_of_ble_eq_true rfl) dX0_single_17 ⟨Nat.zero_le _, Nat.zero_le _⟩ ?_
    refine W.eq (g2 := F0 mid 20 ls [.int (((dAF d 20 u)).toInt32)]) rfl ?_
    refine lv_goto (tgt := 24) hx hb dX0_single_20 (by decide) ?_
    exact xx_iret S hr hlk G (by simp [siI, ca, cb, ij_u] <;> rfl) rfl dX0_single_24
theorem xt_X0_lamp (l : Launch) (D : va_G) (dA : Nat → ClassId) (C : tp_C) (d : md_T) (j : xj_T) (m : Int32) (hC : mOK C) : xC l D dA yX0_lamp cX0_lamp 2 (some .int) 2 [.ref (jA j 0), .int m] C d j (some (.int (if imB C m then dAI d 24 (ixN m) else (-101)))) C d j := by
  refine xx_start (own := RX0) (by decide) rfl (Nat.le_of_ble_eq_true rfl) ?_
  intro p0 e0 s0 mid bl0 me0 co0 ls S hr hlk G hl
  have hx := S.1; have hb := S.2.1; have hml := S.2.2.1; have hown := S.2.2.2.1; have hts := S.2.2.2.2; have hN := hC.n
  have hl : lv_has ls 2 [(0, .ref (jA j 0)), (1, .int m)] := hl
  have hMo := hC.mo
  have hZ := hC.z
  refine lv_aload_n hx hb dX0_lamp_0 rfl (lv_at hl 0 rfl) ?_
  refine lv_iload_n hx hb dX0_lamp_1 rfl (lv_at hl 1 rfl) ?_
  refine xx_callP (As := [.int m]) (rest := []) S G (xt_X0_isModule l D dA C d j m hC) q575 q577 qs0 q578 hd_X0_isModule ⟨Nat.le_of_ble_eq_true rfl, Nat.le_of_ble_eq_true rfl⟩ rfl hl.1 rfl (Nat.le_of_ble_eq_true rfl) dX0_lamp_2 ⟨Nat.zero_le _, Nat.zero_le _⟩ (fun H locs G => ?_)
  refine W.eq (g2 := F0 mid 5 ls [.int (bI (inB m (nI 0) (nI (cN C) - nI 1)))]) rfl ?_
  refine bb_eq (tgt := 20) hx hb dX0_lamp_5 (by decide) (fun c_5 => ?_) (fun c_5 => ?_)
  · refine lv_bipush (v := (-101)) hx hb dX0_lamp_20 (by decide) ?_
    exact xx_iret S hr hlk G (by simp [imB, c_5] <;> rfl) rfl dX0_lamp_22
  · obtain ⟨u, hu, rfl⟩ := im_nat c_5 hN
    have ij_u : ixN (nI u) = u := ixN_nI (by omega)
    refine lv_aload_n hx hb dX0_lamp_8 rfl (lv_at hl 0 rfl) ?_
    refine xx_getP S G 0 (by decide) q89 rfl (v := .ref (jA j 1)) rfl dX0_lamp_9 ?_
    refine lv_iload_n hx hb dX0_lamp_12 rfl (lv_at hl 1 rfl) ?_
    refine xx_aald S G (r := 1) (by decide) (xW_p (by decide) rfl) (i := u) (by omega) (by decide) (o := some (jA j (xr u 0))) (if_pos (by omega)) dX0_lamp_13 ?_
    refine W.eq (g2 := F0 mid 14 ls [.ref (jA j (xr u 0))]) rfl ?_
    refine xx_get11 S G (mm := u) (by omega) hN (hC.k _) 8 (by decide) q230 rfl (v := .int (dAI d 24 u)) rfl dX0_lamp_14 ?_
    refine lv_goto (tgt := 22) hx hb dX0_lamp_17 (by decide) ?_
    exact xx_iret S hr hlk G (by simp [imB, c_5, ij_u] <;> rfl) rfl dX0_lamp_22
theorem xt_X0_apart (l : Launch) (D : va_G) (dA : Nat → ClassId) (C : tp_C) (d : md_T) (j : xj_T) (m : Int32) (hC : mOK C) (hA : ∀ k, vf_n64 (dAD d 25 k)) : xC l D dA yX0_apart cX0_apart 2 (some .long) 3 [.ref (jA j 0), .int m] C d j (some (.long (rdL C d 25 m))) C d j := by
  refine xx_start (own := RX0) (by decide) rfl (Nat.le_of_ble_eq_true rfl) ?_
  intro p0 e0 s0 mid bl0 me0 co0 ls S hr hlk G hl
  have hx := S.1; have hb := S.2.1; have hml := S.2.2.1; have hown := S.2.2.2.1; have hts := S.2.2.2.2; have hN := hC.n
  have hl : lv_has ls 2 [(0, .ref (jA j 0)), (1, .int m)] := hl
  have hMo := hC.mo
  have hZ := hC.z
  refine lv_aload_n hx hb dX0_apart_0 rfl (lv_at hl 0 rfl) ?_
  refine lv_iload_n hx hb dX0_apart_1 rfl (lv_at hl 1 rfl) ?_
  refine xx_callP (As := [.int m]) (rest := []) S G (xt_X0_isRead l D dA C d j m hC) q1151 q1153 qs13 q1154 hd_X0_isRead ⟨Nat.le_of_ble_eq_true rfl, Nat.le_of_ble_eq_true rfl⟩ rfl hl.1 rfl (Nat.le_of_ble_eq_true rfl) dX0_apart_2 ⟨Nat.zero_le _, Nat.zero_le _⟩ (fun H locs G => ?_)
  refine W.eq (g2 := F0 mid 5 ls [.int (bI (!decide (cM C = 0) && imB C m))]) rfl ?_
  refine bb_eq (tgt := 23) hx hb dX0_apart_5 (by decide) (fun c_5 => ?_) (fun c_5 => ?_)
  · have cn := isr_f c_5
    refine lv_lconst (v := 0) hx hb dX0_apart_23 (by decide) ?_
    exact xx_lret S hr hlk G (by exact (if_neg cn).symm) rfl dX0_apart_24
  · obtain ⟨ca, cb⟩ := isr c_5
    obtain ⟨u, hu, rfl⟩ := im_nat cb hN
    have ij_u : ixN (nI u) = u := ixN_nI (by omega)
    refine lv_aload_n hx hb dX0_apart_8 rfl (lv_at hl 0 rfl) ?_
    refine xx_getP S G 0 (by decide) q89 rfl (v := .ref (jA j 1)) rfl dX0_apart_9 ?_
    refine lv_iload_n hx hb dX0_apart_12 rfl (lv_at hl 1 rfl) ?_
    refine xx_aald S G (r := 1) (by decide) (xW_p (by decide) rfl) (i := u) (by omega) (by decide) (o := some (jA j (xr u 0))) (if_pos (by omega)) dX0_apart_13 ?_
    refine W.eq (g2 := F0 mid 14 ls [.ref (jA j (xr u 0))]) rfl ?_
    refine xx_get11 S G (mm := u) (by omega) hN (hC.k _) 9 (by decide) q232 rfl (v := .double (dAD d 25 u)) rfl dX0_apart_14 ?_
    refine sC_call (As := [.double (dAD d 25 u)]) (rest := []) S (st_J0_doubleToLongBits l (dAD d 25 u) (hA _)) q1155 q1156 q55 q1157 hd_J0_doubleToLongBits ⟨Nat.le_of_ble_eq_true rfl, Nat.le_of_ble_eq_true rfl⟩ rfl hl.1 rfl (Nat.le_of_ble_eq_true rfl) dX0_apart_17 ⟨Nat.zero_le _, Nat.zero_le _⟩ ?_
    refine W.eq (g2 := F0 mid 20 ls [.long (((dAD d 25 u)).toInt64)]) rfl ?_
    refine lv_goto (tgt := 24) hx hb dX0_apart_20 (by decide) ?_
    exact xx_lret S hr hlk G (by simp [rdL, ca, cb, ij_u] <;> rfl) rfl dX0_apart_24
theorem xt_X0_rate (l : Launch) (D : va_G) (dA : Nat → ClassId) (C : tp_C) (d : md_T) (j : xj_T) (m : Int32) (hC : mOK C) (hA : ∀ k, vf_n64 (dAD d 26 k)) (hSr : ¬ cM C = 0 → ∀ m, m < cN C → cK C m = 2 → jSr j m = dAD d 26 m) : xC l D dA yX0_rate cX0_rate 2 (some .long) 3 [.ref (jA j 0), .int m] C d j (some (.long (raL C d m))) C d j := by
  refine xx_start (own := RX0) (by decide) rfl (Nat.le_of_ble_eq_true rfl) ?_
  intro p0 e0 s0 mid bl0 me0 co0 ls S hr hlk G hl
  have hx := S.1; have hb := S.2.1; have hml := S.2.2.1; have hown := S.2.2.2.1; have hts := S.2.2.2.2; have hN := hC.n
  have hl : lv_has ls 2 [(0, .ref (jA j 0)), (1, .int m)] := hl
  have hMo := hC.mo
  have hZ := hC.z
  refine lv_aload_n hx hb dX0_rate_0 rfl (lv_at hl 0 rfl) ?_
  refine lv_iload_n hx hb dX0_rate_1 rfl (lv_at hl 1 rfl) ?_
  refine xx_callP (As := [.int m]) (rest := []) S G (xt_X0_isRead l D dA C d j m hC) q1151 q1153 qs13 q1154 hd_X0_isRead ⟨Nat.le_of_ble_eq_true rfl, Nat.le_of_ble_eq_true rfl⟩ rfl hl.1 rfl (Nat.le_of_ble_eq_true rfl) dX0_rate_2 ⟨Nat.zero_le _, Nat.zero_le _⟩ (fun H locs G => ?_)
  refine W.eq (g2 := F0 mid 5 ls [.int (bI (!decide (cM C = 0) && imB C m))]) rfl ?_
  refine bb_eq (tgt := 39) hx hb dX0_rate_5 (by decide) (fun c_5 => ?_) (fun c_5 => ?_)
  · have cn := isr_f c_5
    refine lv_lconst (v := 0) hx hb dX0_rate_39 (by decide) ?_
    exact xx_lret S hr hlk G (by exact (if_neg (fun q => cn ⟨q.1, q.2.1⟩)).symm) rfl dX0_rate_40
  · obtain ⟨ca, cb⟩ := isr c_5
    obtain ⟨u, hu, rfl⟩ := im_nat cb hN
    have ij_u : ixN (nI u) = u := ixN_nI (by omega)
    have hk14 := hC.k u
    refine lv_aload_n hx hb dX0_rate_8 rfl (lv_at hl 0 rfl) ?_
    refine xx_getP S G 0 (by decide) q89 rfl (v := .ref (jA j 1)) rfl dX0_rate_9 ?_
    refine lv_iload_n hx hb dX0_rate_12 rfl (lv_at hl 1 rfl) ?_
    refine xx_aald S G (r := 1) (by decide) (xW_p (by decide) rfl) (i := u) (by omega) (by decide) (o := some (jA j (xr u 0))) (if_pos (by omega)) dX0_rate_13 ?_
    refine W.eq (g2 := F0 mid 14 ls [.ref (jA j (xr u 0))]) rfl ?_
    refine xx_get11 S G (mm := u) (by omega) hN (hC.k _) 0 (by decide) q203 rfl (v := .int (nI (cK C u))) rfl dX0_rate_14 ?_
    refine lv_iconst (v := nI 2) hx hb dX0_rate_17 (by decide) ?_
    refine nn_cne (tgt := 39) hx hb (by omega) (by omega) dX0_rate_18 (by decide) (fun c_18 => ?_) (fun c_18 => ?_)
    · refine lv_lconst (v := 0) hx hb dX0_rate_39 (by decide) ?_
      exact xx_lret S hr hlk G (by simp [raL, ca, cb, ij_u, c_18] <;> rfl) rfl dX0_rate_40
    · refine lv_aload_n hx hb dX0_rate_21 rfl (lv_at hl 0 rfl) ?_
      refine xx_getP S G 0 (by decide) q89 rfl (v := .ref (jA j 1)) rfl dX0_rate_22 ?_
      refine lv_iload_n hx hb dX0_rate_25 rfl (lv_at hl 1 rfl) ?_
      refine xx_aald S G (r := 1) (by decide) (xW_p (by decide) rfl) (i := u) (by omega) (by decide) (o := some (jA j (xr u 0))) (if_pos (by omega)) dX0_rate_26 ?_
      refine W.eq (g2 := F0 mid 27 ls [.ref (jA j (xr u 0))]) rfl ?_
      refine xx_cast S G (mm := u) (by omega) hN (hC.k _) (by rw [c_18]; exact q275) dX0_rate_27 ?_
      refine xx_getM S G (mm := u) (ref := "TwinPanel$Gather") (by omega) hN (hC.k _) 17 (by rw [c_18]; decide) (by rw [c_18]; exact hts _ q288) (by rw [c_18]; exact fun x h => h) (v := .double (dAD d 26 u)) ((xV_2_17 c_18).trans (by rw [hSr ca u hu c_18])) dX0_rate_30 ?_
      refine sC_call (As := [.double (dAD d 26 u)]) (rest := []) S (st_J0_doubleToLongBits l (dAD d 26 u) (hA _)) q1155 q1156 q55 q1157 hd_J0_doubleToLongBits ⟨Nat.le_of_ble_eq_true rfl, Nat.le_of_ble_eq_true rfl⟩ rfl hl.1 rfl (Nat.le_of_ble_eq_true rfl) dX0_rate_33 ⟨Nat.zero_le _, Nat.zero_le _⟩ ?_
      refine W.eq (g2 := F0 mid 36 ls [.long (((dAD d 26 u)).toInt64)]) rfl ?_
      refine lv_goto (tgt := 40) hx hb dX0_rate_36 (by decide) ?_
      exact xx_lret S hr hlk G (by simp [raL, ca, cb, ij_u, c_18] <;> rfl) rfl dX0_rate_40
theorem xt_X0_strip (l : Launch) (D : va_G) (dA : Nat → ClassId) (C : tp_C) (d : md_T) (j : xj_T) (m : Int32) (hC : mOK C) : xC l D dA yX0_strip cX0_strip 2 (some .int) 2 [.ref (jA j 0), .int m] C d j (some (.int (spR C m))) (spC C m) (spD C m d) j := by
  refine xx_start (own := RX0) (by decide) rfl (Nat.le_of_ble_eq_true rfl) ?_
  intro p0 e0 s0 mid bl0 me0 co0 ls S hr hlk G hl
  have hx := S.1; have hb := S.2.1; have hml := S.2.2.1; have hown := S.2.2.2.1; have hts := S.2.2.2.2; have hN := hC.n
  have hl : lv_has ls 2 [(0, .ref (jA j 0)), (1, .int m)] := hl
  have hMo := hC.mo
  have hZ := hC.z
  refine lv_aload_n hx hb dX0_strip_0 rfl (lv_at hl 0 rfl) ?_
  refine lv_iload_n hx hb dX0_strip_1 rfl (lv_at hl 1 rfl) ?_
  refine xx_callP (As := [.int m]) (rest := []) S G (xt_X0_isModule l D dA C d j m hC) q575 q577 qs0 q578 hd_X0_isModule ⟨Nat.le_of_ble_eq_true rfl, Nat.le_of_ble_eq_true rfl⟩ rfl hl.1 rfl (Nat.le_of_ble_eq_true rfl) dX0_strip_2 ⟨Nat.zero_le _, Nat.zero_le _⟩ (fun H locs G => ?_)
  refine W.eq (g2 := F0 mid 5 ls [.int (bI (inB m (nI 0) (nI (cN C) - nI 1)))]) rfl ?_
  refine bb_ne (tgt := 11) hx hb dX0_strip_5 (by decide) (fun c_5 => ?_) (fun c_5 => ?_)
  · obtain ⟨u, hu, rfl⟩ := im_nat c_5 hN
    have ij_u : ixN (nI u) = u := ixN_nI (by omega)
    refine lv_aload_n hx hb dX0_strip_11 rfl (lv_at hl 0 rfl) ?_
    refine xx_getP S G 2 (by decide) q91 rfl (v := .int (nI (cM C))) rfl dX0_strip_12 ?_
    refine nz_eq (tgt := 21) hx hb (by omega) dX0_strip_15 (by decide) (fun c_15 => ?_) (fun c_15 => ?_)
    · refine lv_aload_n hx hb dX0_strip_21 rfl (lv_at hl 0 rfl) ?_
      refine xx_getP S G 9 (by decide) q98 rfl (v := .int (nI (cZ C))) rfl dX0_strip_22 ?_
      refine lv_bipush (v := nI 6) hx hb dX0_strip_25 (by decide) ?_
      refine nn_cne (tgt := 33) hx hb (by omega) (by omega) dX0_strip_27 (by decide) (fun c_27 => ?_) (fun c_27 => ?_)
      · refine lv_aload_n hx hb dX0_strip_33 rfl (lv_at hl 0 rfl) ?_
        refine xx_getP S G 8 (by decide) q97 rfl (v := .ref (jA j 2)) rfl dX0_strip_34 ?_
        refine lv_aload_n hx hb dX0_strip_37 rfl (lv_at hl 0 rfl) ?_
        refine xx_getP S G 9 (by decide) q98 rfl (v := .int (nI (cZ C))) rfl dX0_strip_38 ?_
        refine lv_iload_n hx hb dX0_strip_41 rfl (lv_at hl 1 rfl) ?_
        refine xx_iast S G (r := 2) (by decide) (xW_p (by decide) rfl) 0 rfl (i := cZ C) (by omega) (by decide) xs_R2 dX0_strip_42 (fun H locs G => ?_)
        refine lv_aload_n hx hb dX0_strip_43 rfl (lv_at hl 0 rfl) ?_
        refine xx_getP S G 11 (by decide) q100 rfl (v := .ref (jA j 4)) rfl dX0_strip_44 ?_
        refine lv_aload_n hx hb dX0_strip_47 rfl (lv_at hl 0 rfl) ?_
        refine xx_getP S G 9 (by decide) q98 rfl (v := .int (nI (cZ C))) rfl dX0_strip_48 ?_
        refine lv_iconst (v := nI 0) hx hb dX0_strip_51 (by decide) ?_
        refine xx_iast S G (r := 4) (by decide) (xW_p (by decide) rfl) 0 rfl (i := cZ C) (by omega) (by decide) xs_R4 dX0_strip_52 (fun H locs G => ?_)
        refine lv_aload_n hx hb dX0_strip_53 rfl (lv_at hl 0 rfl) ?_
        refine lv_dup hx hb dX0_strip_54 rfl ?_
        refine xx_getP S G 9 (by decide) q98 rfl (v := .int (nI (cZ C))) rfl dX0_strip_55 ?_
        refine lv_iconst (v := nI 1) hx hb dX0_strip_58 (by decide) ?_
        refine nn_add hx hb dX0_strip_59 ?_
        refine xx_putP S G 9 (by decide) q98 rfl rfl rfl rfl xs_P9 dX0_strip_60 (fun H locs G => ?_)
        refine lv_aload_n hx hb dX0_strip_63 rfl (lv_at hl 0 rfl) ?_
        refine xx_getP S G 9 (by decide) q98 rfl (v := .int (nI (cZ C + 1))) rfl dX0_strip_64 ?_
        refine lv_iconst (v := nI 1) hx hb dX0_strip_67 (by decide) ?_
        refine nn_sub hx hb (by omega) dX0_strip_68 ?_
        exact xx_iret S hr hlk G (by simp [spR, spC, spD, imB, c_5, ij_u, c_15, c_27] <;> rfl) (xL_e (by simp [spR, spC, spD, imB, c_5, ij_u, c_15, c_27] <;> rfl) (by simp [spR, spC, spD, imB, c_5, ij_u, c_15, c_27] <;> rfl) rfl) dX0_strip_69
      · refine lv_bipush (v := (-104)) hx hb dX0_strip_30 (by decide) ?_
        exact xx_iret S hr hlk G (by simp [spR, spC, spD, imB, c_5, ij_u, c_15, c_27] <;> rfl) (xL_e (by simp [spR, spC, spD, imB, c_5, ij_u, c_15, c_27] <;> rfl) (by simp [spR, spC, spD, imB, c_5, ij_u, c_15, c_27] <;> rfl) rfl) dX0_strip_32
    · refine lv_bipush (v := (-103)) hx hb dX0_strip_18 (by decide) ?_
      exact xx_iret S hr hlk G (by simp [spR, spC, spD, imB, c_5, ij_u, c_15] <;> rfl) (xL_e (by simp [spR, spC, spD, imB, c_5, ij_u, c_15] <;> rfl) (by simp [spR, spC, spD, imB, c_5, ij_u, c_15] <;> rfl) rfl) dX0_strip_20
  · refine lv_bipush (v := (-101)) hx hb dX0_strip_8 (by decide) ?_
    exact xx_iret S hr hlk G (by simp [spR, spC, spD, imB, c_5] <;> rfl) (xL_e (by simp [spR, spC, spD, imB, c_5] <;> rfl) (by simp [spR, spC, spD, imB, c_5] <;> rfl) rfl) dX0_strip_10
theorem xt_X0_samples (l : Launch) (D : va_G) (dA : Nat → ClassId) (C : tp_C) (d : md_T) (j : xj_T) (s : Int32) (hC : mOK C) : xC l D dA yX0_samples cX0_samples 2 (some .int) 2 [.ref (jA j 0), .int s] C d j (some (.int (if isB C s then dAI d 39 (ixN s) else (-101)))) C d j := by
  refine xx_start (own := RX0) (by decide) rfl (Nat.le_of_ble_eq_true rfl) ?_
  intro p0 e0 s0 mid bl0 me0 co0 ls S hr hlk G hl
  have hx := S.1; have hb := S.2.1; have hml := S.2.2.1; have hown := S.2.2.2.1; have hts := S.2.2.2.2; have hN := hC.n
  have hl : lv_has ls 2 [(0, .ref (jA j 0)), (1, .int s)] := hl
  have hMo := hC.mo
  have hZ := hC.z
  refine lv_aload_n hx hb dX0_samples_0 rfl (lv_at hl 0 rfl) ?_
  refine lv_iload_n hx hb dX0_samples_1 rfl (lv_at hl 1 rfl) ?_
  refine xx_callP (As := [.int s]) (rest := []) S G (xt_X0_isStrip l D dA C d j s hC) q1197 q1199 qs14 q1200 hd_X0_isStrip ⟨Nat.le_of_ble_eq_true rfl, Nat.le_of_ble_eq_true rfl⟩ rfl hl.1 rfl (Nat.le_of_ble_eq_true rfl) dX0_samples_2 ⟨Nat.zero_le _, Nat.zero_le _⟩ (fun H locs G => ?_)
  refine W.eq (g2 := F0 mid 5 ls [.int (bI (inB s (nI 0) (nI (cZ C) - nI 1)))]) rfl ?_
  refine bb_eq (tgt := 17) hx hb dX0_samples_5 (by decide) (fun c_5 => ?_) (fun c_5 => ?_)
  · refine lv_bipush (v := (-101)) hx hb dX0_samples_17 (by decide) ?_
    exact xx_iret S hr hlk G (by simp [isB, c_5] <;> rfl) rfl dX0_samples_19
  · obtain ⟨u, hu, rfl⟩ := is_nat c_5 hZ
    have ij_u : ixN (nI u) = u := ixN_nI (by omega)
    refine lv_aload_n hx hb dX0_samples_8 rfl (lv_at hl 0 rfl) ?_
    refine xx_getP S G 11 (by decide) q100 rfl (v := .ref (jA j 4)) rfl dX0_samples_9 ?_
    refine lv_iload_n hx hb dX0_samples_12 rfl (lv_at hl 1 rfl) ?_
    refine xx_iald S G (r := 4) (by decide) (xW_p (by decide) rfl) 0 rfl (i := u) (by omega) (by decide) (v := dAI d 39 u) rfl dX0_samples_13 ?_
    refine lv_goto (tgt := 19) hx hb dX0_samples_14 (by decide) ?_
    exact xx_iret S hr hlk G (by simp [isB, c_5, ij_u] <;> rfl) rfl dX0_samples_19
theorem xt_X0_sample_2 (l : Launch) (D : va_G) (dA : Nat → ClassId) (C : tp_C) (d : md_T) (j : xj_T) (s : Int32) (i : Int32) (hC : mOK C) (hSm : smOK d) (hq : ∀ k, bD 1075 (dAD d 40 k)) : xC l D dA yX0_sample_2 cX0_sample_2 3 (some .long) 2 [.ref (jA j 0), .int s, .int i] C d j (some (.long (smpL C d s i))) C d j := by
  refine xx_start (own := RX0) (by decide) rfl (Nat.le_of_ble_eq_true rfl) ?_
  intro p0 e0 s0 mid bl0 me0 co0 ls S hr hlk G hl
  have hx := S.1; have hb := S.2.1; have hml := S.2.2.1; have hown := S.2.2.2.1; have hts := S.2.2.2.2; have hN := hC.n
  have hl : lv_has ls 3 [(0, .ref (jA j 0)), (1, .int s), (2, .int i)] := hl
  have hMo := hC.mo
  have hZ := hC.z
  refine lv_aload_n hx hb dX0_sample_2_0 rfl (lv_at hl 0 rfl) ?_
  refine lv_iload_n hx hb dX0_sample_2_1 rfl (lv_at hl 1 rfl) ?_
  refine xx_callP (As := [.int s]) (rest := []) S G (xt_X0_isStrip l D dA C d j s hC) q1197 q1199 qs14 q1200 hd_X0_isStrip ⟨Nat.le_of_ble_eq_true rfl, Nat.le_of_ble_eq_true rfl⟩ rfl hl.1 rfl (Nat.le_of_ble_eq_true rfl) dX0_sample_2_2 ⟨Nat.zero_le _, Nat.zero_le _⟩ (fun H locs G => ?_)
  refine W.eq (g2 := F0 mid 5 ls [.int (bI (inB s (nI 0) (nI (cZ C) - nI 1)))]) rfl ?_
  refine bb_eq (tgt := 41) hx hb dX0_sample_2_5 (by decide) (fun c_5 => ?_) (fun c_5 => ?_)
  · refine lv_lconst (v := 0) hx hb dX0_sample_2_41 (by decide) ?_
    exact xx_lret S hr hlk G (by simp [isB, smpL, c_5] <;> rfl) rfl dX0_sample_2_42
  · obtain ⟨u, hu, rfl⟩ := is_nat c_5 hZ
    have ij_u : ixN (nI u) = u := ixN_nI (by omega)
    have hc := hSm.le u
    refine lv_iload_n hx hb dX0_sample_2_8 rfl (lv_at hl 2 rfl) ?_
    refine lv_iconst (v := nI 0) hx hb dX0_sample_2_9 (by decide) ?_
    refine lv_aload_n hx hb dX0_sample_2_10 rfl (lv_at hl 0 rfl) ?_
    refine xx_getP S G 11 (by decide) q100 rfl (v := .ref (jA j 4)) rfl dX0_sample_2_11 ?_
    refine lv_iload_n hx hb dX0_sample_2_14 rfl (lv_at hl 1 rfl) ?_
    refine xx_iald S G (r := 4) (by decide) (xW_p (by decide) rfl) 0 rfl (i := u) (by omega) (by decide) (v := nI (cntN d u)) (hSm.eq u) dX0_sample_2_15 ?_
    refine lv_iconst (v := nI 1) hx hb dX0_sample_2_16 (by decide) ?_
    refine lv_isub hx hb dX0_sample_2_17 ?_
    refine sC_call (As := [.int i, .int (nI 0), .int ((nI (cntN d u)) - (nI 1))]) (rest := []) S (st_X0_isIn l i (nI 0) ((nI (cntN d u)) - (nI 1))) q149 q150 q52 q151 hd_X0_isIn ⟨Nat.le_of_ble_eq_true rfl, Nat.le_of_ble_eq_true rfl⟩ rfl hl.1 rfl (Nat.le_of_ble_eq_true rfl) dX0_sample_2_18 ⟨Nat.zero_le _, Nat.zero_le _⟩ ?_
    refine W.eq (g2 := F0 mid 21 ls [.int (bI (inB i (nI 0) ((nI (cntN d u)) - (nI 1))))]) rfl ?_
    refine bb_eq (tgt := 41) hx hb dX0_sample_2_21 (by decide) (fun c_21 => ?_) (fun c_21 => ?_)
    · refine lv_lconst (v := 0) hx hb dX0_sample_2_41 (by decide) ?_
      exact xx_lret S hr hlk G (by simp [isB, smpL, c_5, ij_u, c_21] <;> rfl) rfl dX0_sample_2_42
    · obtain ⟨i1, hi1, rfl⟩ := ib_nat c_21 (by omega)
      have ij_i1 : ixN (nI i1) = i1 := ixN_nI (by omega)
      refine lv_aload_n hx hb dX0_sample_2_24 rfl (lv_at hl 0 rfl) ?_
      refine xx_getP S G 10 (by decide) q99 rfl (v := .ref (jA j 3)) rfl dX0_sample_2_25 ?_
      refine lv_bipush (v := nI 120) hx hb dX0_sample_2_28 (by decide) ?_
      refine lv_iload_n hx hb dX0_sample_2_30 rfl (lv_at hl 1 rfl) ?_
      refine nn_mul hx hb dX0_sample_2_31 ?_
      refine lv_iload_n hx hb dX0_sample_2_32 rfl (lv_at hl 2 rfl) ?_
      refine nn_add hx hb dX0_sample_2_33 ?_
      refine xx_dald S G (r := 3) (by decide) (xW_p (by decide) rfl) 2 rfl (i := 120 * u + i1) (by omega) (by decide) (v := dAD d 40 (120 * u + i1)) rfl dX0_sample_2_34 ?_
      refine sC_call (As := [.double (dAD d 40 (120 * u + i1))]) (rest := []) S (st_J0_doubleToLongBits l (dAD d 40 (120 * u + i1)) (bD_n (hq _))) q1155 q1156 q55 q1157 hd_J0_doubleToLongBits ⟨Nat.le_of_ble_eq_true rfl, Nat.le_of_ble_eq_true rfl⟩ rfl hl.1 rfl (Nat.le_of_ble_eq_true rfl) dX0_sample_2_35 ⟨Nat.zero_le _, Nat.zero_le _⟩ ?_
      refine W.eq (g2 := F0 mid 38 ls [.long (((dAD d 40 (120 * u + i1))).toInt64)]) rfl ?_
      refine lv_goto (tgt := 42) hx hb dX0_sample_2_38 (by decide) ?_
      exact xx_lret S hr hlk G (by simp [isB, smpL, c_5, ij_u, c_21, ij_i1] <;> rfl) rfl dX0_sample_2_42
theorem xt_X0_swept (l : Launch) (D : va_G) (dA : Nat → ClassId) (C : tp_C) (d : md_T) (j : xj_T) (q : Int32) (hC : mOK C) : xC l D dA yX0_swept cX0_swept 2 (some .long) 1 [.ref (jA j 0), .int q] C d j (some (.long (swL C d q))) C d j := by
  refine xx_start (own := RX0) (by decide) rfl (Nat.le_of_ble_eq_true rfl) ?_
  intro p0 e0 s0 mid bl0 me0 co0 ls S hr hlk G hl
  have hx := S.1; have hb := S.2.1; have hml := S.2.2.1; have hown := S.2.2.2.1; have hts := S.2.2.2.2; have hN := hC.n
  have hl : lv_has ls 2 [(0, .ref (jA j 0)), (1, .int q)] := hl
  have hMo := hC.mo
  have hZ := hC.z
  have hW := hC.w
  refine lv_iload_n hx hb dX0_swept_0 rfl (lv_at hl 1 rfl) ?_
  refine lv_iconst (v := nI 0) hx hb dX0_swept_1 (by decide) ?_
  refine lv_aload_n hx hb dX0_swept_2 rfl (lv_at hl 0 rfl) ?_
  refine xx_getP S G 13 (by decide) q102 rfl (v := .int (nI (cW C))) rfl dX0_swept_3 ?_
  refine lv_iconst (v := nI 1) hx hb dX0_swept_6 (by decide) ?_
  refine lv_isub hx hb dX0_swept_7 ?_
  refine sC_call (As := [.int q, .int (nI 0), .int ((nI (cW C)) - (nI 1))]) (rest := []) S (st_X0_isIn l q (nI 0) ((nI (cW C)) - (nI 1))) q149 q150 q52 q151 hd_X0_isIn ⟨Nat.le_of_ble_eq_true rfl, Nat.le_of_ble_eq_true rfl⟩ rfl hl.1 rfl (Nat.le_of_ble_eq_true rfl) dX0_swept_8 ⟨Nat.zero_le _, Nat.zero_le _⟩ ?_
  refine W.eq (g2 := F0 mid 11 ls [.int (bI (inB q (nI 0) ((nI (cW C)) - (nI 1))))]) rfl ?_
  refine bb_eq (tgt := 23) hx hb dX0_swept_11 (by decide) (fun c_11 => ?_) (fun c_11 => ?_)
  · refine lv_lconst (v := 0) hx hb dX0_swept_23 (by decide) ?_
    exact xx_lret S hr hlk G (by simp [swL, c_11] <;> rfl) rfl dX0_swept_24
  · obtain ⟨i, hi, rfl⟩ := ib_nat c_11 (by omega)
    have ij_i : ixN (nI i) = i := ixN_nI (by omega)
    refine lv_aload_n hx hb dX0_swept_14 rfl (lv_at hl 0 rfl) ?_
    refine xx_getP S G 12 (by decide) q101 rfl (v := .ref (jA j 5)) rfl dX0_swept_15 ?_
    refine lv_iload_n hx hb dX0_swept_18 rfl (lv_at hl 1 rfl) ?_
    refine xx_lald S G (r := 5) (by decide) (xW_p (by decide) rfl) 4 rfl (i := i) (by omega) (by decide) (v := (dAD d 42 i).toInt64) rfl dX0_swept_19 ?_
    refine lv_goto (tgt := 24) hx hb dX0_swept_20 (by decide) ?_
    exact xx_lret S hr hlk G (by simp [swL, c_11, ij_i] <;> rfl) rfl dX0_swept_24
theorem pk_c26 {n i : Nat} (hn : n ≤ 120) (hi : i ≤ 121) (h : nI n - nI 1 ≤ nI i) : n ≤ i + 1 := by
  rw [Int32.le_iff_toInt_le, pk_sub_toInt (by omega) (by omega), nI_toInt (by omega)] at h; omega
theorem pk_c26n {n i : Nat} (hn : n ≤ 120) (hi : i ≤ 121) (h : ¬ nI n - nI 1 ≤ nI i) : ¬ n ≤ i + 1 := by
  rw [Int32.le_iff_toInt_le, pk_sub_toInt (by omega) (by omega), nI_toInt (by omega)] at h; omega
/-- a place is a natural or none -/
theorem ab_c {a : Int32} (h0 : ¬ a = nI 0) (h1 : inB a (nI 1) (nI 6) = false) (h2 : inB a (nI 7) (nI 12) = false) (h3 : ¬ a = nI 13) (h4 : ¬ a = nI 14) : inB a (nI 0) (nI 14) = false := by
  cases h : inB a (nI 0) (nI 14) with
  | false => rfl
  | true =>
    obtain ⟨b, -, hb, rfl⟩ := in_nat h (by decide) (by decide)
    have e1 : ∀ x y : Nat, x ≤ b → b ≤ y → y < 2 ^ 31 → inB (nI b) (nI x) (nI y) = true := fun x y p q r => inB_spec.mpr ⟨nI_le p (by omega), nI_le q r⟩
    exfalso
    rcases (show b = 0 ∨ (1 ≤ b ∧ b ≤ 6) ∨ (7 ≤ b ∧ b ≤ 12) ∨ b = 13 ∨ b = 14 by omega) with rfl | ⟨p, q⟩ | ⟨p, q⟩ | rfl | rfl
    · exact h0 rfl
    · rw [e1 1 6 p q (by decide)] at h1; cases h1
    · rw [e1 7 12 p q (by decide)] at h2; cases h2
    · exact h3 rfl
    · exact h4 rfl
theorem ab_in {b : Nat} (h : b ≤ 14) : inB (nI b) (nI 0) (nI 14) = true := inB_spec.mpr ⟨nI_le (Nat.zero_le _) (by omega), nI_le h (by decide)⟩
theorem xt_X0_crossing (l : Launch) (D : va_G) (dA : Nat → ClassId) (C : tp_C) (d : md_T) (j : xj_T) (s : Int32) (k : Int32) (hC : mOK C) (hSm : smOK d) : xC l D dA yX0_crossing cX0_crossing 5 (some .int) 2 [.ref (jA j 0), .int s, .int k] C d j (some (.int (crI C d s k))) C d j := by
  refine xx_start (own := RX0) (by decide) rfl (Nat.le_of_ble_eq_true rfl) ?_
  intro p0 e0 s0 mid bl0 me0 co0 ls S hr hlk G hl
  have hx := S.1; have hb := S.2.1; have hml := S.2.2.1; have hown := S.2.2.2.1; have hts := S.2.2.2.2; have hN := hC.n
  have hl : lv_has ls 5 [(0, .ref (jA j 0)), (1, .int s), (2, .int k)] := hl
  have hMo := hC.mo
  have hZ := hC.z
  have L1 : ∀ (u : Nat) (hu : u < cZ C) (hc : cntN d u ≤ 120) (n_ : Nat) (i : Nat) (n : Nat), (1 ≤ i) → (121 < i + n_) → (i ≤ 121) → (crF (fun i => dAD d 40 (120 * u + i)) (cntN d u) k n_ i n = crI C d s k) → ∀ (H : Heap) (locs : List Loc) (ls : Array Slot), xG D dA (xA dA C d j) C d j s0 H locs → lv_has ls 5 [(4, .int (nI i)), (3, .int (nI n)), (0, .ref (jA j 0)), (1, .int (nI u)), (2, .int k)] → W p0 l e0 (rm_ 2) s0 mid ([.ref (jA j 0), .int s, .int k] : List Value).toArray bl0 me0 co0 H locs 0 0 (MQ bl0 (xQ D dA C d j (some (.int (crI C d s k))) C d j) ([.ref (jA j 0), .int s, .int k] : List Value).toArray s0 0 0 (xA dA C d j)) (F0 mid 16 ls []) := by
    intro u hu hc n_
    induction n_ with
    | zero => intro i n h1_ h2_ h3_ hRes; exfalso; omega
    | succ n_ ih =>
      intro i n h1_ h2_ h3_ hRes H locs ls G hl
      refine lv_iload hx hb dX0_crossing_16 (lv_at hl 0 rfl) ?_
      refine lv_aload_n hx hb dX0_crossing_18 rfl (lv_at hl 2 rfl) ?_
      refine xx_getP S G 11 (by decide) q100 rfl (v := .ref (jA j 4)) rfl dX0_crossing_19 ?_
      refine lv_iload_n hx hb dX0_crossing_22 rfl (lv_at hl 3 rfl) ?_
      refine xx_iald S G (r := 4) (by decide) (xW_p (by decide) rfl) 0 rfl (i := u) (by omega) (by decide) (v := nI (cntN d u)) (hSm.eq u) dX0_crossing_23 ?_
      refine nn_cge (tgt := 93) hx hb (by omega) (by omega) dX0_crossing_24 (by decide) (fun c_24 => ?_) (fun c_24 => ?_)
      · refine lv_iconst (v := (-1)) hx hb dX0_crossing_93 (by decide) ?_
        exact xx_iret S hr hlk G (by rw [← hRes]; simp [crF, c_24]) rfl dX0_crossing_94
      · refine lv_aload_n hx hb dX0_crossing_27 rfl (lv_at hl 2 rfl) ?_
        refine xx_getP S G 10 (by decide) q99 rfl (v := .ref (jA j 3)) rfl dX0_crossing_28 ?_
        refine lv_bipush (v := nI 120) hx hb dX0_crossing_31 (by decide) ?_
        refine lv_iload_n hx hb dX0_crossing_33 rfl (lv_at hl 3 rfl) ?_
        refine nn_mul hx hb dX0_crossing_34 ?_
        refine lv_iload hx hb dX0_crossing_35 (lv_at hl 0 rfl) ?_
        refine nn_add hx hb dX0_crossing_37 ?_
        refine xx_dald S G (r := 3) (by decide) (xW_p (by decide) rfl) 2 rfl (i := 120 * u + i) (by omega) (by decide) (v := dAD d 40 (120 * u + i)) rfl dX0_crossing_38 ?_
        refine lv_dconst0 hx hb dX0_crossing_39 ?_
        refine fx_jlle (tgt := 48) hx hb dX0_crossing_40 dX0_crossing_41 (by decide) (fun c_41 => ?_) (fun c_41 => ?_)
        · refine lv_iconst (v := nI 0) hx hb dX0_crossing_48 (by decide) ?_
          refine lv_aload_n hx hb dX0_crossing_49 rfl (lv_at hl 2 rfl) ?_
          refine xx_getP S G 10 (by decide) q99 rfl (v := .ref (jA j 3)) rfl dX0_crossing_50 ?_
          refine lv_bipush (v := nI 120) hx hb dX0_crossing_53 (by decide) ?_
          refine lv_iload_n hx hb dX0_crossing_55 rfl (lv_at hl 3 rfl) ?_
          refine nn_mul hx hb dX0_crossing_56 ?_
          refine lv_iload hx hb dX0_crossing_57 (lv_at hl 0 rfl) ?_
          refine nn_add hx hb dX0_crossing_59 ?_
          refine lv_iconst (v := nI 1) hx hb dX0_crossing_60 (by decide) ?_
          refine nn_sub hx hb (by omega) dX0_crossing_61 ?_
          refine xx_dald S G (r := 3) (by decide) (xW_p (by decide) rfl) 2 rfl (i := 120 * u + i - 1) (by omega) (by decide) (v := dAD d 40 (120 * u + (i - 1))) (by rw [show 120 * u + i - 1 = 120 * u + (i - 1) from by omega]) dX0_crossing_62 ?_
          refine lv_dconst0 hx hb dX0_crossing_63 ?_
          refine fx_jlle (tgt := 72) hx hb dX0_crossing_64 dX0_crossing_65 (by decide) (fun c_65 => ?_) (fun c_65 => ?_)
          · refine lv_iconst (v := nI 0) hx hb dX0_crossing_72 (by decide) ?_
            refine lv_icmp_eq (tgt := 87) hx hb dX0_crossing_73 (by decide) (fun _ => ?_) (fun c_ => absurd (by decide) c_)
            refine lv_iinc (v := nI (i + 1)) (lv' := [(4, .int (nI (i + 1))), (3, .int (nI n)), (0, .ref (jA j 0)), (1, .int (nI u)), (2, .int k)]) hx hb dX0_crossing_87 hl (k := 0) rfl (nI_1 _) (by decide) rfl (fun ls hl => ?_)
            refine lv_goto (tgt := 16) hx hb dX0_crossing_90 (by decide) ?_
            exact ih (i + 1) n (by omega) (by omega) (by omega) (by rw [← hRes]; simp [crF, c_24, c_41, c_65]) H locs ls G (lv_sub hl [0, 1, 2, 3, 4] rfl)
          · refine lv_iconst (v := nI 1) hx hb dX0_crossing_68 (by decide) ?_
            refine lv_goto (tgt := 73) hx hb dX0_crossing_69 (by decide) ?_
            refine lv_icmp_eq (tgt := 87) hx hb dX0_crossing_73 (by decide) (fun c_ => absurd c_ (by decide)) (fun _ => ?_)
            refine lv_iload_n hx hb dX0_crossing_76 rfl (lv_at hl 1 rfl) ?_
            refine lv_iload_n hx hb dX0_crossing_77 rfl (lv_at hl 4 rfl) ?_
            refine lv_icmp_ne (tgt := 84) hx hb dX0_crossing_78 (by decide) (fun c_78 => ?_) (fun c_78 => ?_)
            · refine lv_iinc (v := nI (n + 1)) (lv' := [(3, .int (nI (n + 1))), (4, .int (nI i)), (0, .ref (jA j 0)), (1, .int (nI u)), (2, .int k)]) hx hb dX0_crossing_84 hl (k := 1) rfl (nI_1 _) (by decide) rfl (fun ls hl => ?_)
              refine lv_iinc (v := nI (i + 1)) (lv' := [(4, .int (nI (i + 1))), (3, .int (nI (n + 1))), (0, .ref (jA j 0)), (1, .int (nI u)), (2, .int k)]) hx hb dX0_crossing_87 hl (k := 1) rfl (nI_1 _) (by decide) rfl (fun ls hl => ?_)
              refine lv_goto (tgt := 16) hx hb dX0_crossing_90 (by decide) ?_
              exact ih (i + 1) (n + 1) (by omega) (by omega) (by omega) (by rw [← hRes]; simp [crF, c_24, c_41, c_65, c_78]) H locs ls G (lv_sub hl [0, 1, 2, 3, 4] rfl)
            · refine lv_iload hx hb dX0_crossing_81 (lv_at hl 0 rfl) ?_
              exact xx_iret S hr hlk G (by rw [← hRes]; simp [crF, c_24, c_41, c_65, c_78]) rfl dX0_crossing_83
        · refine lv_iconst (v := nI 1) hx hb dX0_crossing_44 (by decide) ?_
          refine lv_goto (tgt := 49) hx hb dX0_crossing_45 (by decide) ?_
          refine lv_aload_n hx hb dX0_crossing_49 rfl (lv_at hl 2 rfl) ?_
          refine xx_getP S G 10 (by decide) q99 rfl (v := .ref (jA j 3)) rfl dX0_crossing_50 ?_
          refine lv_bipush (v := nI 120) hx hb dX0_crossing_53 (by decide) ?_
          refine lv_iload_n hx hb dX0_crossing_55 rfl (lv_at hl 3 rfl) ?_
          refine nn_mul hx hb dX0_crossing_56 ?_
          refine lv_iload hx hb dX0_crossing_57 (lv_at hl 0 rfl) ?_
          refine nn_add hx hb dX0_crossing_59 ?_
          refine lv_iconst (v := nI 1) hx hb dX0_crossing_60 (by decide) ?_
          refine nn_sub hx hb (by omega) dX0_crossing_61 ?_
          refine xx_dald S G (r := 3) (by decide) (xW_p (by decide) rfl) 2 rfl (i := 120 * u + i - 1) (by omega) (by decide) (v := dAD d 40 (120 * u + (i - 1))) (by rw [show 120 * u + i - 1 = 120 * u + (i - 1) from by omega]) dX0_crossing_62 ?_
          refine lv_dconst0 hx hb dX0_crossing_63 ?_
          refine fx_jlle (tgt := 72) hx hb dX0_crossing_64 dX0_crossing_65 (by decide) (fun c_65 => ?_) (fun c_65 => ?_)
          · refine lv_iconst (v := nI 0) hx hb dX0_crossing_72 (by decide) ?_
            refine lv_icmp_eq (tgt := 87) hx hb dX0_crossing_73 (by decide) (fun c_ => absurd c_ (by decide)) (fun _ => ?_)
            refine lv_iload_n hx hb dX0_crossing_76 rfl (lv_at hl 1 rfl) ?_
            refine lv_iload_n hx hb dX0_crossing_77 rfl (lv_at hl 4 rfl) ?_
            refine lv_icmp_ne (tgt := 84) hx hb dX0_crossing_78 (by decide) (fun c_78 => ?_) (fun c_78 => ?_)
            · refine lv_iinc (v := nI (n + 1)) (lv' := [(3, .int (nI (n + 1))), (4, .int (nI i)), (0, .ref (jA j 0)), (1, .int (nI u)), (2, .int k)]) hx hb dX0_crossing_84 hl (k := 1) rfl (nI_1 _) (by decide) rfl (fun ls hl => ?_)
              refine lv_iinc (v := nI (i + 1)) (lv' := [(4, .int (nI (i + 1))), (3, .int (nI (n + 1))), (0, .ref (jA j 0)), (1, .int (nI u)), (2, .int k)]) hx hb dX0_crossing_87 hl (k := 1) rfl (nI_1 _) (by decide) rfl (fun ls hl => ?_)
              refine lv_goto (tgt := 16) hx hb dX0_crossing_90 (by decide) ?_
              exact ih (i + 1) (n + 1) (by omega) (by omega) (by omega) (by rw [← hRes]; simp [crF, c_24, c_41, c_65, c_78]) H locs ls G (lv_sub hl [0, 1, 2, 3, 4] rfl)
            · refine lv_iload hx hb dX0_crossing_81 (lv_at hl 0 rfl) ?_
              exact xx_iret S hr hlk G (by rw [← hRes]; simp [crF, c_24, c_41, c_65, c_78]) rfl dX0_crossing_83
          · refine lv_iconst (v := nI 1) hx hb dX0_crossing_68 (by decide) ?_
            refine lv_goto (tgt := 73) hx hb dX0_crossing_69 (by decide) ?_
            refine lv_icmp_eq (tgt := 87) hx hb dX0_crossing_73 (by decide) (fun _ => ?_) (fun c_ => absurd (by decide) c_)
            refine lv_iinc (v := nI (i + 1)) (lv' := [(4, .int (nI (i + 1))), (3, .int (nI n)), (0, .ref (jA j 0)), (1, .int (nI u)), (2, .int k)]) hx hb dX0_crossing_87 hl (k := 0) rfl (nI_1 _) (by decide) rfl (fun ls hl => ?_)
            refine lv_goto (tgt := 16) hx hb dX0_crossing_90 (by decide) ?_
            exact ih (i + 1) n (by omega) (by omega) (by omega) (by rw [← hRes]; simp [crF, c_24, c_41, c_65]) H locs ls G (lv_sub hl [0, 1, 2, 3, 4] rfl)
  refine lv_aload_n hx hb dX0_crossing_0 rfl (lv_at hl 0 rfl) ?_
  refine lv_iload_n hx hb dX0_crossing_1 rfl (lv_at hl 1 rfl) ?_
  refine xx_callP (As := [.int s]) (rest := []) S G (xt_X0_isStrip l D dA C d j s hC) q1197 q1199 qs14 q1200 hd_X0_isStrip ⟨Nat.le_of_ble_eq_true rfl, Nat.le_of_ble_eq_true rfl⟩ rfl hl.1 rfl (Nat.le_of_ble_eq_true rfl) dX0_crossing_2 ⟨Nat.zero_le _, Nat.zero_le _⟩ (fun H locs G => ?_)
  refine W.eq (g2 := F0 mid 5 ls [.int (bI (inB s (nI 0) (nI (cZ C) - nI 1)))]) rfl ?_
  refine bb_ne (tgt := 11) hx hb dX0_crossing_5 (by decide) (fun c_5 => ?_) (fun c_5 => ?_)
  · obtain ⟨u, hu, rfl⟩ := is_nat c_5 hZ
    have ij_u : ixN (nI u) = u := ixN_nI (by omega)
    have hc := hSm.le u
    refine lv_iconst (v := nI 0) hx hb dX0_crossing_11 (by decide) ?_
    refine lv_istore_n (lv' := [(3, .int (nI 0)), (0, .ref (jA j 0)), (1, .int (nI u)), (2, .int k)]) hx hb dX0_crossing_12 rfl hl (by decide) rfl (fun ls hl => ?_)
    refine lv_iconst (v := nI 1) hx hb dX0_crossing_13 (by decide) ?_
    refine lv_istore (lv' := [(4, .int (nI 1)), (3, .int (nI 0)), (0, .ref (jA j 0)), (1, .int (nI u)), (2, .int k)]) hx hb dX0_crossing_14 hl (by decide) rfl (fun ls hl => ?_)
    refine L1 u hu hc cr_u 1 0 (by omega) (by decide) (by omega) (by simp [crI, pkI, isB, c_5, ij_u]) _ _ ls G (lv_sub hl [0, 1, 2, 3, 4] rfl)
  · refine lv_bipush (v := (-101)) hx hb dX0_crossing_8 (by decide) ?_
    exact xx_iret S hr hlk G (by simp [isB, crI, pkI, c_5]) rfl dX0_crossing_10
theorem xt_X0_peak (l : Launch) (D : va_G) (dA : Nat → ClassId) (C : tp_C) (d : md_T) (j : xj_T) (s : Int32) (k : Int32) (hC : mOK C) (hSm : smOK d) : xC l D dA yX0_peak cX0_peak 7 (some .int) 2 [.ref (jA j 0), .int s, .int k] C d j (some (.int (pkI C d s k))) C d j := by
  refine xx_start (own := RX0) (by decide) rfl (Nat.le_of_ble_eq_true rfl) ?_
  intro p0 e0 s0 mid bl0 me0 co0 ls S hr hlk G hl
  have hx := S.1; have hb := S.2.1; have hml := S.2.2.1; have hown := S.2.2.2.1; have hts := S.2.2.2.2; have hN := hC.n
  have hl : lv_has ls 7 [(0, .ref (jA j 0)), (1, .int s), (2, .int k)] := hl
  have hMo := hC.mo
  have hZ := hC.z
  have L1 : ∀ (u : Nat) (hu : u < cZ C) (hc : cntN d u ≤ 120) (n_ : Nat) (i : Nat) (n : Nat), (1 ≤ i) → (121 < i + n_) → (i ≤ 121) → (pkF (fun i => dAD d 40 (120 * u + i)) (cntN d u) k n_ i n = pkI C d s k) → ∀ (H : Heap) (locs : List Loc) (ls : Array Slot), xG D dA (xA dA C d j) C d j s0 H locs → lv_has ls 7 [(4, .int (nI i)), (3, .int (nI n)), (0, .ref (jA j 0)), (1, .int (nI u)), (2, .int k)] → W p0 l e0 (rm_ 2) s0 mid ([.ref (jA j 0), .int s, .int k] : List Value).toArray bl0 me0 co0 H locs 0 0 (MQ bl0 (xQ D dA C d j (some (.int (pkI C d s k))) C d j) ([.ref (jA j 0), .int s, .int k] : List Value).toArray s0 0 0 (xA dA C d j)) (F0 mid 16 ls []) := by
    intro u hu hc n_
    induction n_ with
    | zero => intro i n h1_ h2_ h3_ hRes; exfalso; omega
    | succ n_ ih =>
      intro i n h1_ h2_ h3_ hRes H locs ls G hl
      refine lv_iload hx hb dX0_peak_16 (lv_at hl 0 rfl) ?_
      refine lv_aload_n hx hb dX0_peak_18 rfl (lv_at hl 2 rfl) ?_
      refine xx_getP S G 11 (by decide) q100 rfl (v := .ref (jA j 4)) rfl dX0_peak_19 ?_
      refine lv_iload_n hx hb dX0_peak_22 rfl (lv_at hl 3 rfl) ?_
      refine xx_iald S G (r := 4) (by decide) (xW_p (by decide) rfl) 0 rfl (i := u) (by omega) (by decide) (v := nI (cntN d u)) (hSm.eq u) dX0_peak_23 ?_
      refine lv_iconst (v := nI 1) hx hb dX0_peak_24 (by decide) ?_
      refine lv_isub hx hb dX0_peak_25 ?_
      refine lv_icmp_ge (tgt := 100) hx hb dX0_peak_26 (by decide) (fun c_26 => ?_) (fun c_26 => ?_)
      · have c26 : cntN d u ≤ i + 1 := pk_c26 hc h3_ c_26
        refine lv_iconst (v := (-1)) hx hb dX0_peak_100 (by decide) ?_
        exact xx_iret S hr hlk G (by rw [← hRes]; simp [pkF, c26]) rfl dX0_peak_101
      · have c26 : ¬ cntN d u ≤ i + 1 := pk_c26n hc h3_ c_26
        refine lv_aload_n hx hb dX0_peak_29 rfl (lv_at hl 2 rfl) ?_
        refine xx_getP S G 10 (by decide) q99 rfl (v := .ref (jA j 3)) rfl dX0_peak_30 ?_
        refine lv_bipush (v := nI 120) hx hb dX0_peak_33 (by decide) ?_
        refine lv_iload_n hx hb dX0_peak_35 rfl (lv_at hl 3 rfl) ?_
        refine nn_mul hx hb dX0_peak_36 ?_
        refine lv_iload hx hb dX0_peak_37 (lv_at hl 0 rfl) ?_
        refine nn_add hx hb dX0_peak_39 ?_
        refine xx_dald S G (r := 3) (by decide) (xW_p (by decide) rfl) 2 rfl (i := 120 * u + i) (by omega) (by decide) (v := dAD d 40 (120 * u + i)) rfl dX0_peak_40 ?_
        refine lv_dstore (lv' := [(5, .double (dAD d 40 (120 * u + i))), (4, .int (nI i)), (3, .int (nI n)), (0, .ref (jA j 0)), (1, .int (nI u)), (2, .int k)]) hx hb dX0_peak_41 hl (by decide) rfl (fun ls hl => ?_)
        refine lv_dload hx hb dX0_peak_43 (lv_at hl 0 rfl) ?_
        refine lv_aload_n hx hb dX0_peak_45 rfl (lv_at hl 3 rfl) ?_
        refine xx_getP S G 10 (by decide) q99 rfl (v := .ref (jA j 3)) rfl dX0_peak_46 ?_
        refine lv_bipush (v := nI 120) hx hb dX0_peak_49 (by decide) ?_
        refine lv_iload_n hx hb dX0_peak_51 rfl (lv_at hl 4 rfl) ?_
        refine nn_mul hx hb dX0_peak_52 ?_
        refine lv_iload hx hb dX0_peak_53 (lv_at hl 1 rfl) ?_
        refine nn_add hx hb dX0_peak_55 ?_
        refine lv_iconst (v := nI 1) hx hb dX0_peak_56 (by decide) ?_
        refine nn_sub hx hb (by omega) dX0_peak_57 ?_
        refine xx_dald S G (r := 3) (by decide) (xW_p (by decide) rfl) 2 rfl (i := 120 * u + i - 1) (by omega) (by decide) (v := dAD d 40 (120 * u + (i - 1))) (by rw [show 120 * u + i - 1 = 120 * u + (i - 1) from by omega]) dX0_peak_58 ?_
        refine fx_jlle (tgt := 94) hx hb dX0_peak_59 dX0_peak_60 (by decide) (fun c_60 => ?_) (fun c_60 => ?_)
        · refine lv_iinc (v := nI (i + 1)) (lv' := [(4, .int (nI (i + 1))), (5, .double (dAD d 40 (120 * u + i))), (3, .int (nI n)), (0, .ref (jA j 0)), (1, .int (nI u)), (2, .int k)]) hx hb dX0_peak_94 hl (k := 1) rfl (nI_1 _) (by decide) rfl (fun ls hl => ?_)
          refine lv_goto (tgt := 16) hx hb dX0_peak_97 (by decide) ?_
          exact ih (i + 1) n (by omega) (by omega) (by omega) (by rw [← hRes]; simp [pkF, c26, c_60]) H locs ls G (lv_sub hl [0, 2, 3, 4, 5] rfl)
        · refine lv_dload hx hb dX0_peak_63 (lv_at hl 0 rfl) ?_
          refine lv_aload_n hx hb dX0_peak_65 rfl (lv_at hl 3 rfl) ?_
          refine xx_getP S G 10 (by decide) q99 rfl (v := .ref (jA j 3)) rfl dX0_peak_66 ?_
          refine lv_bipush (v := nI 120) hx hb dX0_peak_69 (by decide) ?_
          refine lv_iload_n hx hb dX0_peak_71 rfl (lv_at hl 4 rfl) ?_
          refine nn_mul hx hb dX0_peak_72 ?_
          refine lv_iload hx hb dX0_peak_73 (lv_at hl 1 rfl) ?_
          refine nn_add hx hb dX0_peak_75 ?_
          refine lv_iconst (v := nI 1) hx hb dX0_peak_76 (by decide) ?_
          refine nn_add hx hb dX0_peak_77 ?_
          refine xx_dald S G (r := 3) (by decide) (xW_p (by decide) rfl) 2 rfl (i := 120 * u + i + 1) (by omega) (by decide) (v := dAD d 40 (120 * u + (i + 1))) rfl dX0_peak_78 ?_
          refine fx_jllt (tgt := 94) hx hb dX0_peak_79 dX0_peak_80 (by decide) (fun c_80 => ?_) (fun c_80 => ?_)
          · refine lv_iinc (v := nI (i + 1)) (lv' := [(4, .int (nI (i + 1))), (5, .double (dAD d 40 (120 * u + i))), (3, .int (nI n)), (0, .ref (jA j 0)), (1, .int (nI u)), (2, .int k)]) hx hb dX0_peak_94 hl (k := 1) rfl (nI_1 _) (by decide) rfl (fun ls hl => ?_)
            refine lv_goto (tgt := 16) hx hb dX0_peak_97 (by decide) ?_
            exact ih (i + 1) n (by omega) (by omega) (by omega) (by rw [← hRes]; simp [pkF, c26, c_60, c_80]) H locs ls G (lv_sub hl [0, 2, 3, 4, 5] rfl)
          · refine lv_iload_n hx hb dX0_peak_83 rfl (lv_at hl 2 rfl) ?_
            refine lv_iload_n hx hb dX0_peak_84 rfl (lv_at hl 5 rfl) ?_
            refine lv_icmp_ne (tgt := 91) hx hb dX0_peak_85 (by decide) (fun c_85 => ?_) (fun c_85 => ?_)
            · refine lv_iinc (v := nI (n + 1)) (lv' := [(3, .int (nI (n + 1))), (5, .double (dAD d 40 (120 * u + i))), (4, .int (nI i)), (0, .ref (jA j 0)), (1, .int (nI u)), (2, .int k)]) hx hb dX0_peak_91 hl (k := 2) rfl (nI_1 _) (by decide) rfl (fun ls hl => ?_)
              refine lv_iinc (v := nI (i + 1)) (lv' := [(4, .int (nI (i + 1))), (3, .int (nI (n + 1))), (5, .double (dAD d 40 (120 * u + i))), (0, .ref (jA j 0)), (1, .int (nI u)), (2, .int k)]) hx hb dX0_peak_94 hl (k := 2) rfl (nI_1 _) (by decide) rfl (fun ls hl => ?_)
              refine lv_goto (tgt := 16) hx hb dX0_peak_97 (by decide) ?_
              exact ih (i + 1) (n + 1) (by omega) (by omega) (by omega) (by rw [← hRes]; simp [pkF, c26, c_60, c_80, c_85]) H locs ls G (lv_sub hl [0, 1, 3, 4, 5] rfl)
            · refine lv_iload hx hb dX0_peak_88 (lv_at hl 1 rfl) ?_
              exact xx_iret S hr hlk G (by rw [← hRes]; simp [pkF, c26, c_60, c_80, c_85]) rfl dX0_peak_90
  refine lv_aload_n hx hb dX0_peak_0 rfl (lv_at hl 0 rfl) ?_
  refine lv_iload_n hx hb dX0_peak_1 rfl (lv_at hl 1 rfl) ?_
  refine xx_callP (As := [.int s]) (rest := []) S G (xt_X0_isStrip l D dA C d j s hC) q1197 q1199 qs14 q1200 hd_X0_isStrip ⟨Nat.le_of_ble_eq_true rfl, Nat.le_of_ble_eq_true rfl⟩ rfl hl.1 rfl (Nat.le_of_ble_eq_true rfl) dX0_peak_2 ⟨Nat.zero_le _, Nat.zero_le _⟩ (fun H locs G => ?_)
  refine W.eq (g2 := F0 mid 5 ls [.int (bI (inB s (nI 0) (nI (cZ C) - nI 1)))]) rfl ?_
  refine bb_ne (tgt := 11) hx hb dX0_peak_5 (by decide) (fun c_5 => ?_) (fun c_5 => ?_)
  · obtain ⟨u, hu, rfl⟩ := is_nat c_5 hZ
    have ij_u : ixN (nI u) = u := ixN_nI (by omega)
    have hc := hSm.le u
    refine lv_iconst (v := nI 0) hx hb dX0_peak_11 (by decide) ?_
    refine lv_istore_n (lv' := [(3, .int (nI 0)), (0, .ref (jA j 0)), (1, .int (nI u)), (2, .int k)]) hx hb dX0_peak_12 rfl hl (by decide) rfl (fun ls hl => ?_)
    refine lv_iconst (v := nI 1) hx hb dX0_peak_13 (by decide) ?_
    refine lv_istore (lv' := [(4, .int (nI 1)), (3, .int (nI 0)), (0, .ref (jA j 0)), (1, .int (nI u)), (2, .int k)]) hx hb dX0_peak_14 hl (by decide) rfl (fun ls hl => ?_)
    refine L1 u hu hc cr_u 1 0 (by omega) (by decide) (by omega) (by simp [crI, pkI, isB, c_5, ij_u]) _ _ ls G (lv_sub hl [0, 1, 2, 3, 4] rfl)
  · refine lv_bipush (v := (-101)) hx hb dX0_peak_8 (by decide) ?_
    exact xx_iret S hr hlk G (by simp [isB, crI, pkI, c_5]) rfl dX0_peak_10
theorem xt_X0_about (l : Launch) (D : va_G) (dA : Nat → ClassId) (C : tp_C) (d : md_T) (j : xj_T) (m : Int32) (a : Int32) (hC : mOK C) (hP7 : ∀ m, ¬ cK C m = 7 → cP C m = 0) : xC l D dA yX0_about cX0_about 4 (some .int) 2 [.ref (jA j 0), .int m, .int a] C d j (some (.int (abI C m a))) C d j := by
  refine xx_start (own := RX0) (by decide) rfl (Nat.le_of_ble_eq_true rfl) ?_
  intro p0 e0 s0 mid bl0 me0 co0 ls S hr hlk G hl
  have hx := S.1; have hb := S.2.1; have hml := S.2.2.1; have hown := S.2.2.2.1; have hts := S.2.2.2.2; have hN := hC.n
  have hl : lv_has ls 4 [(0, .ref (jA j 0)), (1, .int m), (2, .int a)] := hl
  have hMo := hC.mo
  have hZ := hC.z
  refine lv_aload_n hx hb dX0_about_0 rfl (lv_at hl 0 rfl) ?_
  refine lv_iload_n hx hb dX0_about_1 rfl (lv_at hl 1 rfl) ?_
  refine xx_callP (As := [.int m]) (rest := []) S G (xt_X0_isModule l D dA C d j m hC) q575 q577 qs0 q578 hd_X0_isModule ⟨Nat.le_of_ble_eq_true rfl, Nat.le_of_ble_eq_true rfl⟩ rfl hl.1 rfl (Nat.le_of_ble_eq_true rfl) dX0_about_2 ⟨Nat.zero_le _, Nat.zero_le _⟩ (fun H locs G => ?_)
  refine W.eq (g2 := F0 mid 5 ls [.int (bI (inB m (nI 0) (nI (cN C) - nI 1)))]) rfl ?_
  refine bb_ne (tgt := 11) hx hb dX0_about_5 (by decide) (fun c_5 => ?_) (fun c_5 => ?_)
  · obtain ⟨u, hu, rfl⟩ := im_nat c_5 hN
    have ij_u : ixN (nI u) = u := ixN_nI (by omega)
    have hp8 := hC.p u
    have hk14 := hC.k u
    refine lv_aload_n hx hb dX0_about_11 rfl (lv_at hl 0 rfl) ?_
    refine xx_getP S G 0 (by decide) q89 rfl (v := .ref (jA j 1)) rfl dX0_about_12 ?_
    refine lv_iload_n hx hb dX0_about_15 rfl (lv_at hl 1 rfl) ?_
    refine xx_aald S G (r := 1) (by decide) (xW_p (by decide) rfl) (i := u) (by omega) (by decide) (o := some (jA j (xr u 0))) (if_pos (by omega)) dX0_about_16 ?_
    refine W.eq (g2 := F0 mid 17 ls [.ref (jA j (xr u 0))]) rfl ?_
    refine lv_astore_n (lv' := [(3, .ref (jA j (xr u 0))), (0, .ref (jA j 0)), (1, .int (nI u)), (2, .int a)]) hx hb dX0_about_17 rfl hl (by decide) rfl (fun ls hl => ?_)
    refine lv_iload_n hx hb dX0_about_18 rfl (lv_at hl 3 rfl) ?_
    refine lv_if_ne (tgt := 27) hx hb dX0_about_19 (by decide) (fun c_19 => ?_) (fun c_19 => ?_)
    · refine lv_iload_n hx hb dX0_about_27 rfl (lv_at hl 3 rfl) ?_
      refine lv_iconst (v := nI 1) hx hb dX0_about_28 (by decide) ?_
      refine lv_bipush (v := nI 6) hx hb dX0_about_29 (by decide) ?_
      refine sC_call (As := [.int a, .int (nI 1), .int (nI 6)]) (rest := []) S (st_X0_isIn l a (nI 1) (nI 6)) q149 q150 q52 q151 hd_X0_isIn ⟨Nat.le_of_ble_eq_true rfl, Nat.le_of_ble_eq_true rfl⟩ rfl hl.1 rfl (Nat.le_of_ble_eq_true rfl) dX0_about_31 ⟨Nat.zero_le _, Nat.zero_le _⟩ ?_
      refine W.eq (g2 := F0 mid 34 ls [.int (bI (inB a (nI 1) (nI 6)))]) rfl ?_
      refine bb_eq (tgt := 46) hx hb dX0_about_34 (by decide) (fun c_34 => ?_) (fun c_34 => ?_)
      · refine lv_iload_n hx hb dX0_about_46 rfl (lv_at hl 3 rfl) ?_
        refine lv_bipush (v := nI 7) hx hb dX0_about_47 (by decide) ?_
        refine lv_bipush (v := nI 12) hx hb dX0_about_49 (by decide) ?_
        refine sC_call (As := [.int a, .int (nI 7), .int (nI 12)]) (rest := []) S (st_X0_isIn l a (nI 7) (nI 12)) q149 q150 q52 q151 hd_X0_isIn ⟨Nat.le_of_ble_eq_true rfl, Nat.le_of_ble_eq_true rfl⟩ rfl hl.1 rfl (Nat.le_of_ble_eq_true rfl) dX0_about_51 ⟨Nat.zero_le _, Nat.zero_le _⟩ ?_
        refine W.eq (g2 := F0 mid 54 ls [.int (bI (inB a (nI 7) (nI 12)))]) rfl ?_
        refine bb_eq (tgt := 75) hx hb dX0_about_54 (by decide) (fun c_54 => ?_) (fun c_54 => ?_)
        · refine lv_iload_n hx hb dX0_about_75 rfl (lv_at hl 3 rfl) ?_
          refine lv_bipush (v := nI 13) hx hb dX0_about_76 (by decide) ?_
          refine lv_icmp_ne (tgt := 102) hx hb dX0_about_78 (by decide) (fun c_78 => ?_) (fun c_78 => ?_)
          · refine lv_iload_n hx hb dX0_about_102 rfl (lv_at hl 3 rfl) ?_
            refine lv_bipush (v := nI 14) hx hb dX0_about_103 (by decide) ?_
            refine lv_icmp_ne (tgt := 115) hx hb dX0_about_105 (by decide) (fun c_105 => ?_) (fun c_105 => ?_)
            · have hab := ab_c c_19 c_34 c_54 c_78 c_105
              refine lv_bipush (v := (-102)) hx hb dX0_about_115 (by decide) ?_
              exact xx_iret S hr hlk G (by simp [abI, imB, c_5, ij_u, c_19, c_34, c_54, c_78, c_105, hab] <;> rfl) rfl dX0_about_117
            · refine lv_aload_n hx hb dX0_about_108 rfl (lv_at hl 0 rfl) ?_
              refine xx_get11 S G (mm := u) (by omega) hN (hC.k _) 10 (by decide) q233 rfl (v := .int (nI (cA C u))) rfl dX0_about_109 ?_
              refine lv_goto (tgt := 117) hx hb dX0_about_112 (by decide) ?_
              exact xx_iret S hr hlk G (by rw [show a = nI 14 from c_105]; simp [abI, imB, ixN_nI, ab_in, c_5, ij_u, c_19, c_34, c_54, c_78]) rfl dX0_about_117
          · refine lv_aload_n hx hb dX0_about_81 rfl (lv_at hl 0 rfl) ?_
            refine xx_get11 S G (mm := u) (by omega) hN (hC.k _) 0 (by decide) q203 rfl (v := .int (nI (cK C u))) rfl dX0_about_82 ?_
            refine lv_bipush (v := nI 7) hx hb dX0_about_85 (by decide) ?_
            refine nn_cne (tgt := 100) hx hb (by omega) (by omega) dX0_about_87 (by decide) (fun c_87 => ?_) (fun c_87 => ?_)
            · have hp0 : cP C u = 0 := hP7 u c_87
              refine lv_iconst (v := nI 0) hx hb dX0_about_100 (by decide) ?_
              exact xx_iret S hr hlk G (by rw [show a = nI 13 from c_78]; simp [abI, imB, ixN_nI, ab_in, c_5, ij_u, c_19, c_34, c_54, c_87, hp0]) rfl dX0_about_101
            · refine lv_aload_n hx hb dX0_about_90 rfl (lv_at hl 0 rfl) ?_
              refine xx_cast S G (mm := u) (by omega) hN (hC.k _) (by rw [c_87]; exact q414) dX0_about_91 ?_
              refine xx_getM S G (mm := u) (ref := "TwinPanel$Table") (by omega) hN (hC.k _) 13 (by rw [c_87]; decide) (by rw [c_87]; exact hts _ q425) (by rw [c_87]; exact fun x h => h) (v := .int (nI (cP C u))) (xV_7_13 c_87) dX0_about_94 ?_
              refine lv_goto (tgt := 101) hx hb dX0_about_97 (by decide) ?_
              exact xx_iret S hr hlk G (by rw [show a = nI 13 from c_78]; simp [abI, imB, ixN_nI, ab_in, c_5, ij_u, c_19, c_34, c_54, c_87]) rfl dX0_about_101
        · obtain ⟨b, hb7, hb12, rfl⟩ := in_nat c_54 (by decide) (by decide)
          have ij_b : ixN (nI b) = b := ixN_nI (by omega)
          have hab := ab_in (show b ≤ 14 by omega)
          have hb0 : ¬ b = 0 := by omega
          have hb13 : b < 13 := by omega
          have hbn7 : ¬ b < 7 := by omega
          refine lv_aload_n hx hb dX0_about_57 rfl (lv_at hl 0 rfl) ?_
          refine xx_get11 S G (mm := u) (by omega) hN (hC.k _) 5 (by decide) q224 rfl (v := .ref (jA j (xr u 3))) rfl dX0_about_58 ?_
          refine lv_iload_n hx hb dX0_about_61 rfl (lv_at hl 3 rfl) ?_
          refine lv_bipush (v := nI 7) hx hb dX0_about_62 (by decide) ?_
          refine nn_sub hx hb (by omega) dX0_about_64 ?_
          refine xx_zald S G (r := xr u 3) (xr_lt (by decide) (Nat.lt_of_lt_of_le (by omega) hN)) (xW_m (by decide) (by omega) rfl) 1 rfl (i := b - 7) (by omega) (by decide) (v := bI (cT C u (b - 7))) rfl dX0_about_65 ?_
          refine bb_eq (tgt := 73) hx hb dX0_about_66 (by decide) (fun c_66 => ?_) (fun c_66 => ?_)
          · refine lv_iconst (v := nI 0) hx hb dX0_about_73 (by decide) ?_
            exact xx_iret S hr hlk G (by simp [abI, imB, c_5, ij_u, c_19, c_34, c_54, ij_b, hab, hb0, hb13, hbn7, c_66] <;> rfl) rfl dX0_about_74
          · refine lv_iconst (v := nI 1) hx hb dX0_about_69 (by decide) ?_
            refine lv_goto (tgt := 74) hx hb dX0_about_70 (by decide) ?_
            exact xx_iret S hr hlk G (by simp [abI, imB, c_5, ij_u, c_19, c_34, c_54, ij_b, hab, hb0, hb13, hbn7, c_66] <;> rfl) rfl dX0_about_74
      · obtain ⟨b, hb1, hb6, rfl⟩ := in_nat c_34 (by decide) (by decide)
        have ij_b : ixN (nI b) = b := ixN_nI (by omega)
        have hab := ab_in (show b ≤ 14 by omega)
        have hb0 : ¬ b = 0 := by omega
        have hb7 : b < 7 := by omega
        refine lv_aload_n hx hb dX0_about_37 rfl (lv_at hl 0 rfl) ?_
        refine xx_get11 S G (mm := u) (by omega) hN (hC.k _) 4 (by decide) q222 rfl (v := .ref (jA j (xr u 2))) rfl dX0_about_38 ?_
        refine lv_iload_n hx hb dX0_about_41 rfl (lv_at hl 3 rfl) ?_
        refine lv_iconst (v := nI 1) hx hb dX0_about_42 (by decide) ?_
        refine nn_sub hx hb (by omega) dX0_about_43 ?_
        refine xx_iald S G (r := xr u 2) (xr_lt (by decide) (Nat.lt_of_lt_of_le (by omega) hN)) (xW_m (by decide) (by omega) rfl) 0 rfl (i := b - 1) (by omega) (by decide) (v := oI (cF C u (b - 1))) rfl dX0_about_44 ?_
        exact xx_iret S hr hlk G (by simp [abI, imB, c_5, ij_u, c_19, c_34, ij_b, hab, hb0, hb7] <;> rfl) rfl dX0_about_45
    · refine lv_aload_n hx hb dX0_about_22 rfl (lv_at hl 0 rfl) ?_
      refine xx_get11 S G (mm := u) (by omega) hN (hC.k _) 0 (by decide) q203 rfl (v := .int (nI (cK C u))) rfl dX0_about_23 ?_
      exact xx_iret S hr hlk G (by rw [show a = nI 0 from c_19]; simp [abI, imB, ixN_nI, ab_in, c_5, ij_u]) rfl dX0_about_26
  · refine lv_bipush (v := (-101)) hx hb dX0_about_8 (by decide) ?_
    exact xx_iret S hr hlk G (by simp [abI, imB, c_5] <;> rfl) rfl dX0_about_10
