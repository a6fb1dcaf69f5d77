set_option maxRecDepth 100000
set_option maxHeartbeats 4000000
theorem dX1_in_0 : decode cX1_in 0 = .ok (.iload_n 0, 1) := by decide +kernel
theorem dX1_in_1 : decode cX1_in 1 = .ok (.iload_n 1, 1) := by decide +kernel
theorem dX1_in_2 : decode cX1_in 2 = .ok (.if_icmp .lt 12, 3) := by decide +kernel
theorem dX1_in_5 : decode cX1_in 5 = .ok (.iload_n 0, 1) := by decide +kernel
theorem dX1_in_6 : decode cX1_in 6 = .ok (.iload_n 2, 1) := by decide +kernel
theorem dX1_in_7 : decode cX1_in 7 = .ok (.if_icmp .gt 7, 3) := by decide +kernel
theorem dX1_in_10 : decode cX1_in 10 = .ok (.iconst 1, 1) := by decide +kernel
theorem dX1_in_11 : decode cX1_in 11 = .ok (.goto 4, 3) := by decide +kernel
theorem dX1_in_14 : decode cX1_in 14 = .ok (.iconst 0, 1) := by decide +kernel
theorem dX1_in_15 : decode cX1_in 15 = .ok (.ireturn, 1) := by decide +kernel
theorem dX1_isModule_0 : decode cX1_isModule 0 = .ok (.iload_n 1, 1) := by decide +kernel
theorem dX1_isModule_1 : decode cX1_isModule 1 = .ok (.iconst 0, 1) := by decide +kernel
theorem dX1_isModule_2 : decode cX1_isModule 2 = .ok (.aload_n 0, 1) := by decide +kernel
theorem dX1_isModule_3 : decode cX1_isModule 3 = .ok (.getfield 158, 3) := by decide +kernel
theorem dX1_isModule_6 : decode cX1_isModule 6 = .ok (.iconst 1, 1) := by decide +kernel
theorem dX1_isModule_7 : decode cX1_isModule 7 = .ok (.isub, 1) := by decide +kernel
theorem dX1_isModule_8 : decode cX1_isModule 8 = .ok (.invokestatic 161, 3) := by decide +kernel
theorem dX1_isModule_11 : decode cX1_isModule 11 = .ok (.ireturn, 1) := by decide +kernel
theorem dX1_remembers_0 : decode cX1_remembers 0 = .ok (.iload_n 0, 1) := by decide +kernel
theorem dX1_remembers_1 : decode cX1_remembers 1 = .ok (.iconst 2, 1) := by decide +kernel
theorem dX1_remembers_2 : decode cX1_remembers 2 = .ok (.if_icmp .eq 20, 3) := by decide +kernel
theorem dX1_remembers_5 : decode cX1_remembers 5 = .ok (.iload_n 0, 1) := by decide +kernel
theorem dX1_remembers_6 : decode cX1_remembers 6 = .ok (.iconst 3, 1) := by decide +kernel
theorem dX1_remembers_7 : decode cX1_remembers 7 = .ok (.if_icmp .eq 15, 3) := by decide +kernel
theorem dX1_remembers_10 : decode cX1_remembers 10 = .ok (.iload_n 0, 1) := by decide +kernel
theorem dX1_remembers_11 : decode cX1_remembers 11 = .ok (.bipush 11, 2) := by decide +kernel
theorem dX1_remembers_13 : decode cX1_remembers 13 = .ok (.if_icmp .eq 9, 3) := by decide +kernel
theorem dX1_remembers_16 : decode cX1_remembers 16 = .ok (.iload_n 0, 1) := by decide +kernel
theorem dX1_remembers_17 : decode cX1_remembers 17 = .ok (.bipush 13, 2) := by decide +kernel
theorem dX1_remembers_19 : decode cX1_remembers 19 = .ok (.if_icmp .ne 7, 3) := by decide +kernel
theorem dX1_remembers_22 : decode cX1_remembers 22 = .ok (.iconst 1, 1) := by decide +kernel
theorem dX1_remembers_23 : decode cX1_remembers 23 = .ok (.goto 4, 3) := by decide +kernel
theorem dX1_remembers_26 : decode cX1_remembers 26 = .ok (.iconst 0, 1) := by decide +kernel
theorem dX1_remembers_27 : decode cX1_remembers 27 = .ok (.ireturn, 1) := by decide +kernel
theorem dX1_isNumber_0 : decode cX1_isNumber 0 = .ok (.lload_n 0, 1) := by decide +kernel
theorem dX1_isNumber_1 : decode cX1_isNumber 1 = .ok (.ldc2_w 165, 3) := by decide +kernel
theorem dX1_isNumber_4 : decode cX1_isNumber 4 = .ok (.land, 1) := by decide +kernel
theorem dX1_isNumber_5 : decode cX1_isNumber 5 = .ok (.ldc2_w 167, 3) := by decide +kernel
theorem dX1_isNumber_8 : decode cX1_isNumber 8 = .ok (.lcmp, 1) := by decide +kernel
theorem dX1_isNumber_9 : decode cX1_isNumber 9 = .ok (.ifCond .gt 7, 3) := by decide +kernel
theorem dX1_isNumber_12 : decode cX1_isNumber 12 = .ok (.iconst 1, 1) := by decide +kernel
theorem dX1_isNumber_13 : decode cX1_isNumber 13 = .ok (.goto 4, 3) := by decide +kernel
theorem dX1_isNumber_16 : decode cX1_isNumber 16 = .ok (.iconst 0, 1) := by decide +kernel
theorem dX1_isNumber_17 : decode cX1_isNumber 17 = .ok (.ireturn, 1) := by decide +kernel
theorem dX1_isWithin_0 : decode cX1_isWithin 0 = .ok (.dload_n 0, 1) := by decide +kernel
theorem dX1_isWithin_1 : decode cX1_isWithin 1 = .ok (.dload_n 2, 1) := by decide +kernel
theorem dX1_isWithin_2 : decode cX1_isWithin 2 = .ok (.dcmp .l, 1) := by decide +kernel
theorem dX1_isWithin_3 : decode cX1_isWithin 3 = .ok (.ifCond .lt 14, 3) := by decide +kernel
theorem dX1_isWithin_6 : decode cX1_isWithin 6 = .ok (.dload_n 0, 1) := by decide +kernel
theorem dX1_isWithin_7 : decode cX1_isWithin 7 = .ok (.dload 4, 2) := by decide +kernel
theorem dX1_isWithin_9 : decode cX1_isWithin 9 = .ok (.dcmp .g, 1) := by decide +kernel
theorem dX1_isWithin_10 : decode cX1_isWithin 10 = .ok (.ifCond .gt 7, 3) := by decide +kernel
theorem dX1_isWithin_13 : decode cX1_isWithin 13 = .ok (.iconst 1, 1) := by decide +kernel
theorem dX1_isWithin_14 : decode cX1_isWithin 14 = .ok (.goto 4, 3) := by decide +kernel
theorem dX1_isWithin_17 : decode cX1_isWithin 17 = .ok (.iconst 0, 1) := by decide +kernel
theorem dX1_isWithin_18 : decode cX1_isWithin 18 = .ok (.ireturn, 1) := by decide +kernel
theorem dX1_isSetting_0 : decode cX1_isSetting 0 = .ok (.iload_n 0, 1) := by decide +kernel
theorem dX1_isSetting_1 : decode cX1_isSetting 1 = .ok (.bipush 10, 2) := by decide +kernel
theorem dX1_isSetting_3 : decode cX1_isSetting 3 = .ok (.if_icmp .ne 12, 3) := by decide +kernel
theorem dX1_isSetting_6 : decode cX1_isSetting 6 = .ok (.dload_n 1, 1) := by decide +kernel
theorem dX1_isSetting_7 : decode cX1_isSetting 7 = .ok (.ldc2_w 169, 3) := by decide +kernel
theorem dX1_isSetting_10 : decode cX1_isSetting 10 = .ok (.dconst 1, 1) := by decide +kernel
theorem dX1_isSetting_11 : decode cX1_isSetting 11 = .ok (.invokestatic 171, 3) := by decide +kernel
theorem dX1_isSetting_14 : decode cX1_isSetting 14 = .ok (.ireturn, 1) := by decide +kernel
theorem dX1_isSetting_15 : decode cX1_isSetting 15 = .ok (.iload_n 0, 1) := by decide +kernel
theorem dX1_isSetting_16 : decode cX1_isSetting 16 = .ok (.bipush 11, 2) := by decide +kernel
theorem dX1_isSetting_18 : decode cX1_isSetting 18 = .ok (.if_icmp .ne 28, 3) := by decide +kernel
theorem dX1_isSetting_21 : decode cX1_isSetting 21 = .ok (.dload_n 1, 1) := by decide +kernel
theorem dX1_isSetting_22 : decode cX1_isSetting 22 = .ok (.dconst 1, 1) := by decide +kernel
theorem dX1_isSetting_23 : decode cX1_isSetting 23 = .ok (.ldc2_w 175, 3) := by decide +kernel
theorem dX1_isSetting_26 : decode cX1_isSetting 26 = .ok (.invokestatic 171, 3) := by decide +kernel
theorem dX1_isSetting_29 : decode cX1_isSetting 29 = .ok (.ifCond .eq 15, 3) := by decide +kernel
theorem dX1_isSetting_32 : decode cX1_isSetting 32 = .ok (.dload_n 1, 1) := by decide +kernel
theorem dX1_isSetting_33 : decode cX1_isSetting 33 = .ok (.dload_n 1, 1) := by decide +kernel
theorem dX1_isSetting_34 : decode cX1_isSetting 34 = .ok (.d2i, 1) := by decide +kernel
theorem dX1_isSetting_35 : decode cX1_isSetting 35 = .ok (.i2d, 1) := by decide +kernel
theorem dX1_isSetting_36 : decode cX1_isSetting 36 = .ok (.dcmp .l, 1) := by decide +kernel
theorem dX1_isSetting_37 : decode cX1_isSetting 37 = .ok (.ifCond .ne 7, 3) := by decide +kernel
theorem dX1_isSetting_40 : decode cX1_isSetting 40 = .ok (.iconst 1, 1) := by decide +kernel
theorem dX1_isSetting_41 : decode cX1_isSetting 41 = .ok (.goto 4, 3) := by decide +kernel
theorem dX1_isSetting_44 : decode cX1_isSetting 44 = .ok (.iconst 0, 1) := by decide +kernel
theorem dX1_isSetting_45 : decode cX1_isSetting 45 = .ok (.ireturn, 1) := by decide +kernel
theorem dX1_isSetting_46 : decode cX1_isSetting 46 = .ok (.iload_n 0, 1) := by decide +kernel
theorem dX1_isSetting_47 : decode cX1_isSetting 47 = .ok (.bipush 12, 2) := by decide +kernel
theorem dX1_isSetting_49 : decode cX1_isSetting 49 = .ok (.if_icmp .ne 12, 3) := by decide +kernel
theorem dX1_isSetting_52 : decode cX1_isSetting 52 = .ok (.dload_n 1, 1) := by decide +kernel
theorem dX1_isSetting_53 : decode cX1_isSetting 53 = .ok (.dconst 0, 1) := by decide +kernel
theorem dX1_isSetting_54 : decode cX1_isSetting 54 = .ok (.ldc2_w 177, 3) := by decide +kernel
theorem dX1_isSetting_57 : decode cX1_isSetting 57 = .ok (.invokestatic 171, 3) := by decide +kernel
theorem dX1_isSetting_60 : decode cX1_isSetting 60 = .ok (.ireturn, 1) := by decide +kernel
theorem dX1_isSetting_61 : decode cX1_isSetting 61 = .ok (.iload_n 0, 1) := by decide +kernel
theorem dX1_isSetting_62 : decode cX1_isSetting 62 = .ok (.bipush 13, 2) := by decide +kernel
theorem dX1_isSetting_64 : decode cX1_isSetting 64 = .ok (.if_icmp .ne 28, 3) := by decide +kernel
theorem dX1_isSetting_67 : decode cX1_isSetting 67 = .ok (.dload_n 1, 1) := by decide +kernel
theorem dX1_isSetting_68 : decode cX1_isSetting 68 = .ok (.dconst 0, 1) := by decide +kernel
theorem dX1_isSetting_69 : decode cX1_isSetting 69 = .ok (.ldc2_w 179, 3) := by decide +kernel
theorem dX1_isSetting_72 : decode cX1_isSetting 72 = .ok (.invokestatic 171, 3) := by decide +kernel
theorem dX1_isSetting_75 : decode cX1_isSetting 75 = .ok (.ifCond .eq 15, 3) := by decide +kernel
theorem dX1_isSetting_78 : decode cX1_isSetting 78 = .ok (.dload_n 1, 1) := by decide +kernel
theorem dX1_isSetting_79 : decode cX1_isSetting 79 = .ok (.dload_n 1, 1) := by decide +kernel
theorem dX1_isSetting_80 : decode cX1_isSetting 80 = .ok (.d2i, 1) := by decide +kernel
theorem dX1_isSetting_81 : decode cX1_isSetting 81 = .ok (.i2d, 1) := by decide +kernel
theorem dX1_isSetting_82 : decode cX1_isSetting 82 = .ok (.dcmp .l, 1) := by decide +kernel
theorem dX1_isSetting_83 : decode cX1_isSetting 83 = .ok (.ifCond .ne 7, 3) := by decide +kernel
theorem dX1_isSetting_86 : decode cX1_isSetting 86 = .ok (.iconst 1, 1) := by decide +kernel
theorem dX1_isSetting_87 : decode cX1_isSetting 87 = .ok (.goto 4, 3) := by decide +kernel
theorem dX1_isSetting_90 : decode cX1_isSetting 90 = .ok (.iconst 0, 1) := by decide +kernel
theorem dX1_isSetting_91 : decode cX1_isSetting 91 = .ok (.ireturn, 1) := by decide +kernel
theorem dX1_isSetting_92 : decode cX1_isSetting 92 = .ok (.dload_n 1, 1) := by decide +kernel
theorem dX1_isSetting_93 : decode cX1_isSetting 93 = .ok (.dconst 0, 1) := by decide +kernel
theorem dX1_isSetting_94 : decode cX1_isSetting 94 = .ok (.dcmp .l, 1) := by decide +kernel
theorem dX1_isSetting_95 : decode cX1_isSetting 95 = .ok (.ifCond .ne 7, 3) := by decide +kernel
theorem dX1_isSetting_98 : decode cX1_isSetting 98 = .ok (.iconst 1, 1) := by decide +kernel
theorem dX1_isSetting_99 : decode cX1_isSetting 99 = .ok (.goto 4, 3) := by decide +kernel
theorem dX1_isSetting_102 : decode cX1_isSetting 102 = .ok (.iconst 0, 1) := by decide +kernel
theorem dX1_isSetting_103 : decode cX1_isSetting 103 = .ok (.ireturn, 1) := by decide +kernel
theorem dX1_has_0 : decode cX1_has 0 = .ok (.aload_n 0, 1) := by decide +kernel
theorem dX1_has_1 : decode cX1_has 1 = .ok (.getfield 17, 3) := by decide +kernel
theorem dX1_has_4 : decode cX1_has 4 = .ok (.bipush 6, 2) := by decide +kernel
theorem dX1_has_6 : decode cX1_has 6 = .ok (.iload_n 1, 1) := by decide +kernel
theorem dX1_has_7 : decode cX1_has 7 = .ok (.imul, 1) := by decide +kernel
theorem dX1_has_8 : decode cX1_has 8 = .ok (.iload_n 2, 1) := by decide +kernel
theorem dX1_has_9 : decode cX1_has 9 = .ok (.iadd, 1) := by decide +kernel
theorem dX1_has_10 : decode cX1_has 10 = .ok (.iaload, 1) := by decide +kernel
theorem dX1_has_11 : decode cX1_has 11 = .ok (.iconst (-1), 1) := by decide +kernel
theorem dX1_has_12 : decode cX1_has 12 = .ok (.if_icmp .eq 7, 3) := by decide +kernel
theorem dX1_has_15 : decode cX1_has 15 = .ok (.iconst 1, 1) := by decide +kernel
theorem dX1_has_16 : decode cX1_has 16 = .ok (.goto 4, 3) := by decide +kernel
theorem dX1_has_19 : decode cX1_has 19 = .ok (.iconst 0, 1) := by decide +kernel
theorem dX1_has_20 : decode cX1_has 20 = .ok (.ireturn, 1) := by decide +kernel
theorem dX1_light_0 : decode cX1_light 0 = .ok (.aload_n 0, 1) := by decide +kernel
theorem dX1_light_1 : decode cX1_light 1 = .ok (.getfield 68, 3) := by decide +kernel
theorem dX1_light_4 : decode cX1_light 4 = .ok (.iload_n 1, 1) := by decide +kernel
theorem dX1_light_5 : decode cX1_light 5 = .ok (.iaload, 1) := by decide +kernel
theorem dX1_light_6 : decode cX1_light 6 = .ok (.iconst (-1), 1) := by decide +kernel
theorem dX1_light_7 : decode cX1_light 7 = .ok (.if_icmp .ne 13, 3) := by decide +kernel
theorem dX1_light_10 : decode cX1_light 10 = .ok (.aload_n 0, 1) := by decide +kernel
theorem dX1_light_11 : decode cX1_light 11 = .ok (.getfield 68, 3) := by decide +kernel
theorem dX1_light_14 : decode cX1_light 14 = .ok (.iload_n 1, 1) := by decide +kernel
theorem dX1_light_15 : decode cX1_light 15 = .ok (.aload_n 0, 1) := by decide +kernel
theorem dX1_light_16 : decode cX1_light 16 = .ok (.getfield 233, 3) := by decide +kernel
theorem dX1_light_19 : decode cX1_light 19 = .ok (.iastore, 1) := by decide +kernel
theorem dX1_light_20 : decode cX1_light 20 = .ok (.return_, 1) := by decide +kernel
theorem dX1_after_0 : decode cX1_after 0 = .ok (.dload_n 2, 1) := by decide +kernel
theorem dX1_after_1 : decode cX1_after 1 = .ok (.ldc2_w 177, 3) := by decide +kernel
theorem dX1_after_4 : decode cX1_after 4 = .ok (.dcmp .l, 1) := by decide +kernel
theorem dX1_after_5 : decode cX1_after 5 = .ok (.ifCond .gt 11, 3) := by decide +kernel
theorem dX1_after_8 : decode cX1_after 8 = .ok (.dload_n 2, 1) := by decide +kernel
theorem dX1_after_9 : decode cX1_after 9 = .ok (.ldc2_w 202, 3) := by decide +kernel
theorem dX1_after_12 : decode cX1_after 12 = .ok (.dcmp .g, 1) := by decide +kernel
theorem dX1_after_13 : decode cX1_after 13 = .ok (.ifCond .ge 24, 3) := by decide +kernel
theorem dX1_after_16 : decode cX1_after 16 = .ok (.aload_n 0, 1) := by decide +kernel
theorem dX1_after_17 : decode cX1_after 17 = .ok (.iload_n 1, 1) := by decide +kernel
theorem dX1_after_18 : decode cX1_after 18 = .ok (.invokevirtual 236, 3) := by decide +kernel
theorem dX1_after_21 : decode cX1_after 21 = .ok (.dload_n 2, 1) := by decide +kernel
theorem dX1_after_22 : decode cX1_after 22 = .ok (.dconst 0, 1) := by decide +kernel
theorem dX1_after_23 : decode cX1_after 23 = .ok (.dcmp .l, 1) := by decide +kernel
theorem dX1_after_24 : decode cX1_after 24 = .ok (.ifCond .le 9, 3) := by decide +kernel
theorem dX1_after_27 : decode cX1_after 27 = .ok (.ldc2_w 177, 3) := by decide +kernel
theorem dX1_after_30 : decode cX1_after 30 = .ok (.goto 6, 3) := by decide +kernel
theorem dX1_after_33 : decode cX1_after 33 = .ok (.ldc2_w 202, 3) := by decide +kernel
theorem dX1_after_36 : decode cX1_after 36 = .ok (.dreturn, 1) := by decide +kernel
theorem dX1_after_37 : decode cX1_after 37 = .ok (.dload_n 2, 1) := by decide +kernel
theorem dX1_after_38 : decode cX1_after 38 = .ok (.dconst 0, 1) := by decide +kernel
theorem dX1_after_39 : decode cX1_after 39 = .ok (.dcmp .l, 1) := by decide +kernel
theorem dX1_after_40 : decode cX1_after 40 = .ok (.ifCond .ne 7, 3) := by decide +kernel
theorem dX1_after_43 : decode cX1_after 43 = .ok (.dconst 0, 1) := by decide +kernel
theorem dX1_after_44 : decode cX1_after 44 = .ok (.goto 4, 3) := by decide +kernel
theorem dX1_after_47 : decode cX1_after 47 = .ok (.dload_n 2, 1) := by decide +kernel
theorem dX1_after_48 : decode cX1_after 48 = .ok (.dreturn, 1) := by decide +kernel
theorem dX1_afterF_0 : decode cX1_afterF 0 = .ok (.fload_n 2, 1) := by decide +kernel
theorem dX1_afterF_1 : decode cX1_afterF 1 = .ok (.ldc 240, 2) := by decide +kernel
theorem dX1_afterF_3 : decode cX1_afterF 3 = .ok (.fcmp .l, 1) := by decide +kernel
theorem dX1_afterF_4 : decode cX1_afterF 4 = .ok (.ifCond .gt 10, 3) := by decide +kernel
theorem dX1_afterF_7 : decode cX1_afterF 7 = .ok (.fload_n 2, 1) := by decide +kernel
theorem dX1_afterF_8 : decode cX1_afterF 8 = .ok (.ldc 241, 2) := by decide +kernel
theorem dX1_afterF_10 : decode cX1_afterF 10 = .ok (.fcmp .g, 1) := by decide +kernel
theorem dX1_afterF_11 : decode cX1_afterF 11 = .ok (.ifCond .ge 22, 3) := by decide +kernel
theorem dX1_afterF_14 : decode cX1_afterF 14 = .ok (.aload_n 0, 1) := by decide +kernel
theorem dX1_afterF_15 : decode cX1_afterF 15 = .ok (.iload_n 1, 1) := by decide +kernel
theorem dX1_afterF_16 : decode cX1_afterF 16 = .ok (.invokevirtual 236, 3) := by decide +kernel
theorem dX1_afterF_19 : decode cX1_afterF 19 = .ok (.fload_n 2, 1) := by decide +kernel
theorem dX1_afterF_20 : decode cX1_afterF 20 = .ok (.fconst 0, 1) := by decide +kernel
theorem dX1_afterF_21 : decode cX1_afterF 21 = .ok (.fcmp .l, 1) := by decide +kernel
theorem dX1_afterF_22 : decode cX1_afterF 22 = .ok (.ifCond .le 8, 3) := by decide +kernel
theorem dX1_afterF_25 : decode cX1_afterF 25 = .ok (.ldc 240, 2) := by decide +kernel
theorem dX1_afterF_27 : decode cX1_afterF 27 = .ok (.goto 5, 3) := by decide +kernel
theorem dX1_afterF_30 : decode cX1_afterF 30 = .ok (.ldc 241, 2) := by decide +kernel
theorem dX1_afterF_32 : decode cX1_afterF 32 = .ok (.freturn, 1) := by decide +kernel
theorem dX1_afterF_33 : decode cX1_afterF 33 = .ok (.fload_n 2, 1) := by decide +kernel
theorem dX1_afterF_34 : decode cX1_afterF 34 = .ok (.fconst 0, 1) := by decide +kernel
theorem dX1_afterF_35 : decode cX1_afterF 35 = .ok (.fcmp .l, 1) := by decide +kernel
theorem dX1_afterF_36 : decode cX1_afterF 36 = .ok (.ifCond .ne 7, 3) := by decide +kernel
theorem dX1_afterF_39 : decode cX1_afterF 39 = .ok (.fconst 0, 1) := by decide +kernel
theorem dX1_afterF_40 : decode cX1_afterF 40 = .ok (.goto 4, 3) := by decide +kernel
theorem dX1_afterF_43 : decode cX1_afterF 43 = .ok (.fload_n 2, 1) := by decide +kernel
theorem dX1_afterF_44 : decode cX1_afterF 44 = .ok (.freturn, 1) := by decide +kernel
theorem dX1_input_0 : decode cX1_input 0 = .ok (.aload_n 0, 1) := by decide +kernel
theorem dX1_input_1 : decode cX1_input 1 = .ok (.getfield 53, 3) := by decide +kernel
theorem dX1_input_4 : decode cX1_input 4 = .ok (.aload_n 0, 1) := by decide +kernel
theorem dX1_input_5 : decode cX1_input 5 = .ok (.getfield 17, 3) := by decide +kernel
theorem dX1_input_8 : decode cX1_input 8 = .ok (.bipush 6, 2) := by decide +kernel
theorem dX1_input_10 : decode cX1_input 10 = .ok (.iload_n 1, 1) := by decide +kernel
theorem dX1_input_11 : decode cX1_input 11 = .ok (.imul, 1) := by decide +kernel
theorem dX1_input_12 : decode cX1_input 12 = .ok (.iload_n 2, 1) := by decide +kernel
theorem dX1_input_13 : decode cX1_input 13 = .ok (.iadd, 1) := by decide +kernel
theorem dX1_input_14 : decode cX1_input 14 = .ok (.iaload, 1) := by decide +kernel
theorem dX1_input_15 : decode cX1_input 15 = .ok (.daload, 1) := by decide +kernel
theorem dX1_input_16 : decode cX1_input 16 = .ok (.dstore_n 3, 1) := by decide +kernel
theorem dX1_input_17 : decode cX1_input 17 = .ok (.aload_n 0, 1) := by decide +kernel
theorem dX1_input_18 : decode cX1_input 18 = .ok (.getfield 20, 3) := by decide +kernel
theorem dX1_input_21 : decode cX1_input 21 = .ok (.bipush 6, 2) := by decide +kernel
theorem dX1_input_23 : decode cX1_input 23 = .ok (.iload_n 1, 1) := by decide +kernel
theorem dX1_input_24 : decode cX1_input 24 = .ok (.imul, 1) := by decide +kernel
theorem dX1_input_25 : decode cX1_input 25 = .ok (.iload_n 2, 1) := by decide +kernel
theorem dX1_input_26 : decode cX1_input 26 = .ok (.iadd, 1) := by decide +kernel
theorem dX1_input_27 : decode cX1_input 27 = .ok (.baload, 1) := by decide +kernel
theorem dX1_input_28 : decode cX1_input 28 = .ok (.ifCond .eq 8, 3) := by decide +kernel
theorem dX1_input_31 : decode cX1_input 31 = .ok (.dload_n 3, 1) := by decide +kernel
theorem dX1_input_32 : decode cX1_input 32 = .ok (.dneg, 1) := by decide +kernel
theorem dX1_input_33 : decode cX1_input 33 = .ok (.goto 4, 3) := by decide +kernel
theorem dX1_input_36 : decode cX1_input 36 = .ok (.dload_n 3, 1) := by decide +kernel
theorem dX1_input_37 : decode cX1_input 37 = .ok (.dreturn, 1) := by decide +kernel
theorem dX1_inputF_0 : decode cX1_inputF 0 = .ok (.aload_n 0, 1) := by decide +kernel
theorem dX1_inputF_1 : decode cX1_inputF 1 = .ok (.getfield 56, 3) := by decide +kernel
theorem dX1_inputF_4 : decode cX1_inputF 4 = .ok (.aload_n 0, 1) := by decide +kernel
theorem dX1_inputF_5 : decode cX1_inputF 5 = .ok (.getfield 17, 3) := by decide +kernel
theorem dX1_inputF_8 : decode cX1_inputF 8 = .ok (.bipush 6, 2) := by decide +kernel
theorem dX1_inputF_10 : decode cX1_inputF 10 = .ok (.iload_n 1, 1) := by decide +kernel
theorem dX1_inputF_11 : decode cX1_inputF 11 = .ok (.imul, 1) := by decide +kernel
theorem dX1_inputF_12 : decode cX1_inputF 12 = .ok (.iload_n 2, 1) := by decide +kernel
theorem dX1_inputF_13 : decode cX1_inputF 13 = .ok (.iadd, 1) := by decide +kernel
theorem dX1_inputF_14 : decode cX1_inputF 14 = .ok (.iaload, 1) := by decide +kernel
theorem dX1_inputF_15 : decode cX1_inputF 15 = .ok (.faload, 1) := by decide +kernel
theorem dX1_inputF_16 : decode cX1_inputF 16 = .ok (.fstore_n 3, 1) := by decide +kernel
theorem dX1_inputF_17 : decode cX1_inputF 17 = .ok (.aload_n 0, 1) := by decide +kernel
theorem dX1_inputF_18 : decode cX1_inputF 18 = .ok (.getfield 20, 3) := by decide +kernel
theorem dX1_inputF_21 : decode cX1_inputF 21 = .ok (.bipush 6, 2) := by decide +kernel
theorem dX1_inputF_23 : decode cX1_inputF 23 = .ok (.iload_n 1, 1) := by decide +kernel
theorem dX1_inputF_24 : decode cX1_inputF 24 = .ok (.imul, 1) := by decide +kernel
theorem dX1_inputF_25 : decode cX1_inputF 25 = .ok (.iload_n 2, 1) := by decide +kernel
theorem dX1_inputF_26 : decode cX1_inputF 26 = .ok (.iadd, 1) := by decide +kernel
theorem dX1_inputF_27 : decode cX1_inputF 27 = .ok (.baload, 1) := by decide +kernel
theorem dX1_inputF_28 : decode cX1_inputF 28 = .ok (.ifCond .eq 8, 3) := by decide +kernel
theorem dX1_inputF_31 : decode cX1_inputF 31 = .ok (.fload_n 3, 1) := by decide +kernel
theorem dX1_inputF_32 : decode cX1_inputF 32 = .ok (.fneg, 1) := by decide +kernel
theorem dX1_inputF_33 : decode cX1_inputF 33 = .ok (.goto 4, 3) := by decide +kernel
theorem dX1_inputF_36 : decode cX1_inputF 36 = .ok (.fload_n 3, 1) := by decide +kernel
theorem dX1_inputF_37 : decode cX1_inputF 37 = .ok (.freturn, 1) := by decide +kernel
theorem hd_X1_in : yX1_in.cls ≠ "java/lang/invoke/MethodHandle" ∧ yX1_in.cls ≠ "java/lang/invoke/VarHandle" ∧ (parseMethodDescriptor yX1_in.desc).map (fun d => d.parameters.length) = some 3 := by decide +kernel
theorem hd_X1_isWithin : yX1_isWithin.cls ≠ "java/lang/invoke/MethodHandle" ∧ yX1_isWithin.cls ≠ "java/lang/invoke/VarHandle" ∧ (parseMethodDescriptor yX1_isWithin.desc).map (fun d => d.parameters.length) = some 3 := by decide +kernel
theorem hd_X1_light : yX1_light.cls = RX1 ∧ yX1_light.cls ≠ "java/lang/invoke/MethodHandle" ∧ yX1_light.cls ≠ "java/lang/invoke/VarHandle" ∧ (parseMethodDescriptor yX1_light.desc).map (fun d => d.parameters.length) = some 1 := by decide +kernel
theorem st_X1_in (l : Launch) (v : Int32) (lo : Int32) (hi : Int32) : sC l yX1_in cX1_in 3 (some .boolean) 0 [.int v, .int lo, .int hi] (some (.int (bI (inB v lo hi)))) := by
  refine ss_start (own := RX1) (by decide) rfl (Nat.le_of_ble_eq_true rfl) ?_
  intro p0 e0 s0 mid bl0 me0 co0 ls S hr hlk hl
  have hx := S.1; have hb := S.2.1; have hml := S.2.2.1; have hown := S.2.2.2.1; have hts := S.2.2.2.2
  have hl : lv_has ls 3 [(0, .int v), (1, .int lo), (2, .int hi)] := hl
  refine lv_iload_n hx hb dX1_in_0 rfl (lv_at hl 0 rfl) ?_
  refine lv_iload_n hx hb dX1_in_1 rfl (lv_at hl 1 rfl) ?_
  refine lv_icmp_lt (tgt := 14) hx hb dX1_in_2 (by decide) (fun c_2 => ?_) (fun c_2 => ?_)
  · refine lv_iconst (v := nI 0) hx hb dX1_in_14 (by decide) ?_
    exact ss_zret S hr hlk (by first | rfl | exact bb_nar _) (bI_f (by simp [inB, c_2])) dX1_in_15
  · refine lv_iload_n hx hb dX1_in_5 rfl (lv_at hl 0 rfl) ?_
    refine lv_iload_n hx hb dX1_in_6 rfl (lv_at hl 2 rfl) ?_
    refine lv_icmp_gt (tgt := 14) hx hb dX1_in_7 (by decide) (fun c_7 => ?_) (fun c_7 => ?_)
    · refine lv_iconst (v := nI 0) hx hb dX1_in_14 (by decide) ?_
      exact ss_zret S hr hlk (by first | rfl | exact bb_nar _) (bI_f (by simp [inB, c_2, c_7])) dX1_in_15
    · refine lv_iconst (v := nI 1) hx hb dX1_in_10 (by decide) ?_
      refine lv_goto (tgt := 15) hx hb dX1_in_11 (by decide) ?_
      exact ss_zret S hr hlk (by first | rfl | exact bb_nar _) (bI_t (by simp [inB, c_2, c_7])) dX1_in_15
theorem mt_X1_isModule (l : Launch) (D : va_G) (dA : Nat → ClassId) (ad : Nat → Nat) (C : tp_C) (d : md_T) (m : Int32) : mC l D dA ad yX1_isModule cX1_isModule 2 (some .boolean) 1 [.int m] C d (some (.int (bI (inB m (nI 0) (nI (cN C) - nI 1))))) C d := by
  refine mm_start (by decide) rfl (Nat.le_of_ble_eq_true rfl) ?_
  intro p0 e0 s0 mid bl0 me0 co0 ls S hr hlk G hl
  have hx := S.1; have hb := S.2.1; have hml := S.2.2.1; have hown := S.2.2.2.1; have hts := S.2.2.2.2
  have hl : lv_has ls 2 [(0, .ref (ad 0)), (1, .int m)] := hl
  refine lv_iload_n hx hb dX1_isModule_0 rfl (lv_at hl 1 rfl) ?_
  refine lv_iconst (v := nI 0) hx hb dX1_isModule_1 (by decide) ?_
  refine lv_aload_n hx hb dX1_isModule_2 rfl (lv_at hl 0 rfl) ?_
  refine mm_get S G 0 (by decide) q1267 rfl (v := .int (nI (cN C))) rfl dX1_isModule_3 ?_
  refine lv_iconst (v := nI 1) hx hb dX1_isModule_6 (by decide) ?_
  refine lv_isub hx hb dX1_isModule_7 ?_
  refine sC_call (As := [.int m, .int (nI 0), .int ((nI (cN C)) - (nI 1))]) (rest := []) S (st_X1_in l m (nI 0) ((nI (cN C)) - (nI 1))) q1455 q1456 q53 q1457 hd_X1_in ⟨Nat.le_of_ble_eq_true rfl, Nat.le_of_ble_eq_true rfl⟩ rfl hl.1 rfl (Nat.le_of_ble_eq_true rfl) dX1_isModule_8 ⟨Nat.zero_le _, Nat.zero_le _⟩ ?_
  refine W.eq (g2 := F0 mid 11 ls [.int (bI (inB m (nI 0) ((nI (cN C)) - (nI 1))))]) rfl ?_
  exact mm_zret S hr hlk G (by first | rfl | exact bb_nar _) (by rfl) rfl rfl dX1_isModule_11
theorem st_X1_remembers (l : Launch) (k : Nat) (hk : k < 14) : sC l yX1_remembers cX1_remembers 1 (some .boolean) 0 [.int (nI k)] (some (.int (bI (rmB k)))) := by
  refine ss_start (own := RX1) (by decide) rfl (Nat.le_of_ble_eq_true rfl) ?_
  intro p0 e0 s0 mid bl0 me0 co0 ls S hr hlk hl
  have hx := S.1; have hb := S.2.1; have hml := S.2.2.1; have hown := S.2.2.2.1; have hts := S.2.2.2.2
  have hl : lv_has ls 1 [(0, .int (nI k))] := hl
  refine lv_iload_n hx hb dX1_remembers_0 rfl (lv_at hl 0 rfl) ?_
  refine lv_iconst (v := nI 2) hx hb dX1_remembers_1 (by decide) ?_
  refine nn_ceq (tgt := 22) hx hb (by omega) (by omega) dX1_remembers_2 (by decide) (fun c_2 => ?_) (fun c_2 => ?_)
  · refine lv_iconst (v := nI 1) hx hb dX1_remembers_22 (by decide) ?_
    refine lv_goto (tgt := 27) hx hb dX1_remembers_23 (by decide) ?_
    exact ss_zret S hr hlk (by first | rfl | exact bb_nar _) (bI_t (by simp [rmB, c_2])) dX1_remembers_27
  · refine lv_iload_n hx hb dX1_remembers_5 rfl (lv_at hl 0 rfl) ?_
    refine lv_iconst (v := nI 3) hx hb dX1_remembers_6 (by decide) ?_
    refine nn_ceq (tgt := 22) hx hb (by omega) (by omega) dX1_remembers_7 (by decide) (fun c_7 => ?_) (fun c_7 => ?_)
    · refine lv_iconst (v := nI 1) hx hb dX1_remembers_22 (by decide) ?_
      refine lv_goto (tgt := 27) hx hb dX1_remembers_23 (by decide) ?_
      exact ss_zret S hr hlk (by first | rfl | exact bb_nar _) (bI_t (by simp [rmB, c_2, c_7])) dX1_remembers_27
    · refine lv_iload_n hx hb dX1_remembers_10 rfl (lv_at hl 0 rfl) ?_
      refine lv_bipush (v := nI 11) hx hb dX1_remembers_11 (by decide) ?_
      refine nn_ceq (tgt := 22) hx hb (by omega) (by omega) dX1_remembers_13 (by decide) (fun c_13 => ?_) (fun c_13 => ?_)
      · refine lv_iconst (v := nI 1) hx hb dX1_remembers_22 (by decide) ?_
        refine lv_goto (tgt := 27) hx hb dX1_remembers_23 (by decide) ?_
        exact ss_zret S hr hlk (by first | rfl | exact bb_nar _) (bI_t (by simp [rmB, c_2, c_7, c_13])) dX1_remembers_27
      · refine lv_iload_n hx hb dX1_remembers_16 rfl (lv_at hl 0 rfl) ?_
        refine lv_bipush (v := nI 13) hx hb dX1_remembers_17 (by decide) ?_
        refine nn_cne (tgt := 26) hx hb (by omega) (by omega) dX1_remembers_19 (by decide) (fun c_19 => ?_) (fun c_19 => ?_)
        · refine lv_iconst (v := nI 0) hx hb dX1_remembers_26 (by decide) ?_
          exact ss_zret S hr hlk (by first | rfl | exact bb_nar _) (bI_f (by simp [rmB, c_2, c_7, c_13, c_19])) dX1_remembers_27
        · refine lv_iconst (v := nI 1) hx hb dX1_remembers_22 (by decide) ?_
          refine lv_goto (tgt := 27) hx hb dX1_remembers_23 (by decide) ?_
          exact ss_zret S hr hlk (by first | rfl | exact bb_nar _) (bI_t (by simp [rmB, c_2, c_7, c_13, c_19])) dX1_remembers_27
theorem st_X1_isNumber (l : Launch) (b : Int64) : sC l yX1_isNumber cX1_isNumber 2 (some .boolean) 0 [.long b] (some (.int (bI (nbB b)))) := by
  refine ss_start (own := RX1) (by decide) rfl (Nat.le_of_ble_eq_true rfl) ?_
  intro p0 e0 s0 mid bl0 me0 co0 ls S hr hlk hl
  have hx := S.1; have hb := S.2.1; have hml := S.2.2.1; have hown := S.2.2.2.1; have hts := S.2.2.2.2
  have hl : lv_has ls 2 [(0, .long b)] := hl
  refine lv_lload_n hx hb dX1_isNumber_0 rfl (lv_at hl 0 rfl) ?_
  refine lv_ldc2 hx hb hown (hts _ q1461) dX1_isNumber_1 ?_
  refine lv_land hx hb dX1_isNumber_4 ?_
  refine lv_ldc2 hx hb hown (hts _ q1462) dX1_isNumber_5 ?_
  refine ll_gt (tgt := 16) hx hb dX1_isNumber_8 dX1_isNumber_9 (by decide) (fun c_9 => ?_) (fun c_9 => ?_)
  · refine lv_iconst (v := nI 0) hx hb dX1_isNumber_16 (by decide) ?_
    exact ss_zret S hr hlk (by first | rfl | exact bb_nar _) (bI_f (by simp [nbB, c_9])) dX1_isNumber_17
  · refine lv_iconst (v := nI 1) hx hb dX1_isNumber_12 (by decide) ?_
    refine lv_goto (tgt := 17) hx hb dX1_isNumber_13 (by decide) ?_
    exact ss_zret S hr hlk (by first | rfl | exact bb_nar _) (bI_t (by simp [nbB, c_9])) dX1_isNumber_17
theorem st_X1_isWithin (l : Launch) (v : UInt64) (lo : UInt64) (hi : UInt64) : sC l yX1_isWithin cX1_isWithin 6 (some .boolean) 0 [.double v, .double lo, .double hi] (some (.int (bI (wiB v lo hi)))) := by
  refine ss_start (own := RX1) (by decide) rfl (Nat.le_of_ble_eq_true rfl) ?_
  intro p0 e0 s0 mid bl0 me0 co0 ls S hr hlk hl
  have hx := S.1; have hb := S.2.1; have hml := S.2.2.1; have hown := S.2.2.2.1; have hts := S.2.2.2.2
  have hl : lv_has ls 6 [(0, .double v), (2, .double lo), (4, .double hi)] := hl
  refine lv_dload_n hx hb dX1_isWithin_0 rfl (lv_at hl 0 rfl) ?_
  refine lv_dload_n hx hb dX1_isWithin_1 rfl (lv_at hl 1 rfl) ?_
  refine fx_jllt (tgt := 17) hx hb dX1_isWithin_2 dX1_isWithin_3 (by decide) (fun c_3 => ?_) (fun c_3 => ?_)
  · refine lv_iconst (v := nI 0) hx hb dX1_isWithin_17 (by decide) ?_
    exact ss_zret S hr hlk (by first | rfl | exact bb_nar _) (bI_f (by simp [wiB, c_3])) dX1_isWithin_18
  · refine lv_dload_n hx hb dX1_isWithin_6 rfl (lv_at hl 0 rfl) ?_
    refine lv_dload hx hb dX1_isWithin_7 (lv_at hl 2 rfl) ?_
    refine fx_jggt (tgt := 17) hx hb dX1_isWithin_9 dX1_isWithin_10 (by decide) (fun c_10 => ?_) (fun c_10 => ?_)
    · refine lv_iconst (v := nI 0) hx hb dX1_isWithin_17 (by decide) ?_
      exact ss_zret S hr hlk (by first | rfl | exact bb_nar _) (bI_f (by simp [wiB, c_3, c_10])) dX1_isWithin_18
    · refine lv_iconst (v := nI 1) hx hb dX1_isWithin_13 (by decide) ?_
      refine lv_goto (tgt := 18) hx hb dX1_isWithin_14 (by decide) ?_
      exact ss_zret S hr hlk (by first | rfl | exact bb_nar _) (bI_t (by simp [wiB, c_3, c_10])) dX1_isWithin_18
theorem st_X1_isSetting (l : Launch) (k : Nat) (s : UInt64) (hk : k < 14) : sC l yX1_isSetting cX1_isSetting 3 (some .boolean) 1 [.int (nI k), .double s] (some (.int (bI (stB k s)))) := by
  refine ss_start (own := RX1) (by decide) rfl (Nat.le_of_ble_eq_true rfl) ?_
  intro p0 e0 s0 mid bl0 me0 co0 ls S hr hlk hl
  have hx := S.1; have hb := S.2.1; have hml := S.2.2.1; have hown := S.2.2.2.1; have hts := S.2.2.2.2
  have hl : lv_has ls 3 [(0, .int (nI k)), (1, .double s)] := hl
  refine lv_iload_n hx hb dX1_isSetting_0 rfl (lv_at hl 0 rfl) ?_
  refine lv_bipush (v := nI 10) hx hb dX1_isSetting_1 (by decide) ?_
  refine nn_cne (tgt := 15) hx hb (by omega) (by omega) dX1_isSetting_3 (by decide) (fun c_3 => ?_) (fun c_3 => ?_)
  · refine lv_iload_n hx hb dX1_isSetting_15 rfl (lv_at hl 0 rfl) ?_
    refine lv_bipush (v := nI 11) hx hb dX1_isSetting_16 (by decide) ?_
    refine nn_cne (tgt := 46) hx hb (by omega) (by omega) dX1_isSetting_18 (by decide) (fun c_18 => ?_) (fun c_18 => ?_)
    · refine lv_iload_n hx hb dX1_isSetting_46 rfl (lv_at hl 0 rfl) ?_
      refine lv_bipush (v := nI 12) hx hb dX1_isSetting_47 (by decide) ?_
      refine nn_cne (tgt := 61) hx hb (by omega) (by omega) dX1_isSetting_49 (by decide) (fun c_49 => ?_) (fun c_49 => ?_)
      · refine lv_iload_n hx hb dX1_isSetting_61 rfl (lv_at hl 0 rfl) ?_
        refine lv_bipush (v := nI 13) hx hb dX1_isSetting_62 (by decide) ?_
        refine nn_cne (tgt := 92) hx hb (by omega) (by omega) dX1_isSetting_64 (by decide) (fun c_64 => ?_) (fun c_64 => ?_)
        · refine lv_dload_n hx hb dX1_isSetting_92 rfl (lv_at hl 1 rfl) ?_
          refine lv_dconst0 hx hb dX1_isSetting_93 ?_
          refine fx_jlne (tgt := 102) hx hb dX1_isSetting_94 dX1_isSetting_95 (by decide) (fun c_95 => ?_) (fun c_95 => ?_)
          · refine lv_iconst (v := nI 0) hx hb dX1_isSetting_102 (by decide) ?_
            exact ss_zret S hr hlk (by first | rfl | exact bb_nar _) (bI_f (by simp [stB, c_3, c_18, c_49, c_64, c_95])) dX1_isSetting_103
          · refine lv_iconst (v := nI 1) hx hb dX1_isSetting_98 (by decide) ?_
            refine lv_goto (tgt := 103) hx hb dX1_isSetting_99 (by decide) ?_
            exact ss_zret S hr hlk (by first | rfl | exact bb_nar _) (bI_t (by simp [stB, c_3, c_18, c_49, c_64, c_95])) dX1_isSetting_103
        · refine lv_dload_n hx hb dX1_isSetting_67 rfl (lv_at hl 1 rfl) ?_
          refine lv_dconst0 hx hb dX1_isSetting_68 ?_
          refine lv_ldc2d hx hb hown (hts _ q1473) dX1_isSetting_69 ?_
          refine sC_call (As := [.double s, .double FP.dconst0, .double 4696837146684686336]) (rest := []) S (st_X1_isWithin l s FP.dconst0 4696837146684686336) q1468 q1469 q53 q1470 hd_X1_isWithin ⟨Nat.le_of_ble_eq_true rfl, Nat.le_of_ble_eq_true rfl⟩ rfl hl.1 rfl (Nat.le_of_ble_eq_true rfl) dX1_isSetting_72 ⟨Nat.zero_le _, Nat.zero_le _⟩ ?_
          refine W.eq (g2 := F0 mid 75 ls [.int (bI (wiB s FP.dconst0 4696837146684686336))]) rfl ?_
          refine bb_eq (tgt := 90) hx hb dX1_isSetting_75 (by decide) (fun c_75 => ?_) (fun c_75 => ?_)
          · refine lv_iconst (v := nI 0) hx hb dX1_isSetting_90 (by decide) ?_
            exact ss_zret S hr hlk (by first | rfl | exact bb_nar _) (bI_f (by simp [stB, c_3, c_18, c_49, c_64, c_75])) dX1_isSetting_91
          · refine lv_dload_n hx hb dX1_isSetting_78 rfl (lv_at hl 1 rfl) ?_
            refine lv_dload_n hx hb dX1_isSetting_79 rfl (lv_at hl 1 rfl) ?_
            refine lv_d2i hx hb dX1_isSetting_80 ?_
            refine lv_i2d hx hb dX1_isSetting_81 ?_
            refine fx_jlne (tgt := 90) hx hb dX1_isSetting_82 dX1_isSetting_83 (by decide) (fun c_83 => ?_) (fun c_83 => ?_)
            · refine lv_iconst (v := nI 0) hx hb dX1_isSetting_90 (by decide) ?_
              exact ss_zret S hr hlk (by first | rfl | exact bb_nar _) (bI_f (by simp [stB, c_3, c_18, c_49, c_64, c_75, c_83])) dX1_isSetting_91
            · refine lv_iconst (v := nI 1) hx hb dX1_isSetting_86 (by decide) ?_
              refine lv_goto (tgt := 91) hx hb dX1_isSetting_87 (by decide) ?_
              exact ss_zret S hr hlk (by first | rfl | exact bb_nar _) (bI_t (by simp [stB, c_3, c_18, c_49, c_64, c_75, c_83])) dX1_isSetting_91
      · refine lv_dload_n hx hb dX1_isSetting_52 rfl (lv_at hl 1 rfl) ?_
        refine lv_dconst0 hx hb dX1_isSetting_53 ?_
        refine lv_ldc2d hx hb hown (hts _ q1472) dX1_isSetting_54 ?_
        refine sC_call (As := [.double s, .double FP.dconst0, .double 4609434218613702656]) (rest := []) S (st_X1_isWithin l s FP.dconst0 4609434218613702656) q1468 q1469 q53 q1470 hd_X1_isWithin ⟨Nat.le_of_ble_eq_true rfl, Nat.le_of_ble_eq_true rfl⟩ rfl hl.1 rfl (Nat.le_of_ble_eq_true rfl) dX1_isSetting_57 ⟨Nat.zero_le _, Nat.zero_le _⟩ ?_
        refine W.eq (g2 := F0 mid 60 ls [.int (bI (wiB s FP.dconst0 4609434218613702656))]) rfl ?_
        exact ss_zret S hr hlk (by first | rfl | exact bb_nar _) (by simp [stB, c_3, c_18, c_49]) dX1_isSetting_60
    · refine lv_dload_n hx hb dX1_isSetting_21 rfl (lv_at hl 1 rfl) ?_
      refine lv_dconst1 hx hb dX1_isSetting_22 ?_
      refine lv_ldc2d hx hb hown (hts _ q1471) dX1_isSetting_23 ?_
      refine sC_call (As := [.double s, .double FP.dconst1, .double 4625196817309499392]) (rest := []) S (st_X1_isWithin l s FP.dconst1 4625196817309499392) q1468 q1469 q53 q1470 hd_X1_isWithin ⟨Nat.le_of_ble_eq_true rfl, Nat.le_of_ble_eq_true rfl⟩ rfl hl.1 rfl (Nat.le_of_ble_eq_true rfl) dX1_isSetting_26 ⟨Nat.zero_le _, Nat.zero_le _⟩ ?_
      refine W.eq (g2 := F0 mid 29 ls [.int (bI (wiB s FP.dconst1 4625196817309499392))]) rfl ?_
      refine bb_eq (tgt := 44) hx hb dX1_isSetting_29 (by decide) (fun c_29 => ?_) (fun c_29 => ?_)
      · refine lv_iconst (v := nI 0) hx hb dX1_isSetting_44 (by decide) ?_
        exact ss_zret S hr hlk (by first | rfl | exact bb_nar _) (bI_f (by simp [stB, c_3, c_18, c_29])) dX1_isSetting_45
      · refine lv_dload_n hx hb dX1_isSetting_32 rfl (lv_at hl 1 rfl) ?_
        refine lv_dload_n hx hb dX1_isSetting_33 rfl (lv_at hl 1 rfl) ?_
        refine lv_d2i hx hb dX1_isSetting_34 ?_
        refine lv_i2d hx hb dX1_isSetting_35 ?_
        refine fx_jlne (tgt := 44) hx hb dX1_isSetting_36 dX1_isSetting_37 (by decide) (fun c_37 => ?_) (fun c_37 => ?_)
        · refine lv_iconst (v := nI 0) hx hb dX1_isSetting_44 (by decide) ?_
          exact ss_zret S hr hlk (by first | rfl | exact bb_nar _) (bI_f (by simp [stB, c_3, c_18, c_29, c_37])) dX1_isSetting_45
        · refine lv_iconst (v := nI 1) hx hb dX1_isSetting_40 (by decide) ?_
          refine lv_goto (tgt := 45) hx hb dX1_isSetting_41 (by decide) ?_
          exact ss_zret S hr hlk (by first | rfl | exact bb_nar _) (bI_t (by simp [stB, c_3, c_18, c_29, c_37])) dX1_isSetting_45
  · refine lv_dload_n hx hb dX1_isSetting_6 rfl (lv_at hl 1 rfl) ?_
    refine lv_ldc2d hx hb hown (hts _ q1467) dX1_isSetting_7 ?_
    refine lv_dconst1 hx hb dX1_isSetting_10 ?_
    refine sC_call (As := [.double s, .double 13830554455654793216, .double FP.dconst1]) (rest := []) S (st_X1_isWithin l s 13830554455654793216 FP.dconst1) q1468 q1469 q53 q1470 hd_X1_isWithin ⟨Nat.le_of_ble_eq_true rfl, Nat.le_of_ble_eq_true rfl⟩ rfl hl.1 rfl (Nat.le_of_ble_eq_true rfl) dX1_isSetting_11 ⟨Nat.zero_le _, Nat.zero_le _⟩ ?_
    refine W.eq (g2 := F0 mid 14 ls [.int (bI (wiB s 13830554455654793216 FP.dconst1))]) rfl ?_
    exact ss_zret S hr hlk (by first | rfl | exact bb_nar _) (by simp [stB, c_3]) dX1_isSetting_14
theorem mt_X1_has (l : Launch) (D : va_G) (dA : Nat → ClassId) (ad : Nat → Nat) (C : tp_C) (d : md_T) (m : Nat) (i : Nat) (hC : mOK C) (hm : m < 20) (hi : i < 6) : mC l D dA ad yX1_has cX1_has 3 (some .boolean) 0 [.int (nI m), .int (nI i)] C d (some (.int (bI ((cF C m i).isSome)))) C d := by
  refine mm_start (by decide) rfl (Nat.le_of_ble_eq_true rfl) ?_
  intro p0 e0 s0 mid bl0 me0 co0 ls S hr hlk G hl
  have hx := S.1; have hb := S.2.1; have hml := S.2.2.1; have hown := S.2.2.2.1; have hts := S.2.2.2.2
  have hl : lv_has ls 3 [(0, .ref (ad 0)), (1, .int (nI m)), (2, .int (nI i))] := hl
  refine lv_aload_n hx hb dX1_has_0 rfl (lv_at hl 0 rfl) ?_
  refine mm_get S G 3 (by decide) q1270 rfl (v := .ref (ad 4)) rfl dX1_has_1 ?_
  refine lv_bipush (v := nI 6) hx hb dX1_has_4 (by decide) ?_
  refine lv_iload_n hx hb dX1_has_6 rfl (lv_at hl 1 rfl) ?_
  refine nn_mul hx hb dX1_has_7 ?_
  refine lv_iload_n hx hb dX1_has_8 rfl (lv_at hl 2 rfl) ?_
  refine nn_add hx hb dX1_has_9 ?_
  refine mm_iald S G 3 0 (by decide) (n := 120) rfl rfl (by omega) (by decide) (v := oI (cF C m i)) (tp_fr (by omega)) dX1_has_10 ?_
  refine lv_iconst (v := (-1)) hx hb dX1_has_11 (by decide) ?_
  refine oo_ceq (tgt := 19) hx hb hC.f31 dX1_has_12 (by decide) (fun c_12 => ?_) (fun k_12 c_12 => ?_)
  · refine lv_iconst (v := nI 0) hx hb dX1_has_19 (by decide) ?_
    exact mm_zret S hr hlk G (by first | rfl | exact bb_nar _) (bI_f (by simp [c_12])) rfl rfl dX1_has_20
  · refine lv_iconst (v := nI 1) hx hb dX1_has_15 (by decide) ?_
    refine lv_goto (tgt := 20) hx hb dX1_has_16 (by decide) ?_
    exact mm_zret S hr hlk G (by first | rfl | exact bb_nar _) (bI_t (by simp [c_12])) rfl rfl dX1_has_20
theorem mt_X1_light (l : Launch) (D : va_G) (dA : Nat → ClassId) (ad : Nat → Nat) (C : tp_C) (d : md_T) (m : Nat) (hm : m < 20) : mC l D dA ad yX1_light cX1_light 2 none 0 [.int (nI m)] C d none C (mLight d m) := by
  refine mm_start (by decide) rfl (Nat.le_of_ble_eq_true rfl) ?_
  intro p0 e0 s0 mid bl0 me0 co0 ls S hr hlk G hl
  have hx := S.1; have hb := S.2.1; have hml := S.2.2.1; have hown := S.2.2.2.1; have hts := S.2.2.2.2
  have hl : lv_has ls 2 [(0, .ref (ad 0)), (1, .int (nI m))] := hl
  refine lv_aload_n hx hb dX1_light_0 rfl (lv_at hl 0 rfl) ?_
  refine mm_get S G 24 (by decide) q1291 rfl (v := .ref (ad 25)) rfl dX1_light_1 ?_
  refine lv_iload_n hx hb dX1_light_4 rfl (lv_at hl 1 rfl) ?_
  refine mm_iald S G 24 0 (by decide) (n := 20) rfl rfl (by omega) (by decide) (v := dAI d 24 m) rfl dX1_light_5 ?_
  refine lv_iconst (v := (-1)) hx hb dX1_light_6 (by decide) ?_
  refine lv_icmp_ne (tgt := 20) hx hb dX1_light_7 (by decide) (fun c_7 => ?_) (fun c_7 => ?_)
  · exact mm_vret S hr hlk G rfl (by simp [mLight, c_7]) dX1_light_20
  · refine lv_aload_n hx hb dX1_light_10 rfl (lv_at hl 0 rfl) ?_
    refine mm_get S G 24 (by decide) q1291 rfl (v := .ref (ad 25)) rfl dX1_light_11 ?_
    refine lv_iload_n hx hb dX1_light_14 rfl (lv_at hl 1 rfl) ?_
    refine lv_aload_n hx hb dX1_light_15 rfl (lv_at hl 0 rfl) ?_
    refine mm_get S G 44 (by decide) q1311 rfl (v := .int (dI d 44)) rfl dX1_light_16 ?_
    refine mm_iast S G 24 rfl (by decide) (n := 20) rfl (by omega) dX1_light_19 (fun H locs G => ?_)
    exact mm_vret S hr hlk G rfl (by simp [mLight, c_7]) dX1_light_20
theorem mt_X1_after (l : Launch) (D : va_G) (dA : Nat → ClassId) (ad : Nat → Nat) (C : tp_C) (d : md_T) (m : Nat) (v : UInt64) (hm : m < 20) : mC l D dA ad yX1_after cX1_after 4 (some .double) 1 [.int (nI m), .double v] C d (some (.double (clD v))) C (mAfter d m v) := by
  refine mm_start (by decide) rfl (Nat.le_of_ble_eq_true rfl) ?_
  intro p0 e0 s0 mid bl0 me0 co0 ls S hr hlk G hl
  have hx := S.1; have hb := S.2.1; have hml := S.2.2.1; have hown := S.2.2.2.1; have hts := S.2.2.2.2
  have hl : lv_has ls 4 [(0, .ref (ad 0)), (1, .int (nI m)), (2, .double v)] := hl
  refine lv_dload_n hx hb dX1_after_0 rfl (lv_at hl 2 rfl) ?_
  refine lv_ldc2d hx hb hown (hts _ q1472) dX1_after_1 ?_
  refine fx_jlgt (tgt := 16) hx hb dX1_after_4 dX1_after_5 (by decide) (fun c_5 => ?_) (fun c_5 => ?_)
  · refine lv_aload_n hx hb dX1_after_16 rfl (lv_at hl 0 rfl) ?_
    refine lv_iload_n hx hb dX1_after_17 rfl (lv_at hl 1 rfl) ?_
    refine mm_call (As := [.int (nI m)]) (rest := []) S G (mt_X1_light l D dA ad C d m (by omega)) q1562 q1564 qs30 q1565 hd_X1_light ⟨Nat.le_of_ble_eq_true rfl, Nat.le_of_ble_eq_true rfl⟩ rfl hl.1 rfl (Nat.le_of_ble_eq_true rfl) dX1_after_18 ⟨Nat.zero_le _, Nat.zero_le _⟩ (fun H locs G => ?_)
    refine W.eq (g2 := F0 mid 21 ls []) rfl ?_
    refine lv_dload_n hx hb dX1_after_21 rfl (lv_at hl 2 rfl) ?_
    refine lv_dconst0 hx hb dX1_after_22 ?_
    refine fx_jlle (tgt := 33) hx hb dX1_after_23 dX1_after_24 (by decide) (fun c_24 => ?_) (fun c_24 => ?_)
    · refine lv_ldc2d hx hb hown (hts _ q1489) dX1_after_33 ?_
      exact mm_dret S hr hlk G (by simp [clD, ouD, mAfter, c_5, c_24]) rfl (by simp [clD, ouD, mAfter, c_5, c_24]) dX1_after_36
    · refine lv_ldc2d hx hb hown (hts _ q1472) dX1_after_27 ?_
      refine lv_goto (tgt := 36) hx hb dX1_after_30 (by decide) ?_
      exact mm_dret S hr hlk G (by simp [clD, ouD, mAfter, c_5, c_24]) rfl (by simp [clD, ouD, mAfter, c_5, c_24]) dX1_after_36
  · refine lv_dload_n hx hb dX1_after_8 rfl (lv_at hl 2 rfl) ?_
    refine lv_ldc2d hx hb hown (hts _ q1489) dX1_after_9 ?_
    refine fx_jgge (tgt := 37) hx hb dX1_after_12 dX1_after_13 (by decide) (fun c_13 => ?_) (fun c_13 => ?_)
    · refine lv_dload_n hx hb dX1_after_37 rfl (lv_at hl 2 rfl) ?_
      refine lv_dconst0 hx hb dX1_after_38 ?_
      refine fx_jlne (tgt := 47) hx hb dX1_after_39 dX1_after_40 (by decide) (fun c_40 => ?_) (fun c_40 => ?_)
      · refine lv_dload_n hx hb dX1_after_47 rfl (lv_at hl 2 rfl) ?_
        exact mm_dret S hr hlk G (by simp [clD, ouD, mAfter, c_5, c_13, c_40]) rfl (by simp [clD, ouD, mAfter, c_5, c_13, c_40]) dX1_after_48
      · refine lv_dconst0 hx hb dX1_after_43 ?_
        refine lv_goto (tgt := 48) hx hb dX1_after_44 (by decide) ?_
        exact mm_dret S hr hlk G (by simp [clD, ouD, mAfter, c_5, c_13, c_40]) rfl (by simp [clD, ouD, mAfter, c_5, c_13, c_40]) dX1_after_48
    · refine lv_aload_n hx hb dX1_after_16 rfl (lv_at hl 0 rfl) ?_
      refine lv_iload_n hx hb dX1_after_17 rfl (lv_at hl 1 rfl) ?_
      refine mm_call (As := [.int (nI m)]) (rest := []) S G (mt_X1_light l D dA ad C d m (by omega)) q1562 q1564 qs30 q1565 hd_X1_light ⟨Nat.le_of_ble_eq_true rfl, Nat.le_of_ble_eq_true rfl⟩ rfl hl.1 rfl (Nat.le_of_ble_eq_true rfl) dX1_after_18 ⟨Nat.zero_le _, Nat.zero_le _⟩ (fun H locs G => ?_)
      refine W.eq (g2 := F0 mid 21 ls []) rfl ?_
      refine lv_dload_n hx hb dX1_after_21 rfl (lv_at hl 2 rfl) ?_
      refine lv_dconst0 hx hb dX1_after_22 ?_
      refine fx_jlle (tgt := 33) hx hb dX1_after_23 dX1_after_24 (by decide) (fun c_24 => ?_) (fun c_24 => ?_)
      · refine lv_ldc2d hx hb hown (hts _ q1489) dX1_after_33 ?_
        exact mm_dret S hr hlk G (by simp [clD, ouD, mAfter, c_5, c_13, c_24]) rfl (by simp [clD, ouD, mAfter, c_5, c_13, c_24]) dX1_after_36
      · refine lv_ldc2d hx hb hown (hts _ q1472) dX1_after_27 ?_
        refine lv_goto (tgt := 36) hx hb dX1_after_30 (by decide) ?_
        exact mm_dret S hr hlk G (by simp [clD, ouD, mAfter, c_5, c_13, c_24]) rfl (by simp [clD, ouD, mAfter, c_5, c_13, c_24]) dX1_after_36
theorem mt_X1_afterF (l : Launch) (D : va_G) (dA : Nat → ClassId) (ad : Nat → Nat) (C : tp_C) (d : md_T) (m : Nat) (v : UInt32) (hm : m < 20) : mC l D dA ad yX1_afterF cX1_afterF 3 (some .float) 1 [.int (nI m), .float v] C d (some (.float (clF v))) C (mAfterF d m v) := by
  refine mm_start (by decide) rfl (Nat.le_of_ble_eq_true rfl) ?_
  intro p0 e0 s0 mid bl0 me0 co0 ls S hr hlk G hl
  have hx := S.1; have hb := S.2.1; have hml := S.2.2.1; have hown := S.2.2.2.1; have hts := S.2.2.2.2
  have hl : lv_has ls 3 [(0, .ref (ad 0)), (1, .int (nI m)), (2, .float v)] := hl
  refine lv_fload_n hx hb dX1_afterF_0 rfl (lv_at hl 2 rfl) ?_
  refine lv_ldcf hx hb hown (hts _ q1596) dX1_afterF_1 ?_
  refine fy_jlgt (tgt := 14) hx hb dX1_afterF_3 dX1_afterF_4 (by decide) (fun c_4 => ?_) (fun c_4 => ?_)
  · refine lv_aload_n hx hb dX1_afterF_14 rfl (lv_at hl 0 rfl) ?_
    refine lv_iload_n hx hb dX1_afterF_15 rfl (lv_at hl 1 rfl) ?_
    refine mm_call (As := [.int (nI m)]) (rest := []) S G (mt_X1_light l D dA ad C d m (by omega)) q1562 q1564 qs30 q1565 hd_X1_light ⟨Nat.le_of_ble_eq_true rfl, Nat.le_of_ble_eq_true rfl⟩ rfl hl.1 rfl (Nat.le_of_ble_eq_true rfl) dX1_afterF_16 ⟨Nat.zero_le _, Nat.zero_le _⟩ (fun H locs G => ?_)
    refine W.eq (g2 := F0 mid 19 ls []) rfl ?_
    refine lv_fload_n hx hb dX1_afterF_19 rfl (lv_at hl 2 rfl) ?_
    refine lv_fconst0 hx hb dX1_afterF_20 ?_
    refine fy_jlle (tgt := 30) hx hb dX1_afterF_21 dX1_afterF_22 (by decide) (fun c_22 => ?_) (fun c_22 => ?_)
    · refine lv_ldcf hx hb hown (hts _ q1597) dX1_afterF_30 ?_
      exact mm_fret S hr hlk G (by simp [clF, ouF, mAfterF, c_4, c_22]) rfl (by simp [clF, ouF, mAfterF, c_4, c_22]) dX1_afterF_32
    · refine lv_ldcf hx hb hown (hts _ q1596) dX1_afterF_25 ?_
      refine lv_goto (tgt := 32) hx hb dX1_afterF_27 (by decide) ?_
      exact mm_fret S hr hlk G (by simp [clF, ouF, mAfterF, c_4, c_22]) rfl (by simp [clF, ouF, mAfterF, c_4, c_22]) dX1_afterF_32
  · refine lv_fload_n hx hb dX1_afterF_7 rfl (lv_at hl 2 rfl) ?_
    refine lv_ldcf hx hb hown (hts _ q1597) dX1_afterF_8 ?_
    refine fy_jgge (tgt := 33) hx hb dX1_afterF_10 dX1_afterF_11 (by decide) (fun c_11 => ?_) (fun c_11 => ?_)
    · refine lv_fload_n hx hb dX1_afterF_33 rfl (lv_at hl 2 rfl) ?_
      refine lv_fconst0 hx hb dX1_afterF_34 ?_
      refine fy_jlne (tgt := 43) hx hb dX1_afterF_35 dX1_afterF_36 (by decide) (fun c_36 => ?_) (fun c_36 => ?_)
      · refine lv_fload_n hx hb dX1_afterF_43 rfl (lv_at hl 2 rfl) ?_
        exact mm_fret S hr hlk G (by simp [clF, ouF, mAfterF, c_4, c_11, c_36]) rfl (by simp [clF, ouF, mAfterF, c_4, c_11, c_36]) dX1_afterF_44
      · refine lv_fconst0 hx hb dX1_afterF_39 ?_
        refine lv_goto (tgt := 44) hx hb dX1_afterF_40 (by decide) ?_
        exact mm_fret S hr hlk G (by simp [clF, ouF, mAfterF, c_4, c_11, c_36]) rfl (by simp [clF, ouF, mAfterF, c_4, c_11, c_36]) dX1_afterF_44
    · refine lv_aload_n hx hb dX1_afterF_14 rfl (lv_at hl 0 rfl) ?_
      refine lv_iload_n hx hb dX1_afterF_15 rfl (lv_at hl 1 rfl) ?_
      refine mm_call (As := [.int (nI m)]) (rest := []) S G (mt_X1_light l D dA ad C d m (by omega)) q1562 q1564 qs30 q1565 hd_X1_light ⟨Nat.le_of_ble_eq_true rfl, Nat.le_of_ble_eq_true rfl⟩ rfl hl.1 rfl (Nat.le_of_ble_eq_true rfl) dX1_afterF_16 ⟨Nat.zero_le _, Nat.zero_le _⟩ (fun H locs G => ?_)
      refine W.eq (g2 := F0 mid 19 ls []) rfl ?_
      refine lv_fload_n hx hb dX1_afterF_19 rfl (lv_at hl 2 rfl) ?_
      refine lv_fconst0 hx hb dX1_afterF_20 ?_
      refine fy_jlle (tgt := 30) hx hb dX1_afterF_21 dX1_afterF_22 (by decide) (fun c_22 => ?_) (fun c_22 => ?_)
      · refine lv_ldcf hx hb hown (hts _ q1597) dX1_afterF_30 ?_
        exact mm_fret S hr hlk G (by simp [clF, ouF, mAfterF, c_4, c_11, c_22]) rfl (by simp [clF, ouF, mAfterF, c_4, c_11, c_22]) dX1_afterF_32
      · refine lv_ldcf hx hb hown (hts _ q1596) dX1_afterF_25 ?_
        refine lv_goto (tgt := 32) hx hb dX1_afterF_27 (by decide) ?_
        exact mm_fret S hr hlk G (by simp [clF, ouF, mAfterF, c_4, c_11, c_22]) rfl (by simp [clF, ouF, mAfterF, c_4, c_11, c_22]) dX1_afterF_32
theorem mt_X1_input (l : Launch) (D : va_G) (dA : Nat → ClassId) (ad : Nat → Nat) (C : tp_C) (d : md_T) (m : Nat) (i : Nat) {k : Nat} (hC : mOK C) (hm : m < 20) (hi : i < 6) (hk : cF C m i = some k) : mC l D dA ad yX1_input cX1_input 5 (some .double) 0 [.int (nI m), .int (nI i)] C d (some (.double (inD C (dAD d 19) m i))) C d := by
  refine mm_start (by decide) rfl (Nat.le_of_ble_eq_true rfl) ?_
  intro p0 e0 s0 mid bl0 me0 co0 ls S hr hlk G hl
  have hx := S.1; have hb := S.2.1; have hml := S.2.2.1; have hown := S.2.2.2.1; have hts := S.2.2.2.2
  have hl : lv_has ls 5 [(0, .ref (ad 0)), (1, .int (nI m)), (2, .int (nI i))] := hl
  have hk20 := hC.f20 hk
  refine lv_aload_n hx hb dX1_input_0 rfl (lv_at hl 0 rfl) ?_
  refine mm_get S G 19 (by decide) q1286 rfl (v := .ref (ad 20)) rfl dX1_input_1 ?_
  refine lv_aload_n hx hb dX1_input_4 rfl (lv_at hl 0 rfl) ?_
  refine mm_get S G 3 (by decide) q1270 rfl (v := .ref (ad 4)) rfl dX1_input_5 ?_
  refine lv_bipush (v := nI 6) hx hb dX1_input_8 (by decide) ?_
  refine lv_iload_n hx hb dX1_input_10 rfl (lv_at hl 1 rfl) ?_
  refine nn_mul hx hb dX1_input_11 ?_
  refine lv_iload_n hx hb dX1_input_12 rfl (lv_at hl 2 rfl) ?_
  refine nn_add hx hb dX1_input_13 ?_
  refine mm_iald S G 3 0 (by decide) (n := 120) rfl rfl (by omega) (by decide) (v := nI k) ((tp_fr (by omega)).trans (by rw [hk]; rfl)) dX1_input_14 ?_
  refine mm_dald S G 19 2 (by decide) (n := 20) rfl rfl (by omega) (by decide) (v := dAD d 19 k) rfl dX1_input_15 ?_
  refine lv_dstore_n (lv' := [(3, .double (dAD d 19 k)), (0, .ref (ad 0)), (1, .int (nI m)), (2, .int (nI i))]) hx hb dX1_input_16 rfl hl (by decide) rfl (fun ls hl => ?_)
  refine lv_aload_n hx hb dX1_input_17 rfl (lv_at hl 1 rfl) ?_
  refine mm_get S G 4 (by decide) q1271 rfl (v := .ref (ad 5)) rfl dX1_input_18 ?_
  refine lv_bipush (v := nI 6) hx hb dX1_input_21 (by decide) ?_
  refine lv_iload_n hx hb dX1_input_23 rfl (lv_at hl 2 rfl) ?_
  refine nn_mul hx hb dX1_input_24 ?_
  refine lv_iload_n hx hb dX1_input_25 rfl (lv_at hl 3 rfl) ?_
  refine nn_add hx hb dX1_input_26 ?_
  refine mm_zald S G 4 1 (by decide) (n := 120) rfl rfl (by omega) (by decide) (v := bI (cT C m i)) (tp_tu (by omega)) dX1_input_27 ?_
  refine bb_eq (tgt := 36) hx hb dX1_input_28 (by decide) (fun c_28 => ?_) (fun c_28 => ?_)
  · refine lv_dload_n hx hb dX1_input_36 rfl (lv_at hl 0 rfl) ?_
    exact mm_dret S hr hlk G (by simp [inD, sgD, hk, c_28]) rfl rfl dX1_input_37
  · refine lv_dload_n hx hb dX1_input_31 rfl (lv_at hl 0 rfl) ?_
    refine lv_dneg hx hb dX1_input_32 ?_
    refine lv_goto (tgt := 37) hx hb dX1_input_33 (by decide) ?_
    exact mm_dret S hr hlk G (by simp [inD, sgD, hk, c_28]) rfl rfl dX1_input_37
theorem mt_X1_inputF (l : Launch) (D : va_G) (dA : Nat → ClassId) (ad : Nat → Nat) (C : tp_C) (d : md_T) (m : Nat) (i : Nat) {k : Nat} (hC : mOK C) (hm : m < 20) (hi : i < 6) (hk : cF C m i = some k) : mC l D dA ad yX1_inputF cX1_inputF 4 (some .float) 0 [.int (nI m), .int (nI i)] C d (some (.float (inF C (dAF d 20) m i))) C d := by
  refine mm_start (by decide) rfl (Nat.le_of_ble_eq_true rfl) ?_
  intro p0 e0 s0 mid bl0 me0 co0 ls S hr hlk G hl
  have hx := S.1; have hb := S.2.1; have hml := S.2.2.1; have hown := S.2.2.2.1; have hts := S.2.2.2.2
  have hl : lv_has ls 4 [(0, .ref (ad 0)), (1, .int (nI m)), (2, .int (nI i))] := hl
  have hk20 := hC.f20 hk
  refine lv_aload_n hx hb dX1_inputF_0 rfl (lv_at hl 0 rfl) ?_
  refine mm_get S G 20 (by decide) q1287 rfl (v := .ref (ad 21)) rfl dX1_inputF_1 ?_
  refine lv_aload_n hx hb dX1_inputF_4 rfl (lv_at hl 0 rfl) ?_
  refine mm_get S G 3 (by decide) q1270 rfl (v := .ref (ad 4)) rfl dX1_inputF_5 ?_
  refine lv_bipush (v := nI 6) hx hb dX1_inputF_8 (by decide) ?_
  refine lv_iload_n hx hb dX1_inputF_10 rfl (lv_at hl 1 rfl) ?_
  refine nn_mul hx hb dX1_inputF_11 ?_
  refine lv_iload_n hx hb dX1_inputF_12 rfl (lv_at hl 2 rfl) ?_
  refine nn_add hx hb dX1_inputF_13 ?_
  refine mm_iald S G 3 0 (by decide) (n := 120) rfl rfl (by omega) (by decide) (v := nI k) ((tp_fr (by omega)).trans (by rw [hk]; rfl)) dX1_inputF_14 ?_
  refine mm_fald S G 20 3 (by decide) (n := 20) rfl rfl (by omega) (by decide) (v := dAF d 20 k) rfl dX1_inputF_15 ?_
  refine lv_fstore_n (lv' := [(3, .float (dAF d 20 k)), (0, .ref (ad 0)), (1, .int (nI m)), (2, .int (nI i))]) hx hb dX1_inputF_16 rfl hl (by decide) rfl (fun ls hl => ?_)
  refine lv_aload_n hx hb dX1_inputF_17 rfl (lv_at hl 1 rfl) ?_
  refine mm_get S G 4 (by decide) q1271 rfl (v := .ref (ad 5)) rfl dX1_inputF_18 ?_
  refine lv_bipush (v := nI 6) hx hb dX1_inputF_21 (by decide) ?_
  refine lv_iload_n hx hb dX1_inputF_23 rfl (lv_at hl 2 rfl) ?_
  refine nn_mul hx hb dX1_inputF_24 ?_
  refine lv_iload_n hx hb dX1_inputF_25 rfl (lv_at hl 3 rfl) ?_
  refine nn_add hx hb dX1_inputF_26 ?_
  refine mm_zald S G 4 1 (by decide) (n := 120) rfl rfl (by omega) (by decide) (v := bI (cT C m i)) (tp_tu (by omega)) dX1_inputF_27 ?_
  refine bb_eq (tgt := 36) hx hb dX1_inputF_28 (by decide) (fun c_28 => ?_) (fun c_28 => ?_)
  · refine lv_fload_n hx hb dX1_inputF_36 rfl (lv_at hl 0 rfl) ?_
    exact mm_fret S hr hlk G (by simp [inF, sgF, hk, c_28]) rfl rfl dX1_inputF_37
  · refine lv_fload_n hx hb dX1_inputF_31 rfl (lv_at hl 0 rfl) ?_
    refine lv_fneg hx hb dX1_inputF_32 ?_
    refine lv_goto (tgt := 37) hx hb dX1_inputF_33 (by decide) ?_
    exact mm_fret S hr hlk G (by simp [inF, sgF, hk, c_28]) rfl rfl dX1_inputF_37
