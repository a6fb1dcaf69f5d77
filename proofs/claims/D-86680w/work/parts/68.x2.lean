set_option maxRecDepth 100000
set_option maxHeartbeats 4000000
theorem dX3_wideOut_0 : decode cX3_wideOut 0 = .ok (.aload_n 0, 1) := by decide +kernel
theorem dX3_wideOut_1 : decode cX3_wideOut 1 = .ok (.invokevirtual 7, 3) := by decide +kernel
theorem dX3_wideOut_4 : decode cX3_wideOut 4 = .ok (.dreturn, 1) := by decide +kernel
theorem dX4_wideOut_0 : decode cX4_wideOut 0 = .ok (.aload_n 0, 1) := by decide +kernel
theorem dX4_wideOut_1 : decode cX4_wideOut 1 = .ok (.iconst 0, 1) := by decide +kernel
theorem dX4_wideOut_2 : decode cX4_wideOut 2 = .ok (.invokevirtual 7, 3) := by decide +kernel
theorem dX4_wideOut_5 : decode cX4_wideOut 5 = .ok (.dneg, 1) := by decide +kernel
theorem dX4_wideOut_6 : decode cX4_wideOut 6 = .ok (.dreturn, 1) := by decide +kernel
theorem dX8_wideOut_0 : decode cX8_wideOut 0 = .ok (.aload_n 0, 1) := by decide +kernel
theorem dX8_wideOut_1 : decode cX8_wideOut 1 = .ok (.iconst 0, 1) := by decide +kernel
theorem dX8_wideOut_2 : decode cX8_wideOut 2 = .ok (.invokevirtual 7, 3) := by decide +kernel
theorem dX8_wideOut_5 : decode cX8_wideOut 5 = .ok (.aload_n 0, 1) := by decide +kernel
theorem dX8_wideOut_6 : decode cX8_wideOut 6 = .ok (.iconst 1, 1) := by decide +kernel
theorem dX8_wideOut_7 : decode cX8_wideOut 7 = .ok (.invokevirtual 7, 3) := by decide +kernel
theorem dX8_wideOut_10 : decode cX8_wideOut 10 = .ok (.dmul, 1) := by decide +kernel
theorem dX8_wideOut_11 : decode cX8_wideOut 11 = .ok (.dreturn, 1) := by decide +kernel
theorem dX9_wideOut_0 : decode cX9_wideOut 0 = .ok (.aload_n 0, 1) := by decide +kernel
theorem dX9_wideOut_1 : decode cX9_wideOut 1 = .ok (.iconst 0, 1) := by decide +kernel
theorem dX9_wideOut_2 : decode cX9_wideOut 2 = .ok (.invokevirtual 7, 3) := by decide +kernel
theorem dX9_wideOut_5 : decode cX9_wideOut 5 = .ok (.dstore_n 2, 1) := by decide +kernel
theorem dX9_wideOut_6 : decode cX9_wideOut 6 = .ok (.aload_n 0, 1) := by decide +kernel
theorem dX9_wideOut_7 : decode cX9_wideOut 7 = .ok (.iconst 1, 1) := by decide +kernel
theorem dX9_wideOut_8 : decode cX9_wideOut 8 = .ok (.invokevirtual 7, 3) := by decide +kernel
theorem dX9_wideOut_11 : decode cX9_wideOut 11 = .ok (.dconst 0, 1) := by decide +kernel
theorem dX9_wideOut_12 : decode cX9_wideOut 12 = .ok (.dcmp .l, 1) := by decide +kernel
theorem dX9_wideOut_13 : decode cX9_wideOut 13 = .ok (.ifCond .eq 11, 3) := by decide +kernel
theorem dX9_wideOut_16 : decode cX9_wideOut 16 = .ok (.dload_n 2, 1) := by decide +kernel
theorem dX9_wideOut_17 : decode cX9_wideOut 17 = .ok (.aload_n 0, 1) := by decide +kernel
theorem dX9_wideOut_18 : decode cX9_wideOut 18 = .ok (.iconst 1, 1) := by decide +kernel
theorem dX9_wideOut_19 : decode cX9_wideOut 19 = .ok (.invokevirtual 7, 3) := by decide +kernel
theorem dX9_wideOut_22 : decode cX9_wideOut 22 = .ok (.ddiv, 1) := by decide +kernel
theorem dX9_wideOut_23 : decode cX9_wideOut 23 = .ok (.dreturn, 1) := by decide +kernel
theorem dX9_wideOut_24 : decode cX9_wideOut 24 = .ok (.dload_n 2, 1) := by decide +kernel
theorem dX9_wideOut_25 : decode cX9_wideOut 25 = .ok (.dconst 0, 1) := by decide +kernel
theorem dX9_wideOut_26 : decode cX9_wideOut 26 = .ok (.dcmp .l, 1) := by decide +kernel
theorem dX9_wideOut_27 : decode cX9_wideOut 27 = .ok (.ifCond .ne 5, 3) := by decide +kernel
theorem dX9_wideOut_30 : decode cX9_wideOut 30 = .ok (.dconst 0, 1) := by decide +kernel
theorem dX9_wideOut_31 : decode cX9_wideOut 31 = .ok (.dreturn, 1) := by decide +kernel
theorem dX9_wideOut_32 : decode cX9_wideOut 32 = .ok (.aload_n 0, 1) := by decide +kernel
theorem dX9_wideOut_33 : decode cX9_wideOut 33 = .ok (.iload_n 1, 1) := by decide +kernel
theorem dX9_wideOut_34 : decode cX9_wideOut 34 = .ok (.invokevirtual 13, 3) := by decide +kernel
theorem dX9_wideOut_37 : decode cX9_wideOut 37 = .ok (.dload_n 2, 1) := by decide +kernel
theorem dX9_wideOut_38 : decode cX9_wideOut 38 = .ok (.dconst 0, 1) := by decide +kernel
theorem dX9_wideOut_39 : decode cX9_wideOut 39 = .ok (.dcmp .l, 1) := by decide +kernel
theorem dX9_wideOut_40 : decode cX9_wideOut 40 = .ok (.ifCond .le 9, 3) := by decide +kernel
theorem dX9_wideOut_43 : decode cX9_wideOut 43 = .ok (.ldc2_w 17, 3) := by decide +kernel
theorem dX9_wideOut_46 : decode cX9_wideOut 46 = .ok (.goto 6, 3) := by decide +kernel
theorem dX9_wideOut_49 : decode cX9_wideOut 49 = .ok (.ldc2_w 19, 3) := by decide +kernel
theorem dX9_wideOut_52 : decode cX9_wideOut 52 = .ok (.dreturn, 1) := by decide +kernel
theorem dX10_wideOut_0 : decode cX10_wideOut 0 = .ok (.aload_n 0, 1) := by decide +kernel
theorem dX10_wideOut_1 : decode cX10_wideOut 1 = .ok (.iconst 0, 1) := by decide +kernel
theorem dX10_wideOut_2 : decode cX10_wideOut 2 = .ok (.invokevirtual 7, 3) := by decide +kernel
theorem dX10_wideOut_5 : decode cX10_wideOut 5 = .ok (.dstore_n 2, 1) := by decide +kernel
theorem dX10_wideOut_6 : decode cX10_wideOut 6 = .ok (.dload_n 2, 1) := by decide +kernel
theorem dX10_wideOut_7 : decode cX10_wideOut 7 = .ok (.dconst 0, 1) := by decide +kernel
theorem dX10_wideOut_8 : decode cX10_wideOut 8 = .ok (.dcmp .g, 1) := by decide +kernel
theorem dX10_wideOut_9 : decode cX10_wideOut 9 = .ok (.ifCond .ge 10, 3) := by decide +kernel
theorem dX10_wideOut_12 : decode cX10_wideOut 12 = .ok (.aload_n 0, 1) := by decide +kernel
theorem dX10_wideOut_13 : decode cX10_wideOut 13 = .ok (.iload_n 1, 1) := by decide +kernel
theorem dX10_wideOut_14 : decode cX10_wideOut 14 = .ok (.invokevirtual 13, 3) := by decide +kernel
theorem dX10_wideOut_17 : decode cX10_wideOut 17 = .ok (.dconst 0, 1) := by decide +kernel
theorem dX10_wideOut_18 : decode cX10_wideOut 18 = .ok (.dreturn, 1) := by decide +kernel
theorem dX10_wideOut_19 : decode cX10_wideOut 19 = .ok (.dload_n 2, 1) := by decide +kernel
theorem dX10_wideOut_20 : decode cX10_wideOut 20 = .ok (.dconst 0, 1) := by decide +kernel
theorem dX10_wideOut_21 : decode cX10_wideOut 21 = .ok (.dcmp .l, 1) := by decide +kernel
theorem dX10_wideOut_22 : decode cX10_wideOut 22 = .ok (.ifCond .ne 7, 3) := by decide +kernel
theorem dX10_wideOut_25 : decode cX10_wideOut 25 = .ok (.dconst 0, 1) := by decide +kernel
theorem dX10_wideOut_26 : decode cX10_wideOut 26 = .ok (.goto 7, 3) := by decide +kernel
theorem dX10_wideOut_29 : decode cX10_wideOut 29 = .ok (.dload_n 2, 1) := by decide +kernel
theorem dX10_wideOut_30 : decode cX10_wideOut 30 = .ok (.invokestatic 17, 3) := by decide +kernel
theorem dX10_wideOut_33 : decode cX10_wideOut 33 = .ok (.dreturn, 1) := by decide +kernel
theorem dX12_wideOut_0 : decode cX12_wideOut 0 = .ok (.aload_n 0, 1) := by decide +kernel
theorem dX12_wideOut_1 : decode cX12_wideOut 1 = .ok (.iconst 0, 1) := by decide +kernel
theorem dX12_wideOut_2 : decode cX12_wideOut 2 = .ok (.invokevirtual 7, 3) := by decide +kernel
theorem dX12_wideOut_5 : decode cX12_wideOut 5 = .ok (.aload_n 0, 1) := by decide +kernel
theorem dX12_wideOut_6 : decode cX12_wideOut 6 = .ok (.iconst 1, 1) := by decide +kernel
theorem dX12_wideOut_7 : decode cX12_wideOut 7 = .ok (.invokevirtual 7, 3) := by decide +kernel
theorem dX12_wideOut_10 : decode cX12_wideOut 10 = .ok (.dcmp .l, 1) := by decide +kernel
theorem dX12_wideOut_11 : decode cX12_wideOut 11 = .ok (.ifCond .le 7, 3) := by decide +kernel
theorem dX12_wideOut_14 : decode cX12_wideOut 14 = .ok (.dconst 1, 1) := by decide +kernel
theorem dX12_wideOut_15 : decode cX12_wideOut 15 = .ok (.goto 6, 3) := by decide +kernel
theorem dX12_wideOut_18 : decode cX12_wideOut 18 = .ok (.ldc2_w 13, 3) := by decide +kernel
theorem dX12_wideOut_21 : decode cX12_wideOut 21 = .ok (.dreturn, 1) := by decide +kernel
theorem dX13_wideOut_0 : decode cX13_wideOut 0 = .ok (.aload_n 0, 1) := by decide +kernel
theorem dX13_wideOut_1 : decode cX13_wideOut 1 = .ok (.iconst 2, 1) := by decide +kernel
theorem dX13_wideOut_2 : decode cX13_wideOut 2 = .ok (.invokevirtual 7, 3) := by decide +kernel
theorem dX13_wideOut_5 : decode cX13_wideOut 5 = .ok (.dconst 0, 1) := by decide +kernel
theorem dX13_wideOut_6 : decode cX13_wideOut 6 = .ok (.dcmp .l, 1) := by decide +kernel
theorem dX13_wideOut_7 : decode cX13_wideOut 7 = .ok (.ifCond .le 11, 3) := by decide +kernel
theorem dX13_wideOut_10 : decode cX13_wideOut 10 = .ok (.aload_n 0, 1) := by decide +kernel
theorem dX13_wideOut_11 : decode cX13_wideOut 11 = .ok (.iconst 0, 1) := by decide +kernel
theorem dX13_wideOut_12 : decode cX13_wideOut 12 = .ok (.invokevirtual 7, 3) := by decide +kernel
theorem dX13_wideOut_15 : decode cX13_wideOut 15 = .ok (.goto 8, 3) := by decide +kernel
theorem dX13_wideOut_18 : decode cX13_wideOut 18 = .ok (.aload_n 0, 1) := by decide +kernel
theorem dX13_wideOut_19 : decode cX13_wideOut 19 = .ok (.iconst 1, 1) := by decide +kernel
theorem dX13_wideOut_20 : decode cX13_wideOut 20 = .ok (.invokevirtual 7, 3) := by decide +kernel
theorem dX13_wideOut_23 : decode cX13_wideOut 23 = .ok (.dreturn, 1) := by decide +kernel
theorem dX14_wideOut_0 : decode cX14_wideOut 0 = .ok (.aload_n 0, 1) := by decide +kernel
theorem dX14_wideOut_1 : decode cX14_wideOut 1 = .ok (.iconst 0, 1) := by decide +kernel
theorem dX14_wideOut_2 : decode cX14_wideOut 2 = .ok (.invokevirtual 7, 3) := by decide +kernel
theorem dX14_wideOut_5 : decode cX14_wideOut 5 = .ok (.aload_n 0, 1) := by decide +kernel
theorem dX14_wideOut_6 : decode cX14_wideOut 6 = .ok (.getfield 13, 3) := by decide +kernel
theorem dX14_wideOut_9 : decode cX14_wideOut 9 = .ok (.dmul, 1) := by decide +kernel
theorem dX14_wideOut_10 : decode cX14_wideOut 10 = .ok (.dreturn, 1) := by decide +kernel
theorem dX16_wideOut_0 : decode cX16_wideOut 0 = .ok (.aload_n 0, 1) := by decide +kernel
theorem dX16_wideOut_1 : decode cX16_wideOut 1 = .ok (.iconst 0, 1) := by decide +kernel
theorem dX16_wideOut_2 : decode cX16_wideOut 2 = .ok (.invokevirtual 7, 3) := by decide +kernel
theorem dX16_wideOut_5 : decode cX16_wideOut 5 = .ok (.dstore_n 2, 1) := by decide +kernel
theorem dX16_wideOut_6 : decode cX16_wideOut 6 = .ok (.dload_n 2, 1) := by decide +kernel
theorem dX16_wideOut_7 : decode cX16_wideOut 7 = .ok (.aload_n 0, 1) := by decide +kernel
theorem dX16_wideOut_8 : decode cX16_wideOut 8 = .ok (.getfield 13, 3) := by decide +kernel
theorem dX16_wideOut_11 : decode cX16_wideOut 11 = .ok (.dcmp .l, 1) := by decide +kernel
theorem dX16_wideOut_12 : decode cX16_wideOut 12 = .ok (.ifCond .le 10, 3) := by decide +kernel
theorem dX16_wideOut_15 : decode cX16_wideOut 15 = .ok (.aload_n 0, 1) := by decide +kernel
theorem dX16_wideOut_16 : decode cX16_wideOut 16 = .ok (.getfield 13, 3) := by decide +kernel
theorem dX16_wideOut_19 : decode cX16_wideOut 19 = .ok (.goto 22, 3) := by decide +kernel
theorem dX16_wideOut_22 : decode cX16_wideOut 22 = .ok (.dload_n 2, 1) := by decide +kernel
theorem dX16_wideOut_23 : decode cX16_wideOut 23 = .ok (.aload_n 0, 1) := by decide +kernel
theorem dX16_wideOut_24 : decode cX16_wideOut 24 = .ok (.getfield 13, 3) := by decide +kernel
theorem dX16_wideOut_27 : decode cX16_wideOut 27 = .ok (.dneg, 1) := by decide +kernel
theorem dX16_wideOut_28 : decode cX16_wideOut 28 = .ok (.dcmp .g, 1) := by decide +kernel
theorem dX16_wideOut_29 : decode cX16_wideOut 29 = .ok (.ifCond .ge 11, 3) := by decide +kernel
theorem dX16_wideOut_32 : decode cX16_wideOut 32 = .ok (.aload_n 0, 1) := by decide +kernel
theorem dX16_wideOut_33 : decode cX16_wideOut 33 = .ok (.getfield 13, 3) := by decide +kernel
theorem dX16_wideOut_36 : decode cX16_wideOut 36 = .ok (.dneg, 1) := by decide +kernel
theorem dX16_wideOut_37 : decode cX16_wideOut 37 = .ok (.goto 4, 3) := by decide +kernel
theorem dX16_wideOut_40 : decode cX16_wideOut 40 = .ok (.dload_n 2, 1) := by decide +kernel
theorem dX16_wideOut_41 : decode cX16_wideOut 41 = .ok (.dreturn, 1) := by decide +kernel
theorem dX3_narrowOut_0 : decode cX3_narrowOut 0 = .ok (.aload_n 0, 1) := by decide +kernel
theorem dX3_narrowOut_1 : decode cX3_narrowOut 1 = .ok (.invokevirtual 13, 3) := by decide +kernel
theorem dX3_narrowOut_4 : decode cX3_narrowOut 4 = .ok (.freturn, 1) := by decide +kernel
theorem dX4_narrowOut_0 : decode cX4_narrowOut 0 = .ok (.aload_n 0, 1) := by decide +kernel
theorem dX4_narrowOut_1 : decode cX4_narrowOut 1 = .ok (.iconst 0, 1) := by decide +kernel
theorem dX4_narrowOut_2 : decode cX4_narrowOut 2 = .ok (.invokevirtual 13, 3) := by decide +kernel
theorem dX4_narrowOut_5 : decode cX4_narrowOut 5 = .ok (.fneg, 1) := by decide +kernel
theorem dX4_narrowOut_6 : decode cX4_narrowOut 6 = .ok (.freturn, 1) := by decide +kernel
theorem dX8_narrowOut_0 : decode cX8_narrowOut 0 = .ok (.aload_n 0, 1) := by decide +kernel
theorem dX8_narrowOut_1 : decode cX8_narrowOut 1 = .ok (.iconst 0, 1) := by decide +kernel
theorem dX8_narrowOut_2 : decode cX8_narrowOut 2 = .ok (.invokevirtual 13, 3) := by decide +kernel
theorem dX8_narrowOut_5 : decode cX8_narrowOut 5 = .ok (.aload_n 0, 1) := by decide +kernel
theorem dX8_narrowOut_6 : decode cX8_narrowOut 6 = .ok (.iconst 1, 1) := by decide +kernel
theorem dX8_narrowOut_7 : decode cX8_narrowOut 7 = .ok (.invokevirtual 13, 3) := by decide +kernel
theorem dX8_narrowOut_10 : decode cX8_narrowOut 10 = .ok (.fmul, 1) := by decide +kernel
theorem dX8_narrowOut_11 : decode cX8_narrowOut 11 = .ok (.freturn, 1) := by decide +kernel
theorem dX9_narrowOut_0 : decode cX9_narrowOut 0 = .ok (.aload_n 0, 1) := by decide +kernel
theorem dX9_narrowOut_1 : decode cX9_narrowOut 1 = .ok (.iconst 0, 1) := by decide +kernel
theorem dX9_narrowOut_2 : decode cX9_narrowOut 2 = .ok (.invokevirtual 21, 3) := by decide +kernel
theorem dX9_narrowOut_5 : decode cX9_narrowOut 5 = .ok (.fstore_n 2, 1) := by decide +kernel
theorem dX9_narrowOut_6 : decode cX9_narrowOut 6 = .ok (.aload_n 0, 1) := by decide +kernel
theorem dX9_narrowOut_7 : decode cX9_narrowOut 7 = .ok (.iconst 1, 1) := by decide +kernel
theorem dX9_narrowOut_8 : decode cX9_narrowOut 8 = .ok (.invokevirtual 21, 3) := by decide +kernel
theorem dX9_narrowOut_11 : decode cX9_narrowOut 11 = .ok (.fconst 0, 1) := by decide +kernel
theorem dX9_narrowOut_12 : decode cX9_narrowOut 12 = .ok (.fcmp .l, 1) := by decide +kernel
theorem dX9_narrowOut_13 : decode cX9_narrowOut 13 = .ok (.ifCond .eq 11, 3) := by decide +kernel
theorem dX9_narrowOut_16 : decode cX9_narrowOut 16 = .ok (.fload_n 2, 1) := by decide +kernel
theorem dX9_narrowOut_17 : decode cX9_narrowOut 17 = .ok (.aload_n 0, 1) := by decide +kernel
theorem dX9_narrowOut_18 : decode cX9_narrowOut 18 = .ok (.iconst 1, 1) := by decide +kernel
theorem dX9_narrowOut_19 : decode cX9_narrowOut 19 = .ok (.invokevirtual 21, 3) := by decide +kernel
theorem dX9_narrowOut_22 : decode cX9_narrowOut 22 = .ok (.fdiv, 1) := by decide +kernel
theorem dX9_narrowOut_23 : decode cX9_narrowOut 23 = .ok (.freturn, 1) := by decide +kernel
theorem dX9_narrowOut_24 : decode cX9_narrowOut 24 = .ok (.fload_n 2, 1) := by decide +kernel
theorem dX9_narrowOut_25 : decode cX9_narrowOut 25 = .ok (.fconst 0, 1) := by decide +kernel
theorem dX9_narrowOut_26 : decode cX9_narrowOut 26 = .ok (.fcmp .l, 1) := by decide +kernel
theorem dX9_narrowOut_27 : decode cX9_narrowOut 27 = .ok (.ifCond .ne 5, 3) := by decide +kernel
theorem dX9_narrowOut_30 : decode cX9_narrowOut 30 = .ok (.fconst 0, 1) := by decide +kernel
theorem dX9_narrowOut_31 : decode cX9_narrowOut 31 = .ok (.freturn, 1) := by decide +kernel
theorem dX9_narrowOut_32 : decode cX9_narrowOut 32 = .ok (.aload_n 0, 1) := by decide +kernel
theorem dX9_narrowOut_33 : decode cX9_narrowOut 33 = .ok (.iload_n 1, 1) := by decide +kernel
theorem dX9_narrowOut_34 : decode cX9_narrowOut 34 = .ok (.invokevirtual 13, 3) := by decide +kernel
theorem dX9_narrowOut_37 : decode cX9_narrowOut 37 = .ok (.fload_n 2, 1) := by decide +kernel
theorem dX9_narrowOut_38 : decode cX9_narrowOut 38 = .ok (.fconst 0, 1) := by decide +kernel
theorem dX9_narrowOut_39 : decode cX9_narrowOut 39 = .ok (.fcmp .l, 1) := by decide +kernel
theorem dX9_narrowOut_40 : decode cX9_narrowOut 40 = .ok (.ifCond .le 8, 3) := by decide +kernel
theorem dX9_narrowOut_43 : decode cX9_narrowOut 43 = .ok (.ldc 25, 2) := by decide +kernel
theorem dX9_narrowOut_45 : decode cX9_narrowOut 45 = .ok (.goto 5, 3) := by decide +kernel
theorem dX9_narrowOut_48 : decode cX9_narrowOut 48 = .ok (.ldc 26, 2) := by decide +kernel
theorem dX9_narrowOut_50 : decode cX9_narrowOut 50 = .ok (.freturn, 1) := by decide +kernel
theorem dX10_narrowOut_0 : decode cX10_narrowOut 0 = .ok (.aload_n 0, 1) := by decide +kernel
theorem dX10_narrowOut_1 : decode cX10_narrowOut 1 = .ok (.iconst 0, 1) := by decide +kernel
theorem dX10_narrowOut_2 : decode cX10_narrowOut 2 = .ok (.invokevirtual 23, 3) := by decide +kernel
theorem dX10_narrowOut_5 : decode cX10_narrowOut 5 = .ok (.fstore_n 2, 1) := by decide +kernel
theorem dX10_narrowOut_6 : decode cX10_narrowOut 6 = .ok (.fload_n 2, 1) := by decide +kernel
theorem dX10_narrowOut_7 : decode cX10_narrowOut 7 = .ok (.fconst 0, 1) := by decide +kernel
theorem dX10_narrowOut_8 : decode cX10_narrowOut 8 = .ok (.fcmp .g, 1) := by decide +kernel
theorem dX10_narrowOut_9 : decode cX10_narrowOut 9 = .ok (.ifCond .ge 10, 3) := by decide +kernel
theorem dX10_narrowOut_12 : decode cX10_narrowOut 12 = .ok (.aload_n 0, 1) := by decide +kernel
theorem dX10_narrowOut_13 : decode cX10_narrowOut 13 = .ok (.iload_n 1, 1) := by decide +kernel
theorem dX10_narrowOut_14 : decode cX10_narrowOut 14 = .ok (.invokevirtual 13, 3) := by decide +kernel
theorem dX10_narrowOut_17 : decode cX10_narrowOut 17 = .ok (.fconst 0, 1) := by decide +kernel
theorem dX10_narrowOut_18 : decode cX10_narrowOut 18 = .ok (.freturn, 1) := by decide +kernel
theorem dX10_narrowOut_19 : decode cX10_narrowOut 19 = .ok (.fload_n 2, 1) := by decide +kernel
theorem dX10_narrowOut_20 : decode cX10_narrowOut 20 = .ok (.fconst 0, 1) := by decide +kernel
theorem dX10_narrowOut_21 : decode cX10_narrowOut 21 = .ok (.fcmp .l, 1) := by decide +kernel
theorem dX10_narrowOut_22 : decode cX10_narrowOut 22 = .ok (.ifCond .ne 7, 3) := by decide +kernel
theorem dX10_narrowOut_25 : decode cX10_narrowOut 25 = .ok (.fconst 0, 1) := by decide +kernel
theorem dX10_narrowOut_26 : decode cX10_narrowOut 26 = .ok (.goto 9, 3) := by decide +kernel
theorem dX10_narrowOut_29 : decode cX10_narrowOut 29 = .ok (.fload_n 2, 1) := by decide +kernel
theorem dX10_narrowOut_30 : decode cX10_narrowOut 30 = .ok (.f2d, 1) := by decide +kernel
theorem dX10_narrowOut_31 : decode cX10_narrowOut 31 = .ok (.invokestatic 17, 3) := by decide +kernel
theorem dX10_narrowOut_34 : decode cX10_narrowOut 34 = .ok (.d2f, 1) := by decide +kernel
theorem dX10_narrowOut_35 : decode cX10_narrowOut 35 = .ok (.freturn, 1) := by decide +kernel
theorem dX12_narrowOut_0 : decode cX12_narrowOut 0 = .ok (.aload_n 0, 1) := by decide +kernel
theorem dX12_narrowOut_1 : decode cX12_narrowOut 1 = .ok (.iconst 0, 1) := by decide +kernel
theorem dX12_narrowOut_2 : decode cX12_narrowOut 2 = .ok (.invokevirtual 15, 3) := by decide +kernel
theorem dX12_narrowOut_5 : decode cX12_narrowOut 5 = .ok (.aload_n 0, 1) := by decide +kernel
theorem dX12_narrowOut_6 : decode cX12_narrowOut 6 = .ok (.iconst 1, 1) := by decide +kernel
theorem dX12_narrowOut_7 : decode cX12_narrowOut 7 = .ok (.invokevirtual 15, 3) := by decide +kernel
theorem dX12_narrowOut_10 : decode cX12_narrowOut 10 = .ok (.fcmp .l, 1) := by decide +kernel
theorem dX12_narrowOut_11 : decode cX12_narrowOut 11 = .ok (.ifCond .le 7, 3) := by decide +kernel
theorem dX12_narrowOut_14 : decode cX12_narrowOut 14 = .ok (.fconst 1, 1) := by decide +kernel
theorem dX12_narrowOut_15 : decode cX12_narrowOut 15 = .ok (.goto 5, 3) := by decide +kernel
theorem dX12_narrowOut_18 : decode cX12_narrowOut 18 = .ok (.ldc 19, 2) := by decide +kernel
theorem dX12_narrowOut_20 : decode cX12_narrowOut 20 = .ok (.freturn, 1) := by decide +kernel
theorem dX13_narrowOut_0 : decode cX13_narrowOut 0 = .ok (.aload_n 0, 1) := by decide +kernel
theorem dX13_narrowOut_1 : decode cX13_narrowOut 1 = .ok (.iconst 2, 1) := by decide +kernel
theorem dX13_narrowOut_2 : decode cX13_narrowOut 2 = .ok (.invokevirtual 13, 3) := by decide +kernel
theorem dX13_narrowOut_5 : decode cX13_narrowOut 5 = .ok (.fconst 0, 1) := by decide +kernel
theorem dX13_narrowOut_6 : decode cX13_narrowOut 6 = .ok (.fcmp .l, 1) := by decide +kernel
theorem dX13_narrowOut_7 : decode cX13_narrowOut 7 = .ok (.ifCond .le 11, 3) := by decide +kernel
theorem dX13_narrowOut_10 : decode cX13_narrowOut 10 = .ok (.aload_n 0, 1) := by decide +kernel
theorem dX13_narrowOut_11 : decode cX13_narrowOut 11 = .ok (.iconst 0, 1) := by decide +kernel
theorem dX13_narrowOut_12 : decode cX13_narrowOut 12 = .ok (.invokevirtual 13, 3) := by decide +kernel
theorem dX13_narrowOut_15 : decode cX13_narrowOut 15 = .ok (.goto 8, 3) := by decide +kernel
theorem dX13_narrowOut_18 : decode cX13_narrowOut 18 = .ok (.aload_n 0, 1) := by decide +kernel
theorem dX13_narrowOut_19 : decode cX13_narrowOut 19 = .ok (.iconst 1, 1) := by decide +kernel
theorem dX13_narrowOut_20 : decode cX13_narrowOut 20 = .ok (.invokevirtual 13, 3) := by decide +kernel
theorem dX13_narrowOut_23 : decode cX13_narrowOut 23 = .ok (.freturn, 1) := by decide +kernel
theorem dX14_narrowOut_0 : decode cX14_narrowOut 0 = .ok (.aload_n 0, 1) := by decide +kernel
theorem dX14_narrowOut_1 : decode cX14_narrowOut 1 = .ok (.iconst 0, 1) := by decide +kernel
theorem dX14_narrowOut_2 : decode cX14_narrowOut 2 = .ok (.invokevirtual 17, 3) := by decide +kernel
theorem dX14_narrowOut_5 : decode cX14_narrowOut 5 = .ok (.aload_n 0, 1) := by decide +kernel
theorem dX14_narrowOut_6 : decode cX14_narrowOut 6 = .ok (.getfield 13, 3) := by decide +kernel
theorem dX14_narrowOut_9 : decode cX14_narrowOut 9 = .ok (.d2f, 1) := by decide +kernel
theorem dX14_narrowOut_10 : decode cX14_narrowOut 10 = .ok (.fmul, 1) := by decide +kernel
theorem dX14_narrowOut_11 : decode cX14_narrowOut 11 = .ok (.freturn, 1) := by decide +kernel
theorem dX16_narrowOut_0 : decode cX16_narrowOut 0 = .ok (.aload_n 0, 1) := by decide +kernel
theorem dX16_narrowOut_1 : decode cX16_narrowOut 1 = .ok (.iconst 0, 1) := by decide +kernel
theorem dX16_narrowOut_2 : decode cX16_narrowOut 2 = .ok (.invokevirtual 17, 3) := by decide +kernel
theorem dX16_narrowOut_5 : decode cX16_narrowOut 5 = .ok (.fstore_n 2, 1) := by decide +kernel
theorem dX16_narrowOut_6 : decode cX16_narrowOut 6 = .ok (.aload_n 0, 1) := by decide +kernel
theorem dX16_narrowOut_7 : decode cX16_narrowOut 7 = .ok (.getfield 13, 3) := by decide +kernel
theorem dX16_narrowOut_10 : decode cX16_narrowOut 10 = .ok (.d2f, 1) := by decide +kernel
theorem dX16_narrowOut_11 : decode cX16_narrowOut 11 = .ok (.fstore_n 3, 1) := by decide +kernel
theorem dX16_narrowOut_12 : decode cX16_narrowOut 12 = .ok (.fload_n 2, 1) := by decide +kernel
theorem dX16_narrowOut_13 : decode cX16_narrowOut 13 = .ok (.fload_n 3, 1) := by decide +kernel
theorem dX16_narrowOut_14 : decode cX16_narrowOut 14 = .ok (.fcmp .l, 1) := by decide +kernel
theorem dX16_narrowOut_15 : decode cX16_narrowOut 15 = .ok (.ifCond .le 7, 3) := by decide +kernel
theorem dX16_narrowOut_18 : decode cX16_narrowOut 18 = .ok (.fload_n 3, 1) := by decide +kernel
theorem dX16_narrowOut_19 : decode cX16_narrowOut 19 = .ok (.goto 16, 3) := by decide +kernel
theorem dX16_narrowOut_22 : decode cX16_narrowOut 22 = .ok (.fload_n 2, 1) := by decide +kernel
theorem dX16_narrowOut_23 : decode cX16_narrowOut 23 = .ok (.fload_n 3, 1) := by decide +kernel
theorem dX16_narrowOut_24 : decode cX16_narrowOut 24 = .ok (.fneg, 1) := by decide +kernel
theorem dX16_narrowOut_25 : decode cX16_narrowOut 25 = .ok (.fcmp .g, 1) := by decide +kernel
theorem dX16_narrowOut_26 : decode cX16_narrowOut 26 = .ok (.ifCond .ge 8, 3) := by decide +kernel
theorem dX16_narrowOut_29 : decode cX16_narrowOut 29 = .ok (.fload_n 3, 1) := by decide +kernel
theorem dX16_narrowOut_30 : decode cX16_narrowOut 30 = .ok (.fneg, 1) := by decide +kernel
theorem dX16_narrowOut_31 : decode cX16_narrowOut 31 = .ok (.goto 4, 3) := by decide +kernel
theorem dX16_narrowOut_34 : decode cX16_narrowOut 34 = .ok (.fload_n 2, 1) := by decide +kernel
theorem dX16_narrowOut_35 : decode cX16_narrowOut 35 = .ok (.freturn, 1) := by decide +kernel
theorem hd_J1_sqrt : yJ1_sqrt.cls ≠ "java/lang/invoke/MethodHandle" ∧ yJ1_sqrt.cls ≠ "java/lang/invoke/VarHandle" ∧ (parseMethodDescriptor yJ1_sqrt.desc).map (fun d => d.parameters.length) = some 1 := by decide +kernel
theorem hu_Module_narrowSum : "TwinPanel$Module" ≠ "java/lang/invoke/MethodHandle" ∧ "TwinPanel$Module" ≠ "java/lang/invoke/VarHandle" ∧ (parseMethodDescriptor "()F").map (fun d => d.parameters.length) = some 0 := by decide +kernel
theorem hu_Module_wideSum : "TwinPanel$Module" ≠ "java/lang/invoke/MethodHandle" ∧ "TwinPanel$Module" ≠ "java/lang/invoke/VarHandle" ∧ (parseMethodDescriptor "()D").map (fun d => d.parameters.length) = some 0 := by decide +kernel
theorem hi_0 {C : tp_C} {m : Nat} (h : hiB C m = true) (h0 : hiG (cK C m) ≠ 0) (h3 : hiG (cK C m) ≠ 3) : ∃ k, cF C m 0 = some k := by
  unfold hiB at h
  split at h
  · contradiction
  · exact Option.isSome_iff_exists.mp h
  · simp only [Bool.and_eq_true] at h; exact Option.isSome_iff_exists.mp h.1
  · contradiction
  · simp only [Bool.and_eq_true] at h; exact Option.isSome_iff_exists.mp h.1
theorem hi_1 {C : tp_C} {m : Nat} (h : hiB C m = true) (h0 : hiG (cK C m) ≠ 0) (h1 : hiG (cK C m) ≠ 1) (h3 : hiG (cK C m) ≠ 3) : ∃ k, cF C m 1 = some k := by
  unfold hiB at h
  split at h
  · contradiction
  · contradiction
  · simp only [Bool.and_eq_true] at h; exact Option.isSome_iff_exists.mp h.2.1
  · contradiction
  · simp only [Bool.and_eq_true] at h; exact Option.isSome_iff_exists.mp h.2
theorem hi_2 {C : tp_C} {m : Nat} (h : hiB C m = true) (h2 : hiG (cK C m) = 2) : ∃ k, cF C m 2 = some k := by
  unfold hiB at h
  rw [h2] at h
  simp only [Bool.and_eq_true] at h
  exact Option.isSome_iff_exists.mp h.2.2
theorem a0D_in {C : tp_C} {rd : Nat → UInt64} {m i k : Nat} (h : cF C m i = some k) : a0D C rd m i = inD C rd m i := by unfold a0D; rw [h]; rfl
theorem a0F_in {C : tp_C} {rd : Nat → UInt32} {m i k : Nat} (h : cF C m i = some k) : a0F C rd m i = inF C rd m i := by unfold a0F; rw [h]; rfl
/-- what a module of the panel makes: a root's zero has no sign -/
def xoD (C : tp_C) (d : md_T) (m : Nat) : UInt64 := if cK C m = 6 ∧ fx_lt (a0D C (dAD d 19) m 0) FP.dconst0 = false ∧ fx_eq (a0D C (dAD d 19) m 0) FP.dconst0 = true then FP.dconst0 else mkD C d m
def xoF (C : tp_C) (d : md_T) (m : Nat) : UInt32 := if cK C m = 6 ∧ fy_lt (a0F C (dAF d 20) m 0) FP.fconst0 = false ∧ fy_eq (a0F C (dAF d 20) m 0) FP.fconst0 = true then FP.fconst0 else mkF C d m
theorem xoD_ne {C : tp_C} {d : md_T} {m : Nat} (h : cK C m ≠ 6) : xoD C d m = mkD C d m := if_neg (fun q => h q.1)
theorem xoF_ne {C : tp_C} {d : md_T} {m : Nat} (h : cK C m ≠ 6) : xoF C d m = mkF C d m := if_neg (fun q => h q.1)
theorem xt_X3_wideOut (l : Launch) (D : va_G) (dA : Nat → ClassId) (C : tp_C) (d : md_T) (j : xj_T) (m : Nat) (t : Int32) (hC : mOK C) (hm : m < cN C) (hk : cK C m = 0) (hV : vOK C) (hR : rOK d) (hI : okM C m) (ht : dI d 44 = t) : xC l D dA yX3_wideOut cX3_wideOut 2 (some .double) 2 [.ref (jA j (xr m 0)), .int t] C d j (some (.double (xoD C d m))) C (mkL C d m) j := by
  refine xx_start (own := RX3) (by decide) rfl (Nat.le_of_ble_eq_true rfl) ?_
  intro p0 e0 s0 mid bl0 me0 co0 ls S hr hlk G hl
  have hx := S.1; have hb := S.2.1; have hml := S.2.2.1; have hown := S.2.2.2.1; have hts := S.2.2.2.2; have hN := hC.n
  have hl : lv_has ls 2 [(0, .ref (jA j (xr m 0))), (1, .int t)] := hl
  refine lv_aload_n hx hb dX3_wideOut_0 rfl (lv_at hl 0 rfl) ?_
  refine xx_callM (mm := m) (As := []) (rest := []) S G (by omega) hN (hC.k _) (xt_X2_wideSum l D dA C d j m hC (by omega) hR.rd) (xx_cw hts q841 q842 (by rw [hk]; exact q844) q845 q58 q846 rfl hu_Module_wideSum ⟨Nat.le_of_ble_eq_true rfl, Nat.le_of_ble_eq_true rfl⟩) rfl hl.1 rfl (Nat.le_of_ble_eq_true rfl) dX3_wideOut_1 ⟨Nat.zero_le _, Nat.zero_le _⟩ (fun H locs G => ?_)
  refine W.eq (g2 := F0 mid 4 ls [.double (suD C (dAD d 19) m)]) rfl ?_
  exact xx_dret S hr hlk G (by simp [xoD, mkD, mkL, hk]) (xL_e rfl (by simp [xoD, mkD, mkL, hk]) rfl) dX3_wideOut_4
theorem xt_X4_wideOut (l : Launch) (D : va_G) (dA : Nat → ClassId) (C : tp_C) (d : md_T) (j : xj_T) (m : Nat) (t : Int32) (hC : mOK C) (hm : m < cN C) (hk : cK C m = 1) (hV : vOK C) (hR : rOK d) (hI : okM C m) (ht : dI d 44 = t) : xC l D dA yX4_wideOut cX4_wideOut 2 (some .double) 1 [.ref (jA j (xr m 0)), .int t] C d j (some (.double (xoD C d m))) C (mkL C d m) j := by
  refine xx_start (own := RX4) (by decide) rfl (Nat.le_of_ble_eq_true rfl) ?_
  intro p0 e0 s0 mid bl0 me0 co0 ls S hr hlk G hl
  have hx := S.1; have hb := S.2.1; have hml := S.2.2.1; have hown := S.2.2.2.1; have hts := S.2.2.2.2; have hN := hC.n
  have hl : lv_has ls 2 [(0, .ref (jA j (xr m 0))), (1, .int t)] := hl
  obtain ⟨k0, f0⟩ := hi_0 hI.1 (by rw [hk]; decide) (by rw [hk]; decide)
  refine lv_aload_n hx hb dX4_wideOut_0 rfl (lv_at hl 0 rfl) ?_
  refine lv_iconst (v := nI 0) hx hb dX4_wideOut_1 (by decide) ?_
  refine xx_callM (mm := m) (As := [.int (nI 0)]) (rest := []) S G (by omega) hN (hC.k _) (xt_X2_wideIn l D dA C d j m 0 hC (by omega) (by decide) f0) (xx_cw hts q858 q859 (by rw [hk]; exact q860) q749 q58 q750 rfl hu_Module_wideIn ⟨Nat.le_of_ble_eq_true rfl, Nat.le_of_ble_eq_true rfl⟩) rfl hl.1 rfl (Nat.le_of_ble_eq_true rfl) dX4_wideOut_2 ⟨Nat.zero_le _, Nat.zero_le _⟩ (fun H locs G => ?_)
  refine W.eq (g2 := F0 mid 5 ls [.double (inD C (dAD d 19) m 0)]) rfl ?_
  refine lv_dneg hx hb dX4_wideOut_5 ?_
  exact xx_dret S hr hlk G (by simp [xoD, mkD, mkL, hk, a0D_in f0]) (xL_e rfl (by simp [xoD, mkD, mkL, hk, a0D_in f0]) rfl) dX4_wideOut_6
theorem xt_X8_wideOut (l : Launch) (D : va_G) (dA : Nat → ClassId) (C : tp_C) (d : md_T) (j : xj_T) (m : Nat) (t : Int32) (hC : mOK C) (hm : m < cN C) (hk : cK C m = 4) (hV : vOK C) (hR : rOK d) (hI : okM C m) (ht : dI d 44 = t) : xC l D dA yX8_wideOut cX8_wideOut 2 (some .double) 1 [.ref (jA j (xr m 0)), .int t] C d j (some (.double (xoD C d m))) C (mkL C d m) j := by
  refine xx_start (own := RX8) (by decide) rfl (Nat.le_of_ble_eq_true rfl) ?_
  intro p0 e0 s0 mid bl0 me0 co0 ls S hr hlk G hl
  have hx := S.1; have hb := S.2.1; have hml := S.2.2.1; have hown := S.2.2.2.1; have hts := S.2.2.2.2; have hN := hC.n
  have hl : lv_has ls 2 [(0, .ref (jA j (xr m 0))), (1, .int t)] := hl
  obtain ⟨k0, f0⟩ := hi_0 hI.1 (by rw [hk]; decide) (by rw [hk]; decide)
  obtain ⟨k1, f1⟩ := hi_1 hI.1 (by rw [hk]; decide) (by rw [hk]; decide) (by rw [hk]; decide)
  refine lv_aload_n hx hb dX8_wideOut_0 rfl (lv_at hl 0 rfl) ?_
  refine lv_iconst (v := nI 0) hx hb dX8_wideOut_1 (by decide) ?_
  refine xx_callM (mm := m) (As := [.int (nI 0)]) (rest := []) S G (by omega) hN (hC.k _) (xt_X2_wideIn l D dA C d j m 0 hC (by omega) (by decide) f0) (xx_cw hts q772 q773 (by rw [hk]; exact q774) q749 q58 q750 rfl hu_Module_wideIn ⟨Nat.le_of_ble_eq_true rfl, Nat.le_of_ble_eq_true rfl⟩) rfl hl.1 rfl (Nat.le_of_ble_eq_true rfl) dX8_wideOut_2 ⟨Nat.zero_le _, Nat.zero_le _⟩ (fun H locs G => ?_)
  refine W.eq (g2 := F0 mid 5 ls [.double (inD C (dAD d 19) m 0)]) rfl ?_
  refine lv_aload_n hx hb dX8_wideOut_5 rfl (lv_at hl 0 rfl) ?_
  refine lv_iconst (v := nI 1) hx hb dX8_wideOut_6 (by decide) ?_
  refine xx_callM (mm := m) (As := [.int (nI 1)]) (rest := [.double (inD C (dAD d 19) m 0)]) S G (by omega) hN (hC.k _) (xt_X2_wideIn l D dA C d j m 1 hC (by omega) (by decide) f1) (xx_cw hts q772 q773 (by rw [hk]; exact q774) q749 q58 q750 rfl hu_Module_wideIn ⟨Nat.le_of_ble_eq_true rfl, Nat.le_of_ble_eq_true rfl⟩) rfl hl.1 rfl (Nat.le_of_ble_eq_true rfl) dX8_wideOut_7 ⟨Nat.zero_le _, Nat.zero_le _⟩ (fun H locs G => ?_)
  refine W.eq (g2 := F0 mid 10 ls [.double (inD C (dAD d 19) m 1), .double (inD C (dAD d 19) m 0)]) rfl ?_
  refine lv_dmul hx hb dX8_wideOut_10 (nD_mul (in_b hR.rd) (in_b hR.rd)) ?_
  exact xx_dret S hr hlk G (by simp [xoD, mkD, mkL, hk, a0D_in f0, a0D_in f1]) (xL_e rfl (by simp [xoD, mkD, mkL, hk, a0D_in f0, a0D_in f1]) rfl) dX8_wideOut_11
theorem xt_X9_wideOut (l : Launch) (D : va_G) (dA : Nat → ClassId) (C : tp_C) (d : md_T) (j : xj_T) (m : Nat) (t : Int32) (hC : mOK C) (hm : m < cN C) (hk : cK C m = 5) (hV : vOK C) (hR : rOK d) (hI : okM C m) (ht : dI d 44 = t) : xC l D dA yX9_wideOut cX9_wideOut 4 (some .double) 1 [.ref (jA j (xr m 0)), .int t] C d j (some (.double (xoD C d m))) C (mkL C d m) j := by
  refine xx_start (own := RX9) (by decide) rfl (Nat.le_of_ble_eq_true rfl) ?_
  intro p0 e0 s0 mid bl0 me0 co0 ls S hr hlk G hl
  have hx := S.1; have hb := S.2.1; have hml := S.2.2.1; have hown := S.2.2.2.1; have hts := S.2.2.2.2; have hN := hC.n
  have hl : lv_has ls 4 [(0, .ref (jA j (xr m 0))), (1, .int t)] := hl
  obtain ⟨k0, f0⟩ := hi_0 hI.1 (by rw [hk]; decide) (by rw [hk]; decide)
  obtain ⟨k1, f1⟩ := hi_1 hI.1 (by rw [hk]; decide) (by rw [hk]; decide) (by rw [hk]; decide)
  refine lv_aload_n hx hb dX9_wideOut_0 rfl (lv_at hl 0 rfl) ?_
  refine lv_iconst (v := nI 0) hx hb dX9_wideOut_1 (by decide) ?_
  refine xx_callM (mm := m) (As := [.int (nI 0)]) (rest := []) S G (by omega) hN (hC.k _) (xt_X2_wideIn l D dA C d j m 0 hC (by omega) (by decide) f0) (xx_cw hts q778 q779 (by rw [hk]; exact q780) q749 q58 q750 rfl hu_Module_wideIn ⟨Nat.le_of_ble_eq_true rfl, Nat.le_of_ble_eq_true rfl⟩) rfl hl.1 rfl (Nat.le_of_ble_eq_true rfl) dX9_wideOut_2 ⟨Nat.zero_le _, Nat.zero_le _⟩ (fun H locs G => ?_)
  refine W.eq (g2 := F0 mid 5 ls [.double (inD C (dAD d 19) m 0)]) rfl ?_
  refine lv_dstore_n (lv' := [(2, .double (inD C (dAD d 19) m 0)), (0, .ref (jA j (xr m 0))), (1, .int t)]) hx hb dX9_wideOut_5 rfl hl (by decide) rfl (fun ls hl => ?_)
  refine lv_aload_n hx hb dX9_wideOut_6 rfl (lv_at hl 1 rfl) ?_
  refine lv_iconst (v := nI 1) hx hb dX9_wideOut_7 (by decide) ?_
  refine xx_callM (mm := m) (As := [.int (nI 1)]) (rest := []) S G (by omega) hN (hC.k _) (xt_X2_wideIn l D dA C d j m 1 hC (by omega) (by decide) f1) (xx_cw hts q778 q779 (by rw [hk]; exact q780) q749 q58 q750 rfl hu_Module_wideIn ⟨Nat.le_of_ble_eq_true rfl, Nat.le_of_ble_eq_true rfl⟩) rfl hl.1 rfl (Nat.le_of_ble_eq_true rfl) dX9_wideOut_8 ⟨Nat.zero_le _, Nat.zero_le _⟩ (fun H locs G => ?_)
  refine W.eq (g2 := F0 mid 11 ls [.double (inD C (dAD d 19) m 1)]) rfl ?_
  refine lv_dconst0 hx hb dX9_wideOut_11 ?_
  refine fx_jleq (tgt := 24) hx hb dX9_wideOut_12 dX9_wideOut_13 (by decide) (fun c_13 => ?_) (fun c_13 => ?_)
  · refine lv_dload_n hx hb dX9_wideOut_24 rfl (lv_at hl 0 rfl) ?_
    refine lv_dconst0 hx hb dX9_wideOut_25 ?_
    refine fx_jlne (tgt := 32) hx hb dX9_wideOut_26 dX9_wideOut_27 (by decide) (fun c_27 => ?_) (fun c_27 => ?_)
    · refine lv_aload_n hx hb dX9_wideOut_32 rfl (lv_at hl 1 rfl) ?_
      refine lv_iload_n hx hb dX9_wideOut_33 rfl (lv_at hl 2 rfl) ?_
      refine xx_callM (mm := m) (As := [.int t]) (rest := []) S G (by omega) hN (hC.k _) (xt_X2_light l D dA C d j m t hC (by omega) ht) (xx_cw hts q781 q782 (by rw [hk]; exact q784) q785 q58 q786 rfl hu_Module_light ⟨Nat.le_of_ble_eq_true rfl, Nat.le_of_ble_eq_true rfl⟩) rfl hl.1 rfl (Nat.le_of_ble_eq_true rfl) dX9_wideOut_34 ⟨Nat.zero_le _, Nat.zero_le _⟩ (fun H locs G => ?_)
      refine W.eq (g2 := F0 mid 37 ls []) rfl ?_
      refine lv_dload_n hx hb dX9_wideOut_37 rfl (lv_at hl 0 rfl) ?_
      refine lv_dconst0 hx hb dX9_wideOut_38 ?_
      refine fx_jlle (tgt := 49) hx hb dX9_wideOut_39 dX9_wideOut_40 (by decide) (fun c_40 => ?_) (fun c_40 => ?_)
      · refine lv_ldc2d hx hb hown (hts _ q788) dX9_wideOut_49 ?_
        exact xx_dret S hr hlk G (by simp [xoD, mkD, mkL, hk, a0D_in f0, a0D_in f1, c_13, c_27, c_40]) (xL_e rfl (by simp [xoD, mkD, mkL, hk, a0D_in f0, a0D_in f1, c_13, c_27, c_40]) rfl) dX9_wideOut_52
      · refine lv_ldc2d hx hb hown (hts _ q787) dX9_wideOut_43 ?_
        refine lv_goto (tgt := 52) hx hb dX9_wideOut_46 (by decide) ?_
        exact xx_dret S hr hlk G (by simp [xoD, mkD, mkL, hk, a0D_in f0, a0D_in f1, c_13, c_27, c_40]) (xL_e rfl (by simp [xoD, mkD, mkL, hk, a0D_in f0, a0D_in f1, c_13, c_27, c_40]) rfl) dX9_wideOut_52
    · refine lv_dconst0 hx hb dX9_wideOut_30 ?_
      exact xx_dret S hr hlk G (by simp [xoD, mkD, mkL, hk, a0D_in f0, a0D_in f1, c_13, c_27]) (xL_e rfl (by simp [xoD, mkD, mkL, hk, a0D_in f0, a0D_in f1, c_13, c_27]) rfl) dX9_wideOut_31
  · refine lv_dload_n hx hb dX9_wideOut_16 rfl (lv_at hl 0 rfl) ?_
    refine lv_aload_n hx hb dX9_wideOut_17 rfl (lv_at hl 1 rfl) ?_
    refine lv_iconst (v := nI 1) hx hb dX9_wideOut_18 (by decide) ?_
    refine xx_callM (mm := m) (As := [.int (nI 1)]) (rest := [.double (inD C (dAD d 19) m 0)]) S G (by omega) hN (hC.k _) (xt_X2_wideIn l D dA C d j m 1 hC (by omega) (by decide) f1) (xx_cw hts q778 q779 (by rw [hk]; exact q780) q749 q58 q750 rfl hu_Module_wideIn ⟨Nat.le_of_ble_eq_true rfl, Nat.le_of_ble_eq_true rfl⟩) rfl hl.1 rfl (Nat.le_of_ble_eq_true rfl) dX9_wideOut_19 ⟨Nat.zero_le _, Nat.zero_le _⟩ (fun H locs G => ?_)
    refine W.eq (g2 := F0 mid 22 ls [.double (inD C (dAD d 19) m 1), .double (inD C (dAD d 19) m 0)]) rfl ?_
    refine lv_ddiv hx hb dX9_wideOut_22 (nD_div (bD_n (in_b hR.rd)) (nzD_ne (in_b hR.rd) c_13)) ?_
    exact xx_dret S hr hlk G (by simp [xoD, mkD, mkL, hk, a0D_in f0, a0D_in f1, c_13]) (xL_e rfl (by simp [xoD, mkD, mkL, hk, a0D_in f0, a0D_in f1, c_13]) rfl) dX9_wideOut_23
theorem xt_X10_wideOut (l : Launch) (D : va_G) (dA : Nat → ClassId) (C : tp_C) (d : md_T) (j : xj_T) (m : Nat) (t : Int32) (hC : mOK C) (hm : m < cN C) (hk : cK C m = 6) (hV : vOK C) (hR : rOK d) (hI : okM C m) (ht : dI d 44 = t) : xC l D dA yX10_wideOut cX10_wideOut 4 (some .double) 5 [.ref (jA j (xr m 0)), .int t] C d j (some (.double (xoD C d m))) C (mkL C d m) j := by
  refine xx_start (own := RX10) (by decide) rfl (Nat.le_of_ble_eq_true rfl) ?_
  intro p0 e0 s0 mid bl0 me0 co0 ls S hr hlk G hl
  have hx := S.1; have hb := S.2.1; have hml := S.2.2.1; have hown := S.2.2.2.1; have hts := S.2.2.2.2; have hN := hC.n
  have hl : lv_has ls 4 [(0, .ref (jA j (xr m 0))), (1, .int t)] := hl
  obtain ⟨k0, f0⟩ := hi_0 hI.1 (by rw [hk]; decide) (by rw [hk]; decide)
  refine lv_aload_n hx hb dX10_wideOut_0 rfl (lv_at hl 0 rfl) ?_
  refine lv_iconst (v := nI 0) hx hb dX10_wideOut_1 (by decide) ?_
  refine xx_callM (mm := m) (As := [.int (nI 0)]) (rest := []) S G (by omega) hN (hC.k _) (xt_X2_wideIn l D dA C d j m 0 hC (by omega) (by decide) f0) (xx_cw hts q798 q799 (by rw [hk]; exact q800) q749 q58 q750 rfl hu_Module_wideIn ⟨Nat.le_of_ble_eq_true rfl, Nat.le_of_ble_eq_true rfl⟩) rfl hl.1 rfl (Nat.le_of_ble_eq_true rfl) dX10_wideOut_2 ⟨Nat.zero_le _, Nat.zero_le _⟩ (fun H locs G => ?_)
  refine W.eq (g2 := F0 mid 5 ls [.double (inD C (dAD d 19) m 0)]) rfl ?_
  refine lv_dstore_n (lv' := [(2, .double (inD C (dAD d 19) m 0)), (0, .ref (jA j (xr m 0))), (1, .int t)]) hx hb dX10_wideOut_5 rfl hl (by decide) rfl (fun ls hl => ?_)
  refine lv_dload_n hx hb dX10_wideOut_6 rfl (lv_at hl 0 rfl) ?_
  refine lv_dconst0 hx hb dX10_wideOut_7 ?_
  refine fx_jgge (tgt := 19) hx hb dX10_wideOut_8 dX10_wideOut_9 (by decide) (fun c_9 => ?_) (fun c_9 => ?_)
  · refine lv_dload_n hx hb dX10_wideOut_19 rfl (lv_at hl 0 rfl) ?_
    refine lv_dconst0 hx hb dX10_wideOut_20 ?_
    refine fx_jlne (tgt := 29) hx hb dX10_wideOut_21 dX10_wideOut_22 (by decide) (fun c_22 => ?_) (fun c_22 => ?_)
    · refine lv_dload_n hx hb dX10_wideOut_29 rfl (lv_at hl 0 rfl) ?_
      refine sC_call (As := [.double (inD C (dAD d 19) m 0)]) (rest := []) S (st_J1_sqrt l (inD C (dAD d 19) m 0) ⟨bD_up (in_b hR.rd), c_9⟩) q804 q805 q56 q806 hd_J1_sqrt ⟨Nat.le_of_ble_eq_true rfl, Nat.le_of_ble_eq_true rfl⟩ rfl hl.1 rfl (Nat.le_of_ble_eq_true rfl) dX10_wideOut_30 ⟨Nat.zero_le _, Nat.zero_le _⟩ ?_
      refine W.eq (g2 := F0 mid 33 ls [.double (rtD (inD C (dAD d 19) m 0))]) rfl ?_
      exact xx_dret S hr hlk G (by simp [xoD, mkD, mkL, hk, a0D_in f0, c_9, c_22]) (xL_e rfl (by simp [xoD, mkD, mkL, hk, a0D_in f0, c_9, c_22]) rfl) dX10_wideOut_33
    · refine lv_dconst0 hx hb dX10_wideOut_25 ?_
      refine lv_goto (tgt := 33) hx hb dX10_wideOut_26 (by decide) ?_
      exact xx_dret S hr hlk G (by simp [xoD, mkD, mkL, hk, a0D_in f0, c_9, c_22]) (xL_e rfl (by simp [xoD, mkD, mkL, hk, a0D_in f0, c_9, c_22]) rfl) dX10_wideOut_33
  · refine lv_aload_n hx hb dX10_wideOut_12 rfl (lv_at hl 1 rfl) ?_
    refine lv_iload_n hx hb dX10_wideOut_13 rfl (lv_at hl 2 rfl) ?_
    refine xx_callM (mm := m) (As := [.int t]) (rest := []) S G (by omega) hN (hC.k _) (xt_X2_light l D dA C d j m t hC (by omega) ht) (xx_cw hts q801 q802 (by rw [hk]; exact q803) q785 q58 q786 rfl hu_Module_light ⟨Nat.le_of_ble_eq_true rfl, Nat.le_of_ble_eq_true rfl⟩) rfl hl.1 rfl (Nat.le_of_ble_eq_true rfl) dX10_wideOut_14 ⟨Nat.zero_le _, Nat.zero_le _⟩ (fun H locs G => ?_)
    refine W.eq (g2 := F0 mid 17 ls []) rfl ?_
    refine lv_dconst0 hx hb dX10_wideOut_17 ?_
    exact xx_dret S hr hlk G (by simp [xoD, mkD, mkL, hk, a0D_in f0, c_9]) (xL_e rfl (by simp [xoD, mkD, mkL, hk, a0D_in f0, c_9]) rfl) dX10_wideOut_18
theorem xt_X12_wideOut (l : Launch) (D : va_G) (dA : Nat → ClassId) (C : tp_C) (d : md_T) (j : xj_T) (m : Nat) (t : Int32) (hC : mOK C) (hm : m < cN C) (hk : cK C m = 8) (hV : vOK C) (hR : rOK d) (hI : okM C m) (ht : dI d 44 = t) : xC l D dA yX12_wideOut cX12_wideOut 2 (some .double) 1 [.ref (jA j (xr m 0)), .int t] C d j (some (.double (xoD C d m))) C (mkL C d m) j := by
  refine xx_start (own := RX12) (by decide) rfl (Nat.le_of_ble_eq_true rfl) ?_
  intro p0 e0 s0 mid bl0 me0 co0 ls S hr hlk G hl
  have hx := S.1; have hb := S.2.1; have hml := S.2.2.1; have hown := S.2.2.2.1; have hts := S.2.2.2.2; have hN := hC.n
  have hl : lv_has ls 2 [(0, .ref (jA j (xr m 0))), (1, .int t)] := hl
  obtain ⟨k0, f0⟩ := hi_0 hI.1 (by rw [hk]; decide) (by rw [hk]; decide)
  obtain ⟨k1, f1⟩ := hi_1 hI.1 (by rw [hk]; decide) (by rw [hk]; decide) (by rw [hk]; decide)
  refine lv_aload_n hx hb dX12_wideOut_0 rfl (lv_at hl 0 rfl) ?_
  refine lv_iconst (v := nI 0) hx hb dX12_wideOut_1 (by decide) ?_
  refine xx_callM (mm := m) (As := [.int (nI 0)]) (rest := []) S G (by omega) hN (hC.k _) (xt_X2_wideIn l D dA C d j m 0 hC (by omega) (by decide) f0) (xx_cw hts q745 q746 (by rw [hk]; exact q748) q749 q58 q750 rfl hu_Module_wideIn ⟨Nat.le_of_ble_eq_true rfl, Nat.le_of_ble_eq_true rfl⟩) rfl hl.1 rfl (Nat.le_of_ble_eq_true rfl) dX12_wideOut_2 ⟨Nat.zero_le _, Nat.zero_le _⟩ (fun H locs G => ?_)
  refine W.eq (g2 := F0 mid 5 ls [.double (inD C (dAD d 19) m 0)]) rfl ?_
  refine lv_aload_n hx hb dX12_wideOut_5 rfl (lv_at hl 0 rfl) ?_
  refine lv_iconst (v := nI 1) hx hb dX12_wideOut_6 (by decide) ?_
  refine xx_callM (mm := m) (As := [.int (nI 1)]) (rest := [.double (inD C (dAD d 19) m 0)]) S G (by omega) hN (hC.k _) (xt_X2_wideIn l D dA C d j m 1 hC (by omega) (by decide) f1) (xx_cw hts q745 q746 (by rw [hk]; exact q748) q749 q58 q750 rfl hu_Module_wideIn ⟨Nat.le_of_ble_eq_true rfl, Nat.le_of_ble_eq_true rfl⟩) rfl hl.1 rfl (Nat.le_of_ble_eq_true rfl) dX12_wideOut_7 ⟨Nat.zero_le _, Nat.zero_le _⟩ (fun H locs G => ?_)
  refine W.eq (g2 := F0 mid 10 ls [.double (inD C (dAD d 19) m 1), .double (inD C (dAD d 19) m 0)]) rfl ?_
  refine fx_jlle (tgt := 18) hx hb dX12_wideOut_10 dX12_wideOut_11 (by decide) (fun c_11 => ?_) (fun c_11 => ?_)
  · refine lv_ldc2d hx hb hown (hts _ q751) dX12_wideOut_18 ?_
    exact xx_dret S hr hlk G (by simp [xoD, mkD, mkL, hk, a0D_in f0, a0D_in f1, c_11]) (xL_e rfl (by simp [xoD, mkD, mkL, hk, a0D_in f0, a0D_in f1, c_11]) rfl) dX12_wideOut_21
  · refine lv_dconst1 hx hb dX12_wideOut_14 ?_
    refine lv_goto (tgt := 21) hx hb dX12_wideOut_15 (by decide) ?_
    exact xx_dret S hr hlk G (by simp [xoD, mkD, mkL, hk, a0D_in f0, a0D_in f1, c_11]) (xL_e rfl (by simp [xoD, mkD, mkL, hk, a0D_in f0, a0D_in f1, c_11]) rfl) dX12_wideOut_21
theorem xt_X13_wideOut (l : Launch) (D : va_G) (dA : Nat → ClassId) (C : tp_C) (d : md_T) (j : xj_T) (m : Nat) (t : Int32) (hC : mOK C) (hm : m < cN C) (hk : cK C m = 9) (hV : vOK C) (hR : rOK d) (hI : okM C m) (ht : dI d 44 = t) : xC l D dA yX13_wideOut cX13_wideOut 2 (some .double) 1 [.ref (jA j (xr m 0)), .int t] C d j (some (.double (xoD C d m))) C (mkL C d m) j := by
  refine xx_start (own := RX13) (by decide) rfl (Nat.le_of_ble_eq_true rfl) ?_
  intro p0 e0 s0 mid bl0 me0 co0 ls S hr hlk G hl
  have hx := S.1; have hb := S.2.1; have hml := S.2.2.1; have hown := S.2.2.2.1; have hts := S.2.2.2.2; have hN := hC.n
  have hl : lv_has ls 2 [(0, .ref (jA j (xr m 0))), (1, .int t)] := hl
  obtain ⟨k0, f0⟩ := hi_0 hI.1 (by rw [hk]; decide) (by rw [hk]; decide)
  obtain ⟨k1, f1⟩ := hi_1 hI.1 (by rw [hk]; decide) (by rw [hk]; decide) (by rw [hk]; decide)
  obtain ⟨k2, f2⟩ := hi_2 hI.1 (by rw [hk]; decide)
  refine lv_aload_n hx hb dX13_wideOut_0 rfl (lv_at hl 0 rfl) ?_
  refine lv_iconst (v := nI 2) hx hb dX13_wideOut_1 (by decide) ?_
  refine xx_callM (mm := m) (As := [.int (nI 2)]) (rest := []) S G (by omega) hN (hC.k _) (xt_X2_wideIn l D dA C d j m 2 hC (by omega) (by decide) f2) (xx_cw hts q792 q793 (by rw [hk]; exact q794) q749 q58 q750 rfl hu_Module_wideIn ⟨Nat.le_of_ble_eq_true rfl, Nat.le_of_ble_eq_true rfl⟩) rfl hl.1 rfl (Nat.le_of_ble_eq_true rfl) dX13_wideOut_2 ⟨Nat.zero_le _, Nat.zero_le _⟩ (fun H locs G => ?_)
  refine W.eq (g2 := F0 mid 5 ls [.double (inD C (dAD d 19) m 2)]) rfl ?_
  refine lv_dconst0 hx hb dX13_wideOut_5 ?_
  refine fx_jlle (tgt := 18) hx hb dX13_wideOut_6 dX13_wideOut_7 (by decide) (fun c_7 => ?_) (fun c_7 => ?_)
  · refine lv_aload_n hx hb dX13_wideOut_18 rfl (lv_at hl 0 rfl) ?_
    refine lv_iconst (v := nI 1) hx hb dX13_wideOut_19 (by decide) ?_
    refine xx_callM (mm := m) (As := [.int (nI 1)]) (rest := []) S G (by omega) hN (hC.k _) (xt_X2_wideIn l D dA C d j m 1 hC (by omega) (by decide) f1) (xx_cw hts q792 q793 (by rw [hk]; exact q794) q749 q58 q750 rfl hu_Module_wideIn ⟨Nat.le_of_ble_eq_true rfl, Nat.le_of_ble_eq_true rfl⟩) rfl hl.1 rfl (Nat.le_of_ble_eq_true rfl) dX13_wideOut_20 ⟨Nat.zero_le _, Nat.zero_le _⟩ (fun H locs G => ?_)
    refine W.eq (g2 := F0 mid 23 ls [.double (inD C (dAD d 19) m 1)]) rfl ?_
    exact xx_dret S hr hlk G (by simp [xoD, mkD, mkL, hk, a0D_in f0, a0D_in f1, a0D_in f2, c_7]) (xL_e rfl (by simp [xoD, mkD, mkL, hk, a0D_in f0, a0D_in f1, a0D_in f2, c_7]) rfl) dX13_wideOut_23
  · refine lv_aload_n hx hb dX13_wideOut_10 rfl (lv_at hl 0 rfl) ?_
    refine lv_iconst (v := nI 0) hx hb dX13_wideOut_11 (by decide) ?_
    refine xx_callM (mm := m) (As := [.int (nI 0)]) (rest := []) S G (by omega) hN (hC.k _) (xt_X2_wideIn l D dA C d j m 0 hC (by omega) (by decide) f0) (xx_cw hts q792 q793 (by rw [hk]; exact q794) q749 q58 q750 rfl hu_Module_wideIn ⟨Nat.le_of_ble_eq_true rfl, Nat.le_of_ble_eq_true rfl⟩) rfl hl.1 rfl (Nat.le_of_ble_eq_true rfl) dX13_wideOut_12 ⟨Nat.zero_le _, Nat.zero_le _⟩ (fun H locs G => ?_)
    refine W.eq (g2 := F0 mid 15 ls [.double (inD C (dAD d 19) m 0)]) rfl ?_
    refine lv_goto (tgt := 23) hx hb dX13_wideOut_15 (by decide) ?_
    exact xx_dret S hr hlk G (by simp [xoD, mkD, mkL, hk, a0D_in f0, a0D_in f1, a0D_in f2, c_7]) (xL_e rfl (by simp [xoD, mkD, mkL, hk, a0D_in f0, a0D_in f1, a0D_in f2, c_7]) rfl) dX13_wideOut_23
theorem xt_X14_wideOut (l : Launch) (D : va_G) (dA : Nat → ClassId) (C : tp_C) (d : md_T) (j : xj_T) (m : Nat) (t : Int32) (hC : mOK C) (hm : m < cN C) (hk : cK C m = 10) (hV : vOK C) (hR : rOK d) (hI : okM C m) (ht : dI d 44 = t) : xC l D dA yX14_wideOut cX14_wideOut 2 (some .double) 1 [.ref (jA j (xr m 0)), .int t] C d j (some (.double (xoD C d m))) C (mkL C d m) j := by
  refine xx_start (own := RX14) (by decide) rfl (Nat.le_of_ble_eq_true rfl) ?_
  intro p0 e0 s0 mid bl0 me0 co0 ls S hr hlk G hl
  have hx := S.1; have hb := S.2.1; have hml := S.2.2.1; have hown := S.2.2.2.1; have hts := S.2.2.2.2; have hN := hC.n
  have hl : lv_has ls 2 [(0, .ref (jA j (xr m 0))), (1, .int t)] := hl
  obtain ⟨k0, f0⟩ := hi_0 hI.1 (by rw [hk]; decide) (by rw [hk]; decide)
  refine lv_aload_n hx hb dX14_wideOut_0 rfl (lv_at hl 0 rfl) ?_
  refine lv_iconst (v := nI 0) hx hb dX14_wideOut_1 (by decide) ?_
  refine xx_callM (mm := m) (As := [.int (nI 0)]) (rest := []) S G (by omega) hN (hC.k _) (xt_X2_wideIn l D dA C d j m 0 hC (by omega) (by decide) f0) (xx_cw hts q766 q767 (by rw [hk]; exact q768) q749 q58 q750 rfl hu_Module_wideIn ⟨Nat.le_of_ble_eq_true rfl, Nat.le_of_ble_eq_true rfl⟩) rfl hl.1 rfl (Nat.le_of_ble_eq_true rfl) dX14_wideOut_2 ⟨Nat.zero_le _, Nat.zero_le _⟩ (fun H locs G => ?_)
  refine W.eq (g2 := F0 mid 5 ls [.double (inD C (dAD d 19) m 0)]) rfl ?_
  refine lv_aload_n hx hb dX14_wideOut_5 rfl (lv_at hl 0 rfl) ?_
  refine xx_getM S G (mm := m) (ref := "TwinPanel$Part") (by omega) hN (hC.k _) 1 (by rw [hk]; decide) (by rw [hk]; exact hts _ q207) (by rw [hk]; exact fun x h => u_same (hts _ q208) x h) (v := .double (cS C m)) rfl dX14_wideOut_6 ?_
  refine lv_dmul hx hb dX14_wideOut_9 (nD_mul (in_b hR.rd) (hV.s m)) ?_
  exact xx_dret S hr hlk G (by simp [xoD, mkD, mkL, hk, a0D_in f0]) (xL_e rfl (by simp [xoD, mkD, mkL, hk, a0D_in f0]) rfl) dX14_wideOut_10
theorem xt_X16_wideOut (l : Launch) (D : va_G) (dA : Nat → ClassId) (C : tp_C) (d : md_T) (j : xj_T) (m : Nat) (t : Int32) (hC : mOK C) (hm : m < cN C) (hk : cK C m = 12) (hV : vOK C) (hR : rOK d) (hI : okM C m) (ht : dI d 44 = t) : xC l D dA yX16_wideOut cX16_wideOut 4 (some .double) 1 [.ref (jA j (xr m 0)), .int t] C d j (some (.double (xoD C d m))) C (mkL C d m) j := by
  refine xx_start (own := RX16) (by decide) rfl (Nat.le_of_ble_eq_true rfl) ?_
  intro p0 e0 s0 mid bl0 me0 co0 ls S hr hlk G hl
  have hx := S.1; have hb := S.2.1; have hml := S.2.2.1; have hown := S.2.2.2.1; have hts := S.2.2.2.2; have hN := hC.n
  have hl : lv_has ls 4 [(0, .ref (jA j (xr m 0))), (1, .int t)] := hl
  obtain ⟨k0, f0⟩ := hi_0 hI.1 (by rw [hk]; decide) (by rw [hk]; decide)
  refine lv_aload_n hx hb dX16_wideOut_0 rfl (lv_at hl 0 rfl) ?_
  refine lv_iconst (v := nI 0) hx hb dX16_wideOut_1 (by decide) ?_
  refine xx_callM (mm := m) (As := [.int (nI 0)]) (rest := []) S G (by omega) hN (hC.k _) (xt_X2_wideIn l D dA C d j m 0 hC (by omega) (by decide) f0) (xx_cw hts q759 q760 (by rw [hk]; exact q761) q749 q58 q750 rfl hu_Module_wideIn ⟨Nat.le_of_ble_eq_true rfl, Nat.le_of_ble_eq_true rfl⟩) rfl hl.1 rfl (Nat.le_of_ble_eq_true rfl) dX16_wideOut_2 ⟨Nat.zero_le _, Nat.zero_le _⟩ (fun H locs G => ?_)
  refine W.eq (g2 := F0 mid 5 ls [.double (inD C (dAD d 19) m 0)]) rfl ?_
  refine lv_dstore_n (lv' := [(2, .double (inD C (dAD d 19) m 0)), (0, .ref (jA j (xr m 0))), (1, .int t)]) hx hb dX16_wideOut_5 rfl hl (by decide) rfl (fun ls hl => ?_)
  refine lv_dload_n hx hb dX16_wideOut_6 rfl (lv_at hl 0 rfl) ?_
  refine lv_aload_n hx hb dX16_wideOut_7 rfl (lv_at hl 1 rfl) ?_
  refine xx_getM S G (mm := m) (ref := "TwinPanel$Limit") (by omega) hN (hC.k _) 1 (by rw [hk]; decide) (by rw [hk]; exact hts _ q209) (by rw [hk]; exact fun x h => u_same (hts _ q210) x h) (v := .double (cS C m)) rfl dX16_wideOut_8 ?_
  refine fx_jlle (tgt := 22) hx hb dX16_wideOut_11 dX16_wideOut_12 (by decide) (fun c_12 => ?_) (fun c_12 => ?_)
  · refine lv_dload_n hx hb dX16_wideOut_22 rfl (lv_at hl 0 rfl) ?_
    refine lv_aload_n hx hb dX16_wideOut_23 rfl (lv_at hl 1 rfl) ?_
    refine xx_getM S G (mm := m) (ref := "TwinPanel$Limit") (by omega) hN (hC.k _) 1 (by rw [hk]; decide) (by rw [hk]; exact hts _ q209) (by rw [hk]; exact fun x h => u_same (hts _ q210) x h) (v := .double (cS C m)) rfl dX16_wideOut_24 ?_
    refine lv_dneg hx hb dX16_wideOut_27 ?_
    refine fx_jgge (tgt := 40) hx hb dX16_wideOut_28 dX16_wideOut_29 (by decide) (fun c_29 => ?_) (fun c_29 => ?_)
    · refine lv_dload_n hx hb dX16_wideOut_40 rfl (lv_at hl 0 rfl) ?_
      exact xx_dret S hr hlk G (by simp [xoD, mkD, mkL, hk, a0D_in f0, c_12, c_29]) (xL_e rfl (by simp [xoD, mkD, mkL, hk, a0D_in f0, c_12, c_29]) rfl) dX16_wideOut_41
    · refine lv_aload_n hx hb dX16_wideOut_32 rfl (lv_at hl 1 rfl) ?_
      refine xx_getM S G (mm := m) (ref := "TwinPanel$Limit") (by omega) hN (hC.k _) 1 (by rw [hk]; decide) (by rw [hk]; exact hts _ q209) (by rw [hk]; exact fun x h => u_same (hts _ q210) x h) (v := .double (cS C m)) rfl dX16_wideOut_33 ?_
      refine lv_dneg hx hb dX16_wideOut_36 ?_
      refine lv_goto (tgt := 41) hx hb dX16_wideOut_37 (by decide) ?_
      exact xx_dret S hr hlk G (by simp [xoD, mkD, mkL, hk, a0D_in f0, c_12, c_29]) (xL_e rfl (by simp [xoD, mkD, mkL, hk, a0D_in f0, c_12, c_29]) rfl) dX16_wideOut_41
  · refine lv_aload_n hx hb dX16_wideOut_15 rfl (lv_at hl 1 rfl) ?_
    refine xx_getM S G (mm := m) (ref := "TwinPanel$Limit") (by omega) hN (hC.k _) 1 (by rw [hk]; decide) (by rw [hk]; exact hts _ q209) (by rw [hk]; exact fun x h => u_same (hts _ q210) x h) (v := .double (cS C m)) rfl dX16_wideOut_16 ?_
    refine lv_goto (tgt := 41) hx hb dX16_wideOut_19 (by decide) ?_
    exact xx_dret S hr hlk G (by simp [xoD, mkD, mkL, hk, a0D_in f0, c_12]) (xL_e rfl (by simp [xoD, mkD, mkL, hk, a0D_in f0, c_12]) rfl) dX16_wideOut_41
theorem xt_X3_narrowOut (l : Launch) (D : va_G) (dA : Nat → ClassId) (C : tp_C) (d : md_T) (j : xj_T) (m : Nat) (t : Int32) (hC : mOK C) (hm : m < cN C) (hk : cK C m = 0) (hV : vOK C) (hR : rOK d) (hI : okM C m) (ht : dI d 44 = t) : xC l D dA yX3_narrowOut cX3_narrowOut 2 (some .float) 2 [.ref (jA j (xr m 0)), .int t] C d j (some (.float (xoF C d m))) C (mkLF C d m) j := by
  refine xx_start (own := RX3) (by decide) rfl (Nat.le_of_ble_eq_true rfl) ?_
  intro p0 e0 s0 mid bl0 me0 co0 ls S hr hlk G hl
  have hx := S.1; have hb := S.2.1; have hml := S.2.2.1; have hown := S.2.2.2.1; have hts := S.2.2.2.2; have hN := hC.n
  have hl : lv_has ls 2 [(0, .ref (jA j (xr m 0))), (1, .int t)] := hl
  refine lv_aload_n hx hb dX3_narrowOut_0 rfl (lv_at hl 0 rfl) ?_
  refine xx_callM (mm := m) (As := []) (rest := []) S G (by omega) hN (hC.k _) (xt_X2_narrowSum l D dA C d j m hC (by omega) hR.rf) (xx_cw hts q941 q942 (by rw [hk]; exact q944) q945 q58 q946 rfl hu_Module_narrowSum ⟨Nat.le_of_ble_eq_true rfl, Nat.le_of_ble_eq_true rfl⟩) rfl hl.1 rfl (Nat.le_of_ble_eq_true rfl) dX3_narrowOut_1 ⟨Nat.zero_le _, Nat.zero_le _⟩ (fun H locs G => ?_)
  refine W.eq (g2 := F0 mid 4 ls [.float (suF C (dAF d 20) m)]) rfl ?_
  exact xx_fret S hr hlk G (by simp [xoF, mkF, mkLF, hk]) (xL_e rfl (by simp [xoF, mkF, mkLF, hk]) rfl) dX3_narrowOut_4
theorem xt_X4_narrowOut (l : Launch) (D : va_G) (dA : Nat → ClassId) (C : tp_C) (d : md_T) (j : xj_T) (m : Nat) (t : Int32) (hC : mOK C) (hm : m < cN C) (hk : cK C m = 1) (hV : vOK C) (hR : rOK d) (hI : okM C m) (ht : dI d 44 = t) : xC l D dA yX4_narrowOut cX4_narrowOut 2 (some .float) 1 [.ref (jA j (xr m 0)), .int t] C d j (some (.float (xoF C d m))) C (mkLF C d m) j := by
  refine xx_start (own := RX4) (by decide) rfl (Nat.le_of_ble_eq_true rfl) ?_
  intro p0 e0 s0 mid bl0 me0 co0 ls S hr hlk G hl
  have hx := S.1; have hb := S.2.1; have hml := S.2.2.1; have hown := S.2.2.2.1; have hts := S.2.2.2.2; have hN := hC.n
  have hl : lv_has ls 2 [(0, .ref (jA j (xr m 0))), (1, .int t)] := hl
  obtain ⟨k0, f0⟩ := hi_0 hI.1 (by rw [hk]; decide) (by rw [hk]; decide)
  refine lv_aload_n hx hb dX4_narrowOut_0 rfl (lv_at hl 0 rfl) ?_
  refine lv_iconst (v := nI 0) hx hb dX4_narrowOut_1 (by decide) ?_
  refine xx_callM (mm := m) (As := [.int (nI 0)]) (rest := []) S G (by omega) hN (hC.k _) (xt_X2_narrowIn l D dA C d j m 0 hC (by omega) (by decide) f0) (xx_cw hts q958 q959 (by rw [hk]; exact q960) q892 q58 q893 rfl hu_Module_narrowIn ⟨Nat.le_of_ble_eq_true rfl, Nat.le_of_ble_eq_true rfl⟩) rfl hl.1 rfl (Nat.le_of_ble_eq_true rfl) dX4_narrowOut_2 ⟨Nat.zero_le _, Nat.zero_le _⟩ (fun H locs G => ?_)
  refine W.eq (g2 := F0 mid 5 ls [.float (inF C (dAF d 20) m 0)]) rfl ?_
  refine lv_fneg hx hb dX4_narrowOut_5 ?_
  exact xx_fret S hr hlk G (by simp [xoF, mkF, mkLF, hk, a0F_in f0]) (xL_e rfl (by simp [xoF, mkF, mkLF, hk, a0F_in f0]) rfl) dX4_narrowOut_6
theorem xt_X8_narrowOut (l : Launch) (D : va_G) (dA : Nat → ClassId) (C : tp_C) (d : md_T) (j : xj_T) (m : Nat) (t : Int32) (hC : mOK C) (hm : m < cN C) (hk : cK C m = 4) (hV : vOK C) (hR : rOK d) (hI : okM C m) (ht : dI d 44 = t) : xC l D dA yX8_narrowOut cX8_narrowOut 2 (some .float) 1 [.ref (jA j (xr m 0)), .int t] C d j (some (.float (xoF C d m))) C (mkLF C d m) j := by
  refine xx_start (own := RX8) (by decide) rfl (Nat.le_of_ble_eq_true rfl) ?_
  intro p0 e0 s0 mid bl0 me0 co0 ls S hr hlk G hl
  have hx := S.1; have hb := S.2.1; have hml := S.2.2.1; have hown := S.2.2.2.1; have hts := S.2.2.2.2; have hN := hC.n
  have hl : lv_has ls 2 [(0, .ref (jA j (xr m 0))), (1, .int t)] := hl
  obtain ⟨k0, f0⟩ := hi_0 hI.1 (by rw [hk]; decide) (by rw [hk]; decide)
  obtain ⟨k1, f1⟩ := hi_1 hI.1 (by rw [hk]; decide) (by rw [hk]; decide) (by rw [hk]; decide)
  refine lv_aload_n hx hb dX8_narrowOut_0 rfl (lv_at hl 0 rfl) ?_
  refine lv_iconst (v := nI 0) hx hb dX8_narrowOut_1 (by decide) ?_
  refine xx_callM (mm := m) (As := [.int (nI 0)]) (rest := []) S G (by omega) hN (hC.k _) (xt_X2_narrowIn l D dA C d j m 0 hC (by omega) (by decide) f0) (xx_cw hts q915 q916 (by rw [hk]; exact q917) q892 q58 q893 rfl hu_Module_narrowIn ⟨Nat.le_of_ble_eq_true rfl, Nat.le_of_ble_eq_true rfl⟩) rfl hl.1 rfl (Nat.le_of_ble_eq_true rfl) dX8_narrowOut_2 ⟨Nat.zero_le _, Nat.zero_le _⟩ (fun H locs G => ?_)
  refine W.eq (g2 := F0 mid 5 ls [.float (inF C (dAF d 20) m 0)]) rfl ?_
  refine lv_aload_n hx hb dX8_narrowOut_5 rfl (lv_at hl 0 rfl) ?_
  refine lv_iconst (v := nI 1) hx hb dX8_narrowOut_6 (by decide) ?_
  refine xx_callM (mm := m) (As := [.int (nI 1)]) (rest := [.float (inF C (dAF d 20) m 0)]) S G (by omega) hN (hC.k _) (xt_X2_narrowIn l D dA C d j m 1 hC (by omega) (by decide) f1) (xx_cw hts q915 q916 (by rw [hk]; exact q917) q892 q58 q893 rfl hu_Module_narrowIn ⟨Nat.le_of_ble_eq_true rfl, Nat.le_of_ble_eq_true rfl⟩) rfl hl.1 rfl (Nat.le_of_ble_eq_true rfl) dX8_narrowOut_7 ⟨Nat.zero_le _, Nat.zero_le _⟩ (fun H locs G => ?_)
  refine W.eq (g2 := F0 mid 10 ls [.float (inF C (dAF d 20) m 1), .float (inF C (dAF d 20) m 0)]) rfl ?_
  refine lv_fmul hx hb dX8_narrowOut_10 (nF_mul (in_bF hR.rf) (in_bF hR.rf)) ?_
  exact xx_fret S hr hlk G (by simp [xoF, mkF, mkLF, hk, a0F_in f0, a0F_in f1]) (xL_e rfl (by simp [xoF, mkF, mkLF, hk, a0F_in f0, a0F_in f1]) rfl) dX8_narrowOut_11
theorem xt_X9_narrowOut (l : Launch) (D : va_G) (dA : Nat → ClassId) (C : tp_C) (d : md_T) (j : xj_T) (m : Nat) (t : Int32) (hC : mOK C) (hm : m < cN C) (hk : cK C m = 5) (hV : vOK C) (hR : rOK d) (hI : okM C m) (ht : dI d 44 = t) : xC l D dA yX9_narrowOut cX9_narrowOut 3 (some .float) 1 [.ref (jA j (xr m 0)), .int t] C d j (some (.float (xoF C d m))) C (mkLF C d m) j := by
  refine xx_start (own := RX9) (by decide) rfl (Nat.le_of_ble_eq_true rfl) ?_
  intro p0 e0 s0 mid bl0 me0 co0 ls S hr hlk G hl
  have hx := S.1; have hb := S.2.1; have hml := S.2.2.1; have hown := S.2.2.2.1; have hts := S.2.2.2.2; have hN := hC.n
  have hl : lv_has ls 3 [(0, .ref (jA j (xr m 0))), (1, .int t)] := hl
  obtain ⟨k0, f0⟩ := hi_0 hI.1 (by rw [hk]; decide) (by rw [hk]; decide)
  obtain ⟨k1, f1⟩ := hi_1 hI.1 (by rw [hk]; decide) (by rw [hk]; decide) (by rw [hk]; decide)
  refine lv_aload_n hx hb dX9_narrowOut_0 rfl (lv_at hl 0 rfl) ?_
  refine lv_iconst (v := nI 0) hx hb dX9_narrowOut_1 (by decide) ?_
  refine xx_callM (mm := m) (As := [.int (nI 0)]) (rest := []) S G (by omega) hN (hC.k _) (xt_X2_narrowIn l D dA C d j m 0 hC (by omega) (by decide) f0) (xx_cw hts q921 q922 (by rw [hk]; exact q923) q892 q58 q893 rfl hu_Module_narrowIn ⟨Nat.le_of_ble_eq_true rfl, Nat.le_of_ble_eq_true rfl⟩) rfl hl.1 rfl (Nat.le_of_ble_eq_true rfl) dX9_narrowOut_2 ⟨Nat.zero_le _, Nat.zero_le _⟩ (fun H locs G => ?_)
  refine W.eq (g2 := F0 mid 5 ls [.float (inF C (dAF d 20) m 0)]) rfl ?_
  refine lv_fstore_n (lv' := [(2, .float (inF C (dAF d 20) m 0)), (0, .ref (jA j (xr m 0))), (1, .int t)]) hx hb dX9_narrowOut_5 rfl hl (by decide) rfl (fun ls hl => ?_)
  refine lv_aload_n hx hb dX9_narrowOut_6 rfl (lv_at hl 1 rfl) ?_
  refine lv_iconst (v := nI 1) hx hb dX9_narrowOut_7 (by decide) ?_
  refine xx_callM (mm := m) (As := [.int (nI 1)]) (rest := []) S G (by omega) hN (hC.k _) (xt_X2_narrowIn l D dA C d j m 1 hC (by omega) (by decide) f1) (xx_cw hts q921 q922 (by rw [hk]; exact q923) q892 q58 q893 rfl hu_Module_narrowIn ⟨Nat.le_of_ble_eq_true rfl, Nat.le_of_ble_eq_true rfl⟩) rfl hl.1 rfl (Nat.le_of_ble_eq_true rfl) dX9_narrowOut_8 ⟨Nat.zero_le _, Nat.zero_le _⟩ (fun H locs G => ?_)
  refine W.eq (g2 := F0 mid 11 ls [.float (inF C (dAF d 20) m 1)]) rfl ?_
  refine lv_fconst0 hx hb dX9_narrowOut_11 ?_
  refine fy_jleq (tgt := 24) hx hb dX9_narrowOut_12 dX9_narrowOut_13 (by decide) (fun c_13 => ?_) (fun c_13 => ?_)
  · refine lv_fload_n hx hb dX9_narrowOut_24 rfl (lv_at hl 0 rfl) ?_
    refine lv_fconst0 hx hb dX9_narrowOut_25 ?_
    refine fy_jlne (tgt := 32) hx hb dX9_narrowOut_26 dX9_narrowOut_27 (by decide) (fun c_27 => ?_) (fun c_27 => ?_)
    · refine lv_aload_n hx hb dX9_narrowOut_32 rfl (lv_at hl 1 rfl) ?_
      refine lv_iload_n hx hb dX9_narrowOut_33 rfl (lv_at hl 2 rfl) ?_
      refine xx_callM (mm := m) (As := [.int t]) (rest := []) S G (by omega) hN (hC.k _) (xt_X2_light l D dA C d j m t hC (by omega) ht) (xx_cw hts q781 q782 (by rw [hk]; exact q784) q785 q58 q786 rfl hu_Module_light ⟨Nat.le_of_ble_eq_true rfl, Nat.le_of_ble_eq_true rfl⟩) rfl hl.1 rfl (Nat.le_of_ble_eq_true rfl) dX9_narrowOut_34 ⟨Nat.zero_le _, Nat.zero_le _⟩ (fun H locs G => ?_)
      refine W.eq (g2 := F0 mid 37 ls []) rfl ?_
      refine lv_fload_n hx hb dX9_narrowOut_37 rfl (lv_at hl 0 rfl) ?_
      refine lv_fconst0 hx hb dX9_narrowOut_38 ?_
      refine fy_jlle (tgt := 48) hx hb dX9_narrowOut_39 dX9_narrowOut_40 (by decide) (fun c_40 => ?_) (fun c_40 => ?_)
      · refine lv_ldcf hx hb hown (hts _ q925) dX9_narrowOut_48 ?_
        exact xx_fret S hr hlk G (by simp [xoF, mkF, mkLF, hk, a0F_in f0, a0F_in f1, c_13, c_27, c_40]) (xL_e rfl (by simp [xoF, mkF, mkLF, hk, a0F_in f0, a0F_in f1, c_13, c_27, c_40]) rfl) dX9_narrowOut_50
      · refine lv_ldcf hx hb hown (hts _ q924) dX9_narrowOut_43 ?_
        refine lv_goto (tgt := 50) hx hb dX9_narrowOut_45 (by decide) ?_
        exact xx_fret S hr hlk G (by simp [xoF, mkF, mkLF, hk, a0F_in f0, a0F_in f1, c_13, c_27, c_40]) (xL_e rfl (by simp [xoF, mkF, mkLF, hk, a0F_in f0, a0F_in f1, c_13, c_27, c_40]) rfl) dX9_narrowOut_50
    · refine lv_fconst0 hx hb dX9_narrowOut_30 ?_
      exact xx_fret S hr hlk G (by simp [xoF, mkF, mkLF, hk, a0F_in f0, a0F_in f1, c_13, c_27]) (xL_e rfl (by simp [xoF, mkF, mkLF, hk, a0F_in f0, a0F_in f1, c_13, c_27]) rfl) dX9_narrowOut_31
  · refine lv_fload_n hx hb dX9_narrowOut_16 rfl (lv_at hl 0 rfl) ?_
    refine lv_aload_n hx hb dX9_narrowOut_17 rfl (lv_at hl 1 rfl) ?_
    refine lv_iconst (v := nI 1) hx hb dX9_narrowOut_18 (by decide) ?_
    refine xx_callM (mm := m) (As := [.int (nI 1)]) (rest := [.float (inF C (dAF d 20) m 0)]) S G (by omega) hN (hC.k _) (xt_X2_narrowIn l D dA C d j m 1 hC (by omega) (by decide) f1) (xx_cw hts q921 q922 (by rw [hk]; exact q923) q892 q58 q893 rfl hu_Module_narrowIn ⟨Nat.le_of_ble_eq_true rfl, Nat.le_of_ble_eq_true rfl⟩) rfl hl.1 rfl (Nat.le_of_ble_eq_true rfl) dX9_narrowOut_19 ⟨Nat.zero_le _, Nat.zero_le _⟩ (fun H locs G => ?_)
    refine W.eq (g2 := F0 mid 22 ls [.float (inF C (dAF d 20) m 1), .float (inF C (dAF d 20) m 0)]) rfl ?_
    refine lv_fdiv hx hb dX9_narrowOut_22 (nF_div (bF_n (in_bF hR.rf)) (nzF_ne (in_bF hR.rf) c_13)) ?_
    exact xx_fret S hr hlk G (by simp [xoF, mkF, mkLF, hk, a0F_in f0, a0F_in f1, c_13]) (xL_e rfl (by simp [xoF, mkF, mkLF, hk, a0F_in f0, a0F_in f1, c_13]) rfl) dX9_narrowOut_23
theorem xt_X10_narrowOut (l : Launch) (D : va_G) (dA : Nat → ClassId) (C : tp_C) (d : md_T) (j : xj_T) (m : Nat) (t : Int32) (hC : mOK C) (hm : m < cN C) (hk : cK C m = 6) (hV : vOK C) (hR : rOK d) (hI : okM C m) (ht : dI d 44 = t) : xC l D dA yX10_narrowOut cX10_narrowOut 3 (some .float) 5 [.ref (jA j (xr m 0)), .int t] C d j (some (.float (xoF C d m))) C (mkLF C d m) j := by
  refine xx_start (own := RX10) (by decide) rfl (Nat.le_of_ble_eq_true rfl) ?_
  intro p0 e0 s0 mid bl0 me0 co0 ls S hr hlk G hl
  have hx := S.1; have hb := S.2.1; have hml := S.2.2.1; have hown := S.2.2.2.1; have hts := S.2.2.2.2; have hN := hC.n
  have hl : lv_has ls 3 [(0, .ref (jA j (xr m 0))), (1, .int t)] := hl
  obtain ⟨k0, f0⟩ := hi_0 hI.1 (by rw [hk]; decide) (by rw [hk]; decide)
  refine lv_aload_n hx hb dX10_narrowOut_0 rfl (lv_at hl 0 rfl) ?_
  refine lv_iconst (v := nI 0) hx hb dX10_narrowOut_1 (by decide) ?_
  refine xx_callM (mm := m) (As := [.int (nI 0)]) (rest := []) S G (by omega) hN (hC.k _) (xt_X2_narrowIn l D dA C d j m 0 hC (by omega) (by decide) f0) (xx_cw hts q935 q936 (by rw [hk]; exact q937) q892 q58 q893 rfl hu_Module_narrowIn ⟨Nat.le_of_ble_eq_true rfl, Nat.le_of_ble_eq_true rfl⟩) rfl hl.1 rfl (Nat.le_of_ble_eq_true rfl) dX10_narrowOut_2 ⟨Nat.zero_le _, Nat.zero_le _⟩ (fun H locs G => ?_)
  refine W.eq (g2 := F0 mid 5 ls [.float (inF C (dAF d 20) m 0)]) rfl ?_
  refine lv_fstore_n (lv' := [(2, .float (inF C (dAF d 20) m 0)), (0, .ref (jA j (xr m 0))), (1, .int t)]) hx hb dX10_narrowOut_5 rfl hl (by decide) rfl (fun ls hl => ?_)
  refine lv_fload_n hx hb dX10_narrowOut_6 rfl (lv_at hl 0 rfl) ?_
  refine lv_fconst0 hx hb dX10_narrowOut_7 ?_
  refine fy_jgge (tgt := 19) hx hb dX10_narrowOut_8 dX10_narrowOut_9 (by decide) (fun c_9 => ?_) (fun c_9 => ?_)
  · refine lv_fload_n hx hb dX10_narrowOut_19 rfl (lv_at hl 0 rfl) ?_
    refine lv_fconst0 hx hb dX10_narrowOut_20 ?_
    refine fy_jlne (tgt := 29) hx hb dX10_narrowOut_21 dX10_narrowOut_22 (by decide) (fun c_22 => ?_) (fun c_22 => ?_)
    · refine lv_fload_n hx hb dX10_narrowOut_29 rfl (lv_at hl 0 rfl) ?_
      refine lv_f2d hx hb dX10_narrowOut_30 (nD_f2d (bF_n (in_bF hR.rf))) ?_
      refine sC_call (As := [.double (FP.f2d (inF C (dAF d 20) m 0))]) (rest := []) S (st_J1_sqrt l (FP.f2d (inF C (dAF d 20) m 0)) ⟨bD_up (bD_f2d (in_bF hR.rf)), fx_lt_f2d (in_bF hR.rf) c_9⟩) q804 q805 q56 q806 hd_J1_sqrt ⟨Nat.le_of_ble_eq_true rfl, Nat.le_of_ble_eq_true rfl⟩ rfl hl.1 rfl (Nat.le_of_ble_eq_true rfl) dX10_narrowOut_31 ⟨Nat.zero_le _, Nat.zero_le _⟩ ?_
      refine W.eq (g2 := F0 mid 34 ls [.double (rtD (FP.f2d (inF C (dAF d 20) m 0)))]) rfl ?_
      refine lv_d2f hx hb dX10_narrowOut_34 (nF_d2f (rt_n ⟨bD_up (bD_f2d (in_bF hR.rf)), fx_lt_f2d (in_bF hR.rf) c_9⟩)) ?_
      exact xx_fret S hr hlk G (by simp [xoF, mkF, mkLF, hk, a0F_in f0, c_9, c_22]) (xL_e rfl (by simp [xoF, mkF, mkLF, hk, a0F_in f0, c_9, c_22]) rfl) dX10_narrowOut_35
    · refine lv_fconst0 hx hb dX10_narrowOut_25 ?_
      refine lv_goto (tgt := 35) hx hb dX10_narrowOut_26 (by decide) ?_
      exact xx_fret S hr hlk G (by simp [xoF, mkF, mkLF, hk, a0F_in f0, c_9, c_22]) (xL_e rfl (by simp [xoF, mkF, mkLF, hk, a0F_in f0, c_9, c_22]) rfl) dX10_narrowOut_35
  · refine lv_aload_n hx hb dX10_narrowOut_12 rfl (lv_at hl 1 rfl) ?_
    refine lv_iload_n hx hb dX10_narrowOut_13 rfl (lv_at hl 2 rfl) ?_
    refine xx_callM (mm := m) (As := [.int t]) (rest := []) S G (by omega) hN (hC.k _) (xt_X2_light l D dA C d j m t hC (by omega) ht) (xx_cw hts q801 q802 (by rw [hk]; exact q803) q785 q58 q786 rfl hu_Module_light ⟨Nat.le_of_ble_eq_true rfl, Nat.le_of_ble_eq_true rfl⟩) rfl hl.1 rfl (Nat.le_of_ble_eq_true rfl) dX10_narrowOut_14 ⟨Nat.zero_le _, Nat.zero_le _⟩ (fun H locs G => ?_)
    refine W.eq (g2 := F0 mid 17 ls []) rfl ?_
    refine lv_fconst0 hx hb dX10_narrowOut_17 ?_
    exact xx_fret S hr hlk G (by simp [xoF, mkF, mkLF, hk, a0F_in f0, c_9]) (xL_e rfl (by simp [xoF, mkF, mkLF, hk, a0F_in f0, c_9]) rfl) dX10_narrowOut_18
theorem xt_X12_narrowOut (l : Launch) (D : va_G) (dA : Nat → ClassId) (C : tp_C) (d : md_T) (j : xj_T) (m : Nat) (t : Int32) (hC : mOK C) (hm : m < cN C) (hk : cK C m = 8) (hV : vOK C) (hR : rOK d) (hI : okM C m) (ht : dI d 44 = t) : xC l D dA yX12_narrowOut cX12_narrowOut 2 (some .float) 1 [.ref (jA j (xr m 0)), .int t] C d j (some (.float (xoF C d m))) C (mkLF C d m) j := by
  refine xx_start (own := RX12) (by decide) rfl (Nat.le_of_ble_eq_true rfl) ?_
  intro p0 e0 s0 mid bl0 me0 co0 ls S hr hlk G hl
  have hx := S.1; have hb := S.2.1; have hml := S.2.2.1; have hown := S.2.2.2.1; have hts := S.2.2.2.2; have hN := hC.n
  have hl : lv_has ls 2 [(0, .ref (jA j (xr m 0))), (1, .int t)] := hl
  obtain ⟨k0, f0⟩ := hi_0 hI.1 (by rw [hk]; decide) (by rw [hk]; decide)
  obtain ⟨k1, f1⟩ := hi_1 hI.1 (by rw [hk]; decide) (by rw [hk]; decide) (by rw [hk]; decide)
  refine lv_aload_n hx hb dX12_narrowOut_0 rfl (lv_at hl 0 rfl) ?_
  refine lv_iconst (v := nI 0) hx hb dX12_narrowOut_1 (by decide) ?_
  refine xx_callM (mm := m) (As := [.int (nI 0)]) (rest := []) S G (by omega) hN (hC.k _) (xt_X2_narrowIn l D dA C d j m 0 hC (by omega) (by decide) f0) (xx_cw hts q888 q889 (by rw [hk]; exact q891) q892 q58 q893 rfl hu_Module_narrowIn ⟨Nat.le_of_ble_eq_true rfl, Nat.le_of_ble_eq_true rfl⟩) rfl hl.1 rfl (Nat.le_of_ble_eq_true rfl) dX12_narrowOut_2 ⟨Nat.zero_le _, Nat.zero_le _⟩ (fun H locs G => ?_)
  refine W.eq (g2 := F0 mid 5 ls [.float (inF C (dAF d 20) m 0)]) rfl ?_
  refine lv_aload_n hx hb dX12_narrowOut_5 rfl (lv_at hl 0 rfl) ?_
  refine lv_iconst (v := nI 1) hx hb dX12_narrowOut_6 (by decide) ?_
  refine xx_callM (mm := m) (As := [.int (nI 1)]) (rest := [.float (inF C (dAF d 20) m 0)]) S G (by omega) hN (hC.k _) (xt_X2_narrowIn l D dA C d j m 1 hC (by omega) (by decide) f1) (xx_cw hts q888 q889 (by rw [hk]; exact q891) q892 q58 q893 rfl hu_Module_narrowIn ⟨Nat.le_of_ble_eq_true rfl, Nat.le_of_ble_eq_true rfl⟩) rfl hl.1 rfl (Nat.le_of_ble_eq_true rfl) dX12_narrowOut_7 ⟨Nat.zero_le _, Nat.zero_le _⟩ (fun H locs G => ?_)
  refine W.eq (g2 := F0 mid 10 ls [.float (inF C (dAF d 20) m 1), .float (inF C (dAF d 20) m 0)]) rfl ?_
  refine fy_jlle (tgt := 18) hx hb dX12_narrowOut_10 dX12_narrowOut_11 (by decide) (fun c_11 => ?_) (fun c_11 => ?_)
  · refine lv_ldcf hx hb hown (hts _ q894) dX12_narrowOut_18 ?_
    exact xx_fret S hr hlk G (by simp [xoF, mkF, mkLF, hk, a0F_in f0, a0F_in f1, c_11]) (xL_e rfl (by simp [xoF, mkF, mkLF, hk, a0F_in f0, a0F_in f1, c_11]) rfl) dX12_narrowOut_20
  · refine lv_fconst1 hx hb dX12_narrowOut_14 ?_
    refine lv_goto (tgt := 20) hx hb dX12_narrowOut_15 (by decide) ?_
    exact xx_fret S hr hlk G (by simp [xoF, mkF, mkLF, hk, a0F_in f0, a0F_in f1, c_11]) (xL_e rfl (by simp [xoF, mkF, mkLF, hk, a0F_in f0, a0F_in f1, c_11]) rfl) dX12_narrowOut_20
theorem xt_X13_narrowOut (l : Launch) (D : va_G) (dA : Nat → ClassId) (C : tp_C) (d : md_T) (j : xj_T) (m : Nat) (t : Int32) (hC : mOK C) (hm : m < cN C) (hk : cK C m = 9) (hV : vOK C) (hR : rOK d) (hI : okM C m) (ht : dI d 44 = t) : xC l D dA yX13_narrowOut cX13_narrowOut 2 (some .float) 1 [.ref (jA j (xr m 0)), .int t] C d j (some (.float (xoF C d m))) C (mkLF C d m) j := by
  refine xx_start (own := RX13) (by decide) rfl (Nat.le_of_ble_eq_true rfl) ?_
  intro p0 e0 s0 mid bl0 me0 co0 ls S hr hlk G hl
  have hx := S.1; have hb := S.2.1; have hml := S.2.2.1; have hown := S.2.2.2.1; have hts := S.2.2.2.2; have hN := hC.n
  have hl : lv_has ls 2 [(0, .ref (jA j (xr m 0))), (1, .int t)] := hl
  obtain ⟨k0, f0⟩ := hi_0 hI.1 (by rw [hk]; decide) (by rw [hk]; decide)
  obtain ⟨k1, f1⟩ := hi_1 hI.1 (by rw [hk]; decide) (by rw [hk]; decide) (by rw [hk]; decide)
  obtain ⟨k2, f2⟩ := hi_2 hI.1 (by rw [hk]; decide)
  refine lv_aload_n hx hb dX13_narrowOut_0 rfl (lv_at hl 0 rfl) ?_
  refine lv_iconst (v := nI 2) hx hb dX13_narrowOut_1 (by decide) ?_
  refine xx_callM (mm := m) (As := [.int (nI 2)]) (rest := []) S G (by omega) hN (hC.k _) (xt_X2_narrowIn l D dA C d j m 2 hC (by omega) (by decide) f2) (xx_cw hts q929 q930 (by rw [hk]; exact q931) q892 q58 q893 rfl hu_Module_narrowIn ⟨Nat.le_of_ble_eq_true rfl, Nat.le_of_ble_eq_true rfl⟩) rfl hl.1 rfl (Nat.le_of_ble_eq_true rfl) dX13_narrowOut_2 ⟨Nat.zero_le _, Nat.zero_le _⟩ (fun H locs G => ?_)
  refine W.eq (g2 := F0 mid 5 ls [.float (inF C (dAF d 20) m 2)]) rfl ?_
  refine lv_fconst0 hx hb dX13_narrowOut_5 ?_
  refine fy_jlle (tgt := 18) hx hb dX13_narrowOut_6 dX13_narrowOut_7 (by decide) (fun c_7 => ?_) (fun c_7 => ?_)
  · refine lv_aload_n hx hb dX13_narrowOut_18 rfl (lv_at hl 0 rfl) ?_
    refine lv_iconst (v := nI 1) hx hb dX13_narrowOut_19 (by decide) ?_
    refine xx_callM (mm := m) (As := [.int (nI 1)]) (rest := []) S G (by omega) hN (hC.k _) (xt_X2_narrowIn l D dA C d j m 1 hC (by omega) (by decide) f1) (xx_cw hts q929 q930 (by rw [hk]; exact q931) q892 q58 q893 rfl hu_Module_narrowIn ⟨Nat.le_of_ble_eq_true rfl, Nat.le_of_ble_eq_true rfl⟩) rfl hl.1 rfl (Nat.le_of_ble_eq_true rfl) dX13_narrowOut_20 ⟨Nat.zero_le _, Nat.zero_le _⟩ (fun H locs G => ?_)
    refine W.eq (g2 := F0 mid 23 ls [.float (inF C (dAF d 20) m 1)]) rfl ?_
    exact xx_fret S hr hlk G (by simp [xoF, mkF, mkLF, hk, a0F_in f0, a0F_in f1, a0F_in f2, c_7]) (xL_e rfl (by simp [xoF, mkF, mkLF, hk, a0F_in f0, a0F_in f1, a0F_in f2, c_7]) rfl) dX13_narrowOut_23
  · refine lv_aload_n hx hb dX13_narrowOut_10 rfl (lv_at hl 0 rfl) ?_
    refine lv_iconst (v := nI 0) hx hb dX13_narrowOut_11 (by decide) ?_
    refine xx_callM (mm := m) (As := [.int (nI 0)]) (rest := []) S G (by omega) hN (hC.k _) (xt_X2_narrowIn l D dA C d j m 0 hC (by omega) (by decide) f0) (xx_cw hts q929 q930 (by rw [hk]; exact q931) q892 q58 q893 rfl hu_Module_narrowIn ⟨Nat.le_of_ble_eq_true rfl, Nat.le_of_ble_eq_true rfl⟩) rfl hl.1 rfl (Nat.le_of_ble_eq_true rfl) dX13_narrowOut_12 ⟨Nat.zero_le _, Nat.zero_le _⟩ (fun H locs G => ?_)
    refine W.eq (g2 := F0 mid 15 ls [.float (inF C (dAF d 20) m 0)]) rfl ?_
    refine lv_goto (tgt := 23) hx hb dX13_narrowOut_15 (by decide) ?_
    exact xx_fret S hr hlk G (by simp [xoF, mkF, mkLF, hk, a0F_in f0, a0F_in f1, a0F_in f2, c_7]) (xL_e rfl (by simp [xoF, mkF, mkLF, hk, a0F_in f0, a0F_in f1, a0F_in f2, c_7]) rfl) dX13_narrowOut_23
theorem xt_X14_narrowOut (l : Launch) (D : va_G) (dA : Nat → ClassId) (C : tp_C) (d : md_T) (j : xj_T) (m : Nat) (t : Int32) (hC : mOK C) (hm : m < cN C) (hk : cK C m = 10) (hV : vOK C) (hR : rOK d) (hI : okM C m) (ht : dI d 44 = t) : xC l D dA yX14_narrowOut cX14_narrowOut 2 (some .float) 1 [.ref (jA j (xr m 0)), .int t] C d j (some (.float (xoF C d m))) C (mkLF C d m) j := by
  refine xx_start (own := RX14) (by decide) rfl (Nat.le_of_ble_eq_true rfl) ?_
  intro p0 e0 s0 mid bl0 me0 co0 ls S hr hlk G hl
  have hx := S.1; have hb := S.2.1; have hml := S.2.2.1; have hown := S.2.2.2.1; have hts := S.2.2.2.2; have hN := hC.n
  have hl : lv_has ls 2 [(0, .ref (jA j (xr m 0))), (1, .int t)] := hl
  obtain ⟨k0, f0⟩ := hi_0 hI.1 (by rw [hk]; decide) (by rw [hk]; decide)
  refine lv_aload_n hx hb dX14_narrowOut_0 rfl (lv_at hl 0 rfl) ?_
  refine lv_iconst (v := nI 0) hx hb dX14_narrowOut_1 (by decide) ?_
  refine xx_callM (mm := m) (As := [.int (nI 0)]) (rest := []) S G (by omega) hN (hC.k _) (xt_X2_narrowIn l D dA C d j m 0 hC (by omega) (by decide) f0) (xx_cw hts q909 q910 (by rw [hk]; exact q911) q892 q58 q893 rfl hu_Module_narrowIn ⟨Nat.le_of_ble_eq_true rfl, Nat.le_of_ble_eq_true rfl⟩) rfl hl.1 rfl (Nat.le_of_ble_eq_true rfl) dX14_narrowOut_2 ⟨Nat.zero_le _, Nat.zero_le _⟩ (fun H locs G => ?_)
  refine W.eq (g2 := F0 mid 5 ls [.float (inF C (dAF d 20) m 0)]) rfl ?_
  refine lv_aload_n hx hb dX14_narrowOut_5 rfl (lv_at hl 0 rfl) ?_
  refine xx_getM S G (mm := m) (ref := "TwinPanel$Part") (by omega) hN (hC.k _) 1 (by rw [hk]; decide) (by rw [hk]; exact hts _ q207) (by rw [hk]; exact fun x h => u_same (hts _ q208) x h) (v := .double (cS C m)) rfl dX14_narrowOut_6 ?_
  refine lv_d2f hx hb dX14_narrowOut_9 (nF_d2f (bD_n (hV.s m))) ?_
  refine lv_fmul hx hb dX14_narrowOut_10 (nF_mul (in_bF hR.rf) (bF_d2f (hV.s m))) ?_
  exact xx_fret S hr hlk G (by simp [xoF, mkF, mkLF, hk, sF, a0F_in f0]) (xL_e rfl (by simp [xoF, mkF, mkLF, hk, sF, a0F_in f0]) rfl) dX14_narrowOut_11
theorem xt_X16_narrowOut (l : Launch) (D : va_G) (dA : Nat → ClassId) (C : tp_C) (d : md_T) (j : xj_T) (m : Nat) (t : Int32) (hC : mOK C) (hm : m < cN C) (hk : cK C m = 12) (hV : vOK C) (hR : rOK d) (hI : okM C m) (ht : dI d 44 = t) : xC l D dA yX16_narrowOut cX16_narrowOut 4 (some .float) 1 [.ref (jA j (xr m 0)), .int t] C d j (some (.float (xoF C d m))) C (mkLF C d m) j := by
  refine xx_start (own := RX16) (by decide) rfl (Nat.le_of_ble_eq_true rfl) ?_
  intro p0 e0 s0 mid bl0 me0 co0 ls S hr hlk G hl
  have hx := S.1; have hb := S.2.1; have hml := S.2.2.1; have hown := S.2.2.2.1; have hts := S.2.2.2.2; have hN := hC.n
  have hl : lv_has ls 4 [(0, .ref (jA j (xr m 0))), (1, .int t)] := hl
  obtain ⟨k0, f0⟩ := hi_0 hI.1 (by rw [hk]; decide) (by rw [hk]; decide)
  refine lv_aload_n hx hb dX16_narrowOut_0 rfl (lv_at hl 0 rfl) ?_
  refine lv_iconst (v := nI 0) hx hb dX16_narrowOut_1 (by decide) ?_
  refine xx_callM (mm := m) (As := [.int (nI 0)]) (rest := []) S G (by omega) hN (hC.k _) (xt_X2_narrowIn l D dA C d j m 0 hC (by omega) (by decide) f0) (xx_cw hts q902 q903 (by rw [hk]; exact q904) q892 q58 q893 rfl hu_Module_narrowIn ⟨Nat.le_of_ble_eq_true rfl, Nat.le_of_ble_eq_true rfl⟩) rfl hl.1 rfl (Nat.le_of_ble_eq_true rfl) dX16_narrowOut_2 ⟨Nat.zero_le _, Nat.zero_le _⟩ (fun H locs G => ?_)
  refine W.eq (g2 := F0 mid 5 ls [.float (inF C (dAF d 20) m 0)]) rfl ?_
  refine lv_fstore_n (lv' := [(2, .float (inF C (dAF d 20) m 0)), (0, .ref (jA j (xr m 0))), (1, .int t)]) hx hb dX16_narrowOut_5 rfl hl (by decide) rfl (fun ls hl => ?_)
  refine lv_aload_n hx hb dX16_narrowOut_6 rfl (lv_at hl 1 rfl) ?_
  refine xx_getM S G (mm := m) (ref := "TwinPanel$Limit") (by omega) hN (hC.k _) 1 (by rw [hk]; decide) (by rw [hk]; exact hts _ q209) (by rw [hk]; exact fun x h => u_same (hts _ q210) x h) (v := .double (cS C m)) rfl dX16_narrowOut_7 ?_
  refine lv_d2f hx hb dX16_narrowOut_10 (nF_d2f (bD_n (hV.s m))) ?_
  refine lv_fstore_n (lv' := [(3, .float (FP.d2f (cS C m))), (2, .float (inF C (dAF d 20) m 0)), (0, .ref (jA j (xr m 0))), (1, .int t)]) hx hb dX16_narrowOut_11 rfl hl (by decide) rfl (fun ls hl => ?_)
  refine lv_fload_n hx hb dX16_narrowOut_12 rfl (lv_at hl 1 rfl) ?_
  refine lv_fload_n hx hb dX16_narrowOut_13 rfl (lv_at hl 0 rfl) ?_
  refine fy_jlle (tgt := 22) hx hb dX16_narrowOut_14 dX16_narrowOut_15 (by decide) (fun c_15 => ?_) (fun c_15 => ?_)
  · refine lv_fload_n hx hb dX16_narrowOut_22 rfl (lv_at hl 1 rfl) ?_
    refine lv_fload_n hx hb dX16_narrowOut_23 rfl (lv_at hl 0 rfl) ?_
    refine lv_fneg hx hb dX16_narrowOut_24 ?_
    refine fy_jgge (tgt := 34) hx hb dX16_narrowOut_25 dX16_narrowOut_26 (by decide) (fun c_26 => ?_) (fun c_26 => ?_)
    · refine lv_fload_n hx hb dX16_narrowOut_34 rfl (lv_at hl 1 rfl) ?_
      exact xx_fret S hr hlk G (by simp [xoF, mkF, mkLF, hk, sF, a0F_in f0, c_15, c_26]) (xL_e rfl (by simp [xoF, mkF, mkLF, hk, sF, a0F_in f0, c_15, c_26]) rfl) dX16_narrowOut_35
    · refine lv_fload_n hx hb dX16_narrowOut_29 rfl (lv_at hl 0 rfl) ?_
      refine lv_fneg hx hb dX16_narrowOut_30 ?_
      refine lv_goto (tgt := 35) hx hb dX16_narrowOut_31 (by decide) ?_
      exact xx_fret S hr hlk G (by simp [xoF, mkF, mkLF, hk, sF, a0F_in f0, c_15, c_26]) (xL_e rfl (by simp [xoF, mkF, mkLF, hk, sF, a0F_in f0, c_15, c_26]) rfl) dX16_narrowOut_35
  · refine lv_fload_n hx hb dX16_narrowOut_18 rfl (lv_at hl 0 rfl) ?_
    refine lv_goto (tgt := 35) hx hb dX16_narrowOut_19 (by decide) ?_
    exact xx_fret S hr hlk G (by simp [xoF, mkF, mkLF, hk, sF, a0F_in f0, c_15]) (xL_e rfl (by simp [xoF, mkF, mkLF, hk, sF, a0F_in f0, c_15]) rfl) dX16_narrowOut_35
