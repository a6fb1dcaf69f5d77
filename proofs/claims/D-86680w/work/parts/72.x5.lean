set_option maxRecDepth 100000
set_option maxHeartbeats 4000000
theorem dX6_open_0 : decode cX6_open 0 = .ok (.aload_n 0, 1) := by decide +kernel
theorem dX6_open_1 : decode cX6_open 1 = .ok (.aload_n 0, 1) := by decide +kernel
theorem dX6_open_2 : decode cX6_open 2 = .ok (.getfield 17, 3) := by decide +kernel
theorem dX6_open_5 : decode cX6_open 5 = .ok (.putfield 21, 3) := by decide +kernel
theorem dX6_open_8 : decode cX6_open 8 = .ok (.aload_n 0, 1) := by decide +kernel
theorem dX6_open_9 : decode cX6_open 9 = .ok (.aload_n 0, 1) := by decide +kernel
theorem dX6_open_10 : decode cX6_open 10 = .ok (.getfield 24, 3) := by decide +kernel
theorem dX6_open_13 : decode cX6_open 13 = .ok (.putfield 28, 3) := by decide +kernel
theorem dX6_open_16 : decode cX6_open 16 = .ok (.return_, 1) := by decide +kernel
theorem dX6_rate_0 : decode cX6_rate 0 = .ok (.aload_n 0, 1) := by decide +kernel
theorem dX6_rate_1 : decode cX6_rate 1 = .ok (.getfield 7, 3) := by decide +kernel
theorem dX6_rate_4 : decode cX6_rate 4 = .ok (.iload_n 1, 1) := by decide +kernel
theorem dX6_rate_5 : decode cX6_rate 5 = .ok (.aload_n 0, 1) := by decide +kernel
theorem dX6_rate_6 : decode cX6_rate 6 = .ok (.invokevirtual 31, 3) := by decide +kernel
theorem dX6_rate_9 : decode cX6_rate 9 = .ok (.dastore, 1) := by decide +kernel
theorem dX6_rate_10 : decode cX6_rate 10 = .ok (.aload_n 0, 1) := by decide +kernel
theorem dX6_rate_11 : decode cX6_rate 11 = .ok (.getfield 13, 3) := by decide +kernel
theorem dX6_rate_14 : decode cX6_rate 14 = .ok (.iload_n 1, 1) := by decide +kernel
theorem dX6_rate_15 : decode cX6_rate 15 = .ok (.aload_n 0, 1) := by decide +kernel
theorem dX6_rate_16 : decode cX6_rate 16 = .ok (.invokevirtual 35, 3) := by decide +kernel
theorem dX6_rate_19 : decode cX6_rate 19 = .ok (.fastore, 1) := by decide +kernel
theorem dX6_rate_20 : decode cX6_rate 20 = .ok (.return_, 1) := by decide +kernel
theorem dX6_go_0 : decode cX6_go 0 = .ok (.aload_n 0, 1) := by decide +kernel
theorem dX6_go_1 : decode cX6_go 1 = .ok (.aload_n 0, 1) := by decide +kernel
theorem dX6_go_2 : decode cX6_go 2 = .ok (.aload_n 0, 1) := by decide +kernel
theorem dX6_go_3 : decode cX6_go 3 = .ok (.getfield 21, 3) := by decide +kernel
theorem dX6_go_6 : decode cX6_go 6 = .ok (.dload_n 2, 1) := by decide +kernel
theorem dX6_go_7 : decode cX6_go 7 = .ok (.aload_n 0, 1) := by decide +kernel
theorem dX6_go_8 : decode cX6_go 8 = .ok (.getfield 7, 3) := by decide +kernel
theorem dX6_go_11 : decode cX6_go 11 = .ok (.iload_n 1, 1) := by decide +kernel
theorem dX6_go_12 : decode cX6_go 12 = .ok (.daload, 1) := by decide +kernel
theorem dX6_go_13 : decode cX6_go 13 = .ok (.dmul, 1) := by decide +kernel
theorem dX6_go_14 : decode cX6_go 14 = .ok (.dadd, 1) := by decide +kernel
theorem dX6_go_15 : decode cX6_go 15 = .ok (.iload 4, 2) := by decide +kernel
theorem dX6_go_17 : decode cX6_go 17 = .ok (.invokevirtual 39, 3) := by decide +kernel
theorem dX6_go_20 : decode cX6_go 20 = .ok (.putfield 17, 3) := by decide +kernel
theorem dX6_go_23 : decode cX6_go 23 = .ok (.aload_n 0, 1) := by decide +kernel
theorem dX6_go_24 : decode cX6_go 24 = .ok (.aload_n 0, 1) := by decide +kernel
theorem dX6_go_25 : decode cX6_go 25 = .ok (.aload_n 0, 1) := by decide +kernel
theorem dX6_go_26 : decode cX6_go 26 = .ok (.getfield 28, 3) := by decide +kernel
theorem dX6_go_29 : decode cX6_go 29 = .ok (.dload_n 2, 1) := by decide +kernel
theorem dX6_go_30 : decode cX6_go 30 = .ok (.d2f, 1) := by decide +kernel
theorem dX6_go_31 : decode cX6_go 31 = .ok (.aload_n 0, 1) := by decide +kernel
theorem dX6_go_32 : decode cX6_go 32 = .ok (.getfield 13, 3) := by decide +kernel
theorem dX6_go_35 : decode cX6_go 35 = .ok (.iload_n 1, 1) := by decide +kernel
theorem dX6_go_36 : decode cX6_go 36 = .ok (.faload, 1) := by decide +kernel
theorem dX6_go_37 : decode cX6_go 37 = .ok (.fmul, 1) := by decide +kernel
theorem dX6_go_38 : decode cX6_go 38 = .ok (.fadd, 1) := by decide +kernel
theorem dX6_go_39 : decode cX6_go 39 = .ok (.iload 4, 2) := by decide +kernel
theorem dX6_go_41 : decode cX6_go 41 = .ok (.invokevirtual 43, 3) := by decide +kernel
theorem dX6_go_44 : decode cX6_go 44 = .ok (.putfield 24, 3) := by decide +kernel
theorem dX6_go_47 : decode cX6_go 47 = .ok (.return_, 1) := by decide +kernel
theorem dX6_goTwo_0 : decode cX6_goTwo 0 = .ok (.aload_n 0, 1) := by decide +kernel
theorem dX6_goTwo_1 : decode cX6_goTwo 1 = .ok (.aload_n 0, 1) := by decide +kernel
theorem dX6_goTwo_2 : decode cX6_goTwo 2 = .ok (.aload_n 0, 1) := by decide +kernel
theorem dX6_goTwo_3 : decode cX6_goTwo 3 = .ok (.getfield 21, 3) := by decide +kernel
theorem dX6_goTwo_6 : decode cX6_goTwo 6 = .ok (.dload_n 1, 1) := by decide +kernel
theorem dX6_goTwo_7 : decode cX6_goTwo 7 = .ok (.ldc2_w 47, 3) := by decide +kernel
theorem dX6_goTwo_10 : decode cX6_goTwo 10 = .ok (.ddiv, 1) := by decide +kernel
theorem dX6_goTwo_11 : decode cX6_goTwo 11 = .ok (.aload_n 0, 1) := by decide +kernel
theorem dX6_goTwo_12 : decode cX6_goTwo 12 = .ok (.getfield 7, 3) := by decide +kernel
theorem dX6_goTwo_15 : decode cX6_goTwo 15 = .ok (.iconst 0, 1) := by decide +kernel
theorem dX6_goTwo_16 : decode cX6_goTwo 16 = .ok (.daload, 1) := by decide +kernel
theorem dX6_goTwo_17 : decode cX6_goTwo 17 = .ok (.aload_n 0, 1) := by decide +kernel
theorem dX6_goTwo_18 : decode cX6_goTwo 18 = .ok (.getfield 7, 3) := by decide +kernel
theorem dX6_goTwo_21 : decode cX6_goTwo 21 = .ok (.iconst 1, 1) := by decide +kernel
theorem dX6_goTwo_22 : decode cX6_goTwo 22 = .ok (.daload, 1) := by decide +kernel
theorem dX6_goTwo_23 : decode cX6_goTwo 23 = .ok (.dadd, 1) := by decide +kernel
theorem dX6_goTwo_24 : decode cX6_goTwo 24 = .ok (.dmul, 1) := by decide +kernel
theorem dX6_goTwo_25 : decode cX6_goTwo 25 = .ok (.dadd, 1) := by decide +kernel
theorem dX6_goTwo_26 : decode cX6_goTwo 26 = .ok (.iload_n 3, 1) := by decide +kernel
theorem dX6_goTwo_27 : decode cX6_goTwo 27 = .ok (.invokevirtual 39, 3) := by decide +kernel
theorem dX6_goTwo_30 : decode cX6_goTwo 30 = .ok (.putfield 17, 3) := by decide +kernel
theorem dX6_goTwo_33 : decode cX6_goTwo 33 = .ok (.aload_n 0, 1) := by decide +kernel
theorem dX6_goTwo_34 : decode cX6_goTwo 34 = .ok (.aload_n 0, 1) := by decide +kernel
theorem dX6_goTwo_35 : decode cX6_goTwo 35 = .ok (.aload_n 0, 1) := by decide +kernel
theorem dX6_goTwo_36 : decode cX6_goTwo 36 = .ok (.getfield 28, 3) := by decide +kernel
theorem dX6_goTwo_39 : decode cX6_goTwo 39 = .ok (.dload_n 1, 1) := by decide +kernel
theorem dX6_goTwo_40 : decode cX6_goTwo 40 = .ok (.d2f, 1) := by decide +kernel
theorem dX6_goTwo_41 : decode cX6_goTwo 41 = .ok (.fconst 2, 1) := by decide +kernel
theorem dX6_goTwo_42 : decode cX6_goTwo 42 = .ok (.fdiv, 1) := by decide +kernel
theorem dX6_goTwo_43 : decode cX6_goTwo 43 = .ok (.aload_n 0, 1) := by decide +kernel
theorem dX6_goTwo_44 : decode cX6_goTwo 44 = .ok (.getfield 13, 3) := by decide +kernel
theorem dX6_goTwo_47 : decode cX6_goTwo 47 = .ok (.iconst 0, 1) := by decide +kernel
theorem dX6_goTwo_48 : decode cX6_goTwo 48 = .ok (.faload, 1) := by decide +kernel
theorem dX6_goTwo_49 : decode cX6_goTwo 49 = .ok (.aload_n 0, 1) := by decide +kernel
theorem dX6_goTwo_50 : decode cX6_goTwo 50 = .ok (.getfield 13, 3) := by decide +kernel
theorem dX6_goTwo_53 : decode cX6_goTwo 53 = .ok (.iconst 1, 1) := by decide +kernel
theorem dX6_goTwo_54 : decode cX6_goTwo 54 = .ok (.faload, 1) := by decide +kernel
theorem dX6_goTwo_55 : decode cX6_goTwo 55 = .ok (.fadd, 1) := by decide +kernel
theorem dX6_goTwo_56 : decode cX6_goTwo 56 = .ok (.fmul, 1) := by decide +kernel
theorem dX6_goTwo_57 : decode cX6_goTwo 57 = .ok (.fadd, 1) := by decide +kernel
theorem dX6_goTwo_58 : decode cX6_goTwo 58 = .ok (.iload_n 3, 1) := by decide +kernel
theorem dX6_goTwo_59 : decode cX6_goTwo 59 = .ok (.invokevirtual 43, 3) := by decide +kernel
theorem dX6_goTwo_62 : decode cX6_goTwo 62 = .ok (.putfield 24, 3) := by decide +kernel
theorem dX6_goTwo_65 : decode cX6_goTwo 65 = .ok (.return_, 1) := by decide +kernel
theorem dX6_goFour_0 : decode cX6_goFour 0 = .ok (.aload_n 0, 1) := by decide +kernel
theorem dX6_goFour_1 : decode cX6_goFour 1 = .ok (.getfield 7, 3) := by decide +kernel
theorem dX6_goFour_4 : decode cX6_goFour 4 = .ok (.iconst 0, 1) := by decide +kernel
theorem dX6_goFour_5 : decode cX6_goFour 5 = .ok (.daload, 1) := by decide +kernel
theorem dX6_goFour_6 : decode cX6_goFour 6 = .ok (.ldc2_w 47, 3) := by decide +kernel
theorem dX6_goFour_9 : decode cX6_goFour 9 = .ok (.aload_n 0, 1) := by decide +kernel
theorem dX6_goFour_10 : decode cX6_goFour 10 = .ok (.getfield 7, 3) := by decide +kernel
theorem dX6_goFour_13 : decode cX6_goFour 13 = .ok (.iconst 1, 1) := by decide +kernel
theorem dX6_goFour_14 : decode cX6_goFour 14 = .ok (.daload, 1) := by decide +kernel
theorem dX6_goFour_15 : decode cX6_goFour 15 = .ok (.dmul, 1) := by decide +kernel
theorem dX6_goFour_16 : decode cX6_goFour 16 = .ok (.dadd, 1) := by decide +kernel
theorem dX6_goFour_17 : decode cX6_goFour 17 = .ok (.dstore 4, 2) := by decide +kernel
theorem dX6_goFour_19 : decode cX6_goFour 19 = .ok (.dload 4, 2) := by decide +kernel
theorem dX6_goFour_21 : decode cX6_goFour 21 = .ok (.ldc2_w 47, 3) := by decide +kernel
theorem dX6_goFour_24 : decode cX6_goFour 24 = .ok (.aload_n 0, 1) := by decide +kernel
theorem dX6_goFour_25 : decode cX6_goFour 25 = .ok (.getfield 7, 3) := by decide +kernel
theorem dX6_goFour_28 : decode cX6_goFour 28 = .ok (.iconst 2, 1) := by decide +kernel
theorem dX6_goFour_29 : decode cX6_goFour 29 = .ok (.daload, 1) := by decide +kernel
theorem dX6_goFour_30 : decode cX6_goFour 30 = .ok (.dmul, 1) := by decide +kernel
theorem dX6_goFour_31 : decode cX6_goFour 31 = .ok (.dadd, 1) := by decide +kernel
theorem dX6_goFour_32 : decode cX6_goFour 32 = .ok (.dstore 4, 2) := by decide +kernel
theorem dX6_goFour_34 : decode cX6_goFour 34 = .ok (.dload 4, 2) := by decide +kernel
theorem dX6_goFour_36 : decode cX6_goFour 36 = .ok (.aload_n 0, 1) := by decide +kernel
theorem dX6_goFour_37 : decode cX6_goFour 37 = .ok (.getfield 7, 3) := by decide +kernel
theorem dX6_goFour_40 : decode cX6_goFour 40 = .ok (.iconst 3, 1) := by decide +kernel
theorem dX6_goFour_41 : decode cX6_goFour 41 = .ok (.daload, 1) := by decide +kernel
theorem dX6_goFour_42 : decode cX6_goFour 42 = .ok (.dadd, 1) := by decide +kernel
theorem dX6_goFour_43 : decode cX6_goFour 43 = .ok (.dstore 4, 2) := by decide +kernel
theorem dX6_goFour_45 : decode cX6_goFour 45 = .ok (.aload_n 0, 1) := by decide +kernel
theorem dX6_goFour_46 : decode cX6_goFour 46 = .ok (.aload_n 0, 1) := by decide +kernel
theorem dX6_goFour_47 : decode cX6_goFour 47 = .ok (.aload_n 0, 1) := by decide +kernel
theorem dX6_goFour_48 : decode cX6_goFour 48 = .ok (.getfield 21, 3) := by decide +kernel
theorem dX6_goFour_51 : decode cX6_goFour 51 = .ok (.dload_n 1, 1) := by decide +kernel
theorem dX6_goFour_52 : decode cX6_goFour 52 = .ok (.dload 4, 2) := by decide +kernel
theorem dX6_goFour_54 : decode cX6_goFour 54 = .ok (.ldc2_w 49, 3) := by decide +kernel
theorem dX6_goFour_57 : decode cX6_goFour 57 = .ok (.ddiv, 1) := by decide +kernel
theorem dX6_goFour_58 : decode cX6_goFour 58 = .ok (.dmul, 1) := by decide +kernel
theorem dX6_goFour_59 : decode cX6_goFour 59 = .ok (.dadd, 1) := by decide +kernel
theorem dX6_goFour_60 : decode cX6_goFour 60 = .ok (.iload_n 3, 1) := by decide +kernel
theorem dX6_goFour_61 : decode cX6_goFour 61 = .ok (.invokevirtual 39, 3) := by decide +kernel
theorem dX6_goFour_64 : decode cX6_goFour 64 = .ok (.putfield 17, 3) := by decide +kernel
theorem dX6_goFour_67 : decode cX6_goFour 67 = .ok (.aload_n 0, 1) := by decide +kernel
theorem dX6_goFour_68 : decode cX6_goFour 68 = .ok (.getfield 13, 3) := by decide +kernel
theorem dX6_goFour_71 : decode cX6_goFour 71 = .ok (.iconst 0, 1) := by decide +kernel
theorem dX6_goFour_72 : decode cX6_goFour 72 = .ok (.faload, 1) := by decide +kernel
theorem dX6_goFour_73 : decode cX6_goFour 73 = .ok (.fconst 2, 1) := by decide +kernel
theorem dX6_goFour_74 : decode cX6_goFour 74 = .ok (.aload_n 0, 1) := by decide +kernel
theorem dX6_goFour_75 : decode cX6_goFour 75 = .ok (.getfield 13, 3) := by decide +kernel
theorem dX6_goFour_78 : decode cX6_goFour 78 = .ok (.iconst 1, 1) := by decide +kernel
theorem dX6_goFour_79 : decode cX6_goFour 79 = .ok (.faload, 1) := by decide +kernel
theorem dX6_goFour_80 : decode cX6_goFour 80 = .ok (.fmul, 1) := by decide +kernel
theorem dX6_goFour_81 : decode cX6_goFour 81 = .ok (.fadd, 1) := by decide +kernel
theorem dX6_goFour_82 : decode cX6_goFour 82 = .ok (.fstore 6, 2) := by decide +kernel
theorem dX6_goFour_84 : decode cX6_goFour 84 = .ok (.fload 6, 2) := by decide +kernel
theorem dX6_goFour_86 : decode cX6_goFour 86 = .ok (.fconst 2, 1) := by decide +kernel
theorem dX6_goFour_87 : decode cX6_goFour 87 = .ok (.aload_n 0, 1) := by decide +kernel
theorem dX6_goFour_88 : decode cX6_goFour 88 = .ok (.getfield 13, 3) := by decide +kernel
theorem dX6_goFour_91 : decode cX6_goFour 91 = .ok (.iconst 2, 1) := by decide +kernel
theorem dX6_goFour_92 : decode cX6_goFour 92 = .ok (.faload, 1) := by decide +kernel
theorem dX6_goFour_93 : decode cX6_goFour 93 = .ok (.fmul, 1) := by decide +kernel
theorem dX6_goFour_94 : decode cX6_goFour 94 = .ok (.fadd, 1) := by decide +kernel
theorem dX6_goFour_95 : decode cX6_goFour 95 = .ok (.fstore 6, 2) := by decide +kernel
theorem dX6_goFour_97 : decode cX6_goFour 97 = .ok (.fload 6, 2) := by decide +kernel
theorem dX6_goFour_99 : decode cX6_goFour 99 = .ok (.aload_n 0, 1) := by decide +kernel
theorem dX6_goFour_100 : decode cX6_goFour 100 = .ok (.getfield 13, 3) := by decide +kernel
theorem dX6_goFour_103 : decode cX6_goFour 103 = .ok (.iconst 3, 1) := by decide +kernel
theorem dX6_goFour_104 : decode cX6_goFour 104 = .ok (.faload, 1) := by decide +kernel
theorem dX6_goFour_105 : decode cX6_goFour 105 = .ok (.fadd, 1) := by decide +kernel
theorem dX6_goFour_106 : decode cX6_goFour 106 = .ok (.fstore 6, 2) := by decide +kernel
theorem dX6_goFour_108 : decode cX6_goFour 108 = .ok (.aload_n 0, 1) := by decide +kernel
theorem dX6_goFour_109 : decode cX6_goFour 109 = .ok (.aload_n 0, 1) := by decide +kernel
theorem dX6_goFour_110 : decode cX6_goFour 110 = .ok (.aload_n 0, 1) := by decide +kernel
theorem dX6_goFour_111 : decode cX6_goFour 111 = .ok (.getfield 28, 3) := by decide +kernel
theorem dX6_goFour_114 : decode cX6_goFour 114 = .ok (.dload_n 1, 1) := by decide +kernel
theorem dX6_goFour_115 : decode cX6_goFour 115 = .ok (.d2f, 1) := by decide +kernel
theorem dX6_goFour_116 : decode cX6_goFour 116 = .ok (.fload 6, 2) := by decide +kernel
theorem dX6_goFour_118 : decode cX6_goFour 118 = .ok (.ldc 51, 2) := by decide +kernel
theorem dX6_goFour_120 : decode cX6_goFour 120 = .ok (.fdiv, 1) := by decide +kernel
theorem dX6_goFour_121 : decode cX6_goFour 121 = .ok (.fmul, 1) := by decide +kernel
theorem dX6_goFour_122 : decode cX6_goFour 122 = .ok (.fadd, 1) := by decide +kernel
theorem dX6_goFour_123 : decode cX6_goFour 123 = .ok (.iload_n 3, 1) := by decide +kernel
theorem dX6_goFour_124 : decode cX6_goFour 124 = .ok (.invokevirtual 43, 3) := by decide +kernel
theorem dX6_goFour_127 : decode cX6_goFour 127 = .ok (.putfield 24, 3) := by decide +kernel
theorem dX6_goFour_130 : decode cX6_goFour 130 = .ok (.return_, 1) := by decide +kernel
theorem dX7_take_0 : decode cX7_take 0 = .ok (.aload_n 0, 1) := by decide +kernel
theorem dX7_take_1 : decode cX7_take 1 = .ok (.aload_n 0, 1) := by decide +kernel
theorem dX7_take_2 : decode cX7_take 2 = .ok (.iconst 1, 1) := by decide +kernel
theorem dX7_take_3 : decode cX7_take 3 = .ok (.invokevirtual 7, 3) := by decide +kernel
theorem dX7_take_6 : decode cX7_take 6 = .ok (.dconst 0, 1) := by decide +kernel
theorem dX7_take_7 : decode cX7_take 7 = .ok (.dcmp .l, 1) := by decide +kernel
theorem dX7_take_8 : decode cX7_take 8 = .ok (.ifCond .le 11, 3) := by decide +kernel
theorem dX7_take_11 : decode cX7_take 11 = .ok (.aload_n 0, 1) := by decide +kernel
theorem dX7_take_12 : decode cX7_take 12 = .ok (.iconst 0, 1) := by decide +kernel
theorem dX7_take_13 : decode cX7_take 13 = .ok (.invokevirtual 7, 3) := by decide +kernel
theorem dX7_take_16 : decode cX7_take 16 = .ok (.goto 7, 3) := by decide +kernel
theorem dX7_take_19 : decode cX7_take 19 = .ok (.aload_n 0, 1) := by decide +kernel
theorem dX7_take_20 : decode cX7_take 20 = .ok (.getfield 13, 3) := by decide +kernel
theorem dX7_take_23 : decode cX7_take 23 = .ok (.putfield 17, 3) := by decide +kernel
theorem dX7_take_26 : decode cX7_take 26 = .ok (.aload_n 0, 1) := by decide +kernel
theorem dX7_take_27 : decode cX7_take 27 = .ok (.aload_n 0, 1) := by decide +kernel
theorem dX7_take_28 : decode cX7_take 28 = .ok (.iconst 1, 1) := by decide +kernel
theorem dX7_take_29 : decode cX7_take 29 = .ok (.invokevirtual 20, 3) := by decide +kernel
theorem dX7_take_32 : decode cX7_take 32 = .ok (.fconst 0, 1) := by decide +kernel
theorem dX7_take_33 : decode cX7_take 33 = .ok (.fcmp .l, 1) := by decide +kernel
theorem dX7_take_34 : decode cX7_take 34 = .ok (.ifCond .le 11, 3) := by decide +kernel
theorem dX7_take_37 : decode cX7_take 37 = .ok (.aload_n 0, 1) := by decide +kernel
theorem dX7_take_38 : decode cX7_take 38 = .ok (.iconst 0, 1) := by decide +kernel
theorem dX7_take_39 : decode cX7_take 39 = .ok (.invokevirtual 20, 3) := by decide +kernel
theorem dX7_take_42 : decode cX7_take 42 = .ok (.goto 7, 3) := by decide +kernel
theorem dX7_take_45 : decode cX7_take 45 = .ok (.aload_n 0, 1) := by decide +kernel
theorem dX7_take_46 : decode cX7_take 46 = .ok (.getfield 24, 3) := by decide +kernel
theorem dX7_take_49 : decode cX7_take 49 = .ok (.putfield 28, 3) := by decide +kernel
theorem dX7_take_52 : decode cX7_take 52 = .ok (.return_, 1) := by decide +kernel
theorem dX7_become_0 : decode cX7_become 0 = .ok (.aload_n 0, 1) := by decide +kernel
theorem dX7_become_1 : decode cX7_become 1 = .ok (.aload_n 0, 1) := by decide +kernel
theorem dX7_become_2 : decode cX7_become 2 = .ok (.getfield 17, 3) := by decide +kernel
theorem dX7_become_5 : decode cX7_become 5 = .ok (.putfield 13, 3) := by decide +kernel
theorem dX7_become_8 : decode cX7_become 8 = .ok (.aload_n 0, 1) := by decide +kernel
theorem dX7_become_9 : decode cX7_become 9 = .ok (.aload_n 0, 1) := by decide +kernel
theorem dX7_become_10 : decode cX7_become 10 = .ok (.getfield 28, 3) := by decide +kernel
theorem dX7_become_13 : decode cX7_become 13 = .ok (.putfield 24, 3) := by decide +kernel
theorem dX7_become_16 : decode cX7_become 16 = .ok (.return_, 1) := by decide +kernel
theorem dX15_take_0 : decode cX15_take 0 = .ok (.aload_n 0, 1) := by decide +kernel
theorem dX15_take_1 : decode cX15_take 1 = .ok (.aload_n 0, 1) := by decide +kernel
theorem dX15_take_2 : decode cX15_take 2 = .ok (.iconst 0, 1) := by decide +kernel
theorem dX15_take_3 : decode cX15_take 3 = .ok (.invokevirtual 28, 3) := by decide +kernel
theorem dX15_take_6 : decode cX15_take 6 = .ok (.putfield 32, 3) := by decide +kernel
theorem dX15_take_9 : decode cX15_take 9 = .ok (.aload_n 0, 1) := by decide +kernel
theorem dX15_take_10 : decode cX15_take 10 = .ok (.aload_n 0, 1) := by decide +kernel
theorem dX15_take_11 : decode cX15_take 11 = .ok (.iconst 0, 1) := by decide +kernel
theorem dX15_take_12 : decode cX15_take 12 = .ok (.invokevirtual 35, 3) := by decide +kernel
theorem dX15_take_15 : decode cX15_take 15 = .ok (.putfield 39, 3) := by decide +kernel
theorem dX15_take_18 : decode cX15_take 18 = .ok (.return_, 1) := by decide +kernel
theorem dX17_become_0 : decode cX17_become 0 = .ok (.aload_n 0, 1) := by decide +kernel
theorem dX17_become_1 : decode cX17_become 1 = .ok (.ldc 21, 2) := by decide +kernel
theorem dX17_become_3 : decode cX17_become 3 = .ok (.aload_n 0, 1) := by decide +kernel
theorem dX17_become_4 : decode cX17_become 4 = .ok (.getfield 17, 3) := by decide +kernel
theorem dX17_become_7 : decode cX17_become 7 = .ok (.imul, 1) := by decide +kernel
theorem dX17_become_8 : decode cX17_become 8 = .ok (.ldc 22, 2) := by decide +kernel
theorem dX17_become_10 : decode cX17_become 10 = .ok (.iadd, 1) := by decide +kernel
theorem dX17_become_11 : decode cX17_become 11 = .ok (.putfield 17, 3) := by decide +kernel
theorem dX17_become_14 : decode cX17_become 14 = .ok (.aload_n 0, 1) := by decide +kernel
theorem dX17_become_15 : decode cX17_become 15 = .ok (.aload_n 0, 1) := by decide +kernel
theorem dX17_become_16 : decode cX17_become 16 = .ok (.getfield 17, 3) := by decide +kernel
theorem dX17_become_19 : decode cX17_become 19 = .ok (.i2d, 1) := by decide +kernel
theorem dX17_become_20 : decode cX17_become 20 = .ok (.ldc2_w 23, 3) := by decide +kernel
theorem dX17_become_23 : decode cX17_become 23 = .ok (.ddiv, 1) := by decide +kernel
theorem dX17_become_24 : decode cX17_become 24 = .ok (.putfield 25, 3) := by decide +kernel
theorem dX17_become_27 : decode cX17_become 27 = .ok (.aload_n 0, 1) := by decide +kernel
theorem dX17_become_28 : decode cX17_become 28 = .ok (.aload_n 0, 1) := by decide +kernel
theorem dX17_become_29 : decode cX17_become 29 = .ok (.getfield 25, 3) := by decide +kernel
theorem dX17_become_32 : decode cX17_become 32 = .ok (.d2f, 1) := by decide +kernel
theorem dX17_become_33 : decode cX17_become 33 = .ok (.putfield 28, 3) := by decide +kernel
theorem dX17_become_36 : decode cX17_become 36 = .ok (.return_, 1) := by decide +kernel
theorem dX7_needs_0 : decode cX7_needs 0 = .ok (.iconst 2, 1) := by decide +kernel
theorem dX7_needs_1 : decode cX7_needs 1 = .ok (.ireturn, 1) := by decide +kernel
theorem dX8_needs_0 : decode cX8_needs 0 = .ok (.iconst 2, 1) := by decide +kernel
theorem dX8_needs_1 : decode cX8_needs 1 = .ok (.ireturn, 1) := by decide +kernel
theorem dX9_needs_0 : decode cX9_needs 0 = .ok (.iconst 2, 1) := by decide +kernel
theorem dX9_needs_1 : decode cX9_needs 1 = .ok (.ireturn, 1) := by decide +kernel
theorem dX12_needs_0 : decode cX12_needs 0 = .ok (.iconst 2, 1) := by decide +kernel
theorem dX12_needs_1 : decode cX12_needs 1 = .ok (.ireturn, 1) := by decide +kernel
theorem dX13_needs_0 : decode cX13_needs 0 = .ok (.iconst 3, 1) := by decide +kernel
theorem dX13_needs_1 : decode cX13_needs 1 = .ok (.ireturn, 1) := by decide +kernel
theorem dX17_needs_0 : decode cX17_needs 0 = .ok (.iconst 0, 1) := by decide +kernel
theorem dX17_needs_1 : decode cX17_needs 1 = .ok (.ireturn, 1) := by decide +kernel
theorem dX5_remembers_0 : decode cX5_remembers 0 = .ok (.iconst 1, 1) := by decide +kernel
theorem dX5_remembers_1 : decode cX5_remembers 1 = .ok (.ireturn, 1) := by decide +kernel
/-- a state, in both twins, cut and put -/
def xgS (d : md_T) (m : Nat) (V : UInt64) (N : UInt32) : md_T := uAF (mAfterF (uAD (mAfter d m V) 17 m (clD V)) m N) 18 m (clF N)
def jrOK (j : xj_T) (m : Nat) : Prop := bD 1075 (jWf j m) ∧ bF 1075 (jNf j m) ∧ (∀ i, bD 1087 (jWr j m i)) ∧ (∀ i, bF 1087 (jNr j m i))
def w4D (r : Nat → UInt64) : UInt64 := FP.dadd (FP.dadd (FP.dadd (r 0) (FP.dmul 4611686018427387904 (r 1))) (FP.dmul 4611686018427387904 (r 2))) (r 3)
def w4F (r : Nat → UInt32) : UInt32 := FP.fadd (FP.fadd (FP.fadd (r 0) (FP.fmul FP.fconst2 (r 1))) (FP.fmul FP.fconst2 (r 2))) (r 3)
theorem w4_1 {r : Nat → UInt64} (h : ∀ i, bD 1087 (r i)) (i : Nat) : bD 1090 (FP.dmul 4611686018427387904 (r i)) := bD_mul (K := 1076) (L := 1087) b2D (h i)
theorem w4_2 {r : Nat → UInt64} (h : ∀ i, bD 1087 (r i)) : bD 1092 (FP.dadd (r 0) (FP.dmul 4611686018427387904 (r 1))) := bD_add (K := 1090) (bD_up (h 0)) (w4_1 h 1)
theorem w4_4 {r : Nat → UInt64} (h : ∀ i, bD 1087 (r i)) : bD 1094 (FP.dadd (FP.dadd (r 0) (FP.dmul 4611686018427387904 (r 1))) (FP.dmul 4611686018427387904 (r 2))) := bD_add (K := 1092) (w4_2 h) (bD_up (w4_1 h 2))
theorem w4_5 {r : Nat → UInt64} (h : ∀ i, bD 1087 (r i)) : bD 1096 (w4D r) := bD_add (K := 1094) (w4_4 h) (bD_up (h 3))
theorem w4_n {r : Nat → UInt64} (h : ∀ i, bD 1087 (r i)) : vf_n64 (FP.ddiv (w4D r) 4618441417868443648) := nD_div (bD_n (w4_5 h)) ⟨_, _, _, k6D, by decide⟩
theorem w4_1F {r : Nat → UInt32} (h : ∀ i, bF 1087 (r i)) (i : Nat) : bF 1090 (FP.fmul FP.fconst2 (r i)) := bF_mul (K := 1076) (L := 1087) b2F (h i)
theorem w4_2F {r : Nat → UInt32} (h : ∀ i, bF 1087 (r i)) : bF 1092 (FP.fadd (r 0) (FP.fmul FP.fconst2 (r 1))) := bF_add (K := 1090) (bF_up (h 0)) (w4_1F h 1)
theorem w4_4F {r : Nat → UInt32} (h : ∀ i, bF 1087 (r i)) : bF 1094 (FP.fadd (FP.fadd (r 0) (FP.fmul FP.fconst2 (r 1))) (FP.fmul FP.fconst2 (r 2))) := bF_add (K := 1092) (w4_2F h) (bF_up (w4_1F h 2))
theorem w4_5F {r : Nat → UInt32} (h : ∀ i, bF 1087 (r i)) : bF 1096 (w4F r) := bF_add (K := 1094) (w4_4F h) (bF_up (h 3))
theorem w4_nF {r : Nat → UInt32} (h : ∀ i, bF 1087 (r i)) : vf_n32 (FP.fdiv (w4F r) 1086324736) := nF_div (bF_n (w4_5F h)) ⟨_, _, _, k6F, by decide⟩
theorem xt_X6_open (l : Launch) (D : va_G) (dA : Nat → ClassId) (C : tp_C) (d : md_T) (j : xj_T) (m : Nat) (hC : mOK C) (hm : m < cN C) (hk : cK C m = 2) : xC l D dA yX6_open cX6_open 1 none 0 [.ref (jA j (xr m 0))] C d j none C d (sNf (sWf j m (dAD d 17 m)) m (dAF d 18 m)) := by
  refine xx_start (own := RX6) (by decide) rfl (Nat.le_of_ble_eq_true rfl) ?_
  intro p0 e0 s0 mid bl0 me0 co0 ls S hr hlk G hl
  have hx := S.1; have hb := S.2.1; have hml := S.2.2.1; have hown := S.2.2.2.1; have hts := S.2.2.2.2; have hN := hC.n
  have hl : lv_has ls 1 [(0, .ref (jA j (xr m 0)))] := hl
  refine lv_aload_n hx hb dX6_open_0 rfl (lv_at hl 0 rfl) ?_
  refine lv_aload_n hx hb dX6_open_1 rfl (lv_at hl 0 rfl) ?_
  refine xx_getM S G (mm := m) (ref := "TwinPanel$Gather") (by omega) hN (hC.k _) 11 (by rw [hk]; decide) (by rw [hk]; exact hts _ q289) (by rw [hk]; exact fun x h => u_same (hts _ q290) x h) (v := .double (dAD d 17 m)) (xV_2_11 hk) dX6_open_2 ?_
  refine xx_putM S G (mm := m) (ref := "TwinPanel$Gather") (by omega) hN (hC.k _) 13 (by rw [hk]; decide) (by rw [hk]; exact hts _ q284) (by rw [hk]; exact fun x h => h) (by rw [hk]; rfl) (by rw [hk]; rfl) (by rw [hk]; rfl) (xs_Wf2 hk (by omega)) dX6_open_5 (fun H locs G => ?_)
  refine lv_aload_n hx hb dX6_open_8 rfl (lv_at hl 0 rfl) ?_
  refine lv_aload_n hx hb dX6_open_9 rfl (lv_at hl 0 rfl) ?_
  refine xx_getM S G (mm := m) (ref := "TwinPanel$Gather") (by omega) hN (hC.k _) 12 (by rw [hk]; decide) (by rw [hk]; exact hts _ q298) (by rw [hk]; exact fun x h => u_same (hts _ q299) x h) (v := .float (dAF d 18 m)) (xV_2_12 hk) dX6_open_10 ?_
  refine xx_putM S G (mm := m) (ref := "TwinPanel$Gather") (by omega) hN (hC.k _) 14 (by rw [hk]; decide) (by rw [hk]; exact hts _ q285) (by rw [hk]; exact fun x h => h) (by rw [hk]; rfl) (by rw [hk]; rfl) (by rw [hk]; rfl) (xs_Nf2 hk (by omega)) dX6_open_13 (fun H locs G => ?_)
  exact xx_vret S hr hlk G rfl dX6_open_16
theorem xt_X6_rate (l : Launch) (D : va_G) (dA : Nat → ClassId) (C : tp_C) (d : md_T) (j : xj_T) (m : Nat) (i : Nat) (hC : mOK C) (hm : m < cN C) (hk : cK C m = 2) (hi : i < 4) (hR : rOK d) : xC l D dA yX6_rate cX6_rate 2 none 2 [.ref (jA j (xr m 0)), .int (nI i)] C d j none C d (sNr (sWr j m i (suD C (dAD d 19) m)) m i (suF C (dAF d 20) m)) := by
  refine xx_start (own := RX6) (by decide) rfl (Nat.le_of_ble_eq_true rfl) ?_
  intro p0 e0 s0 mid bl0 me0 co0 ls S hr hlk G hl
  have hx := S.1; have hb := S.2.1; have hml := S.2.2.1; have hown := S.2.2.2.1; have hts := S.2.2.2.2; have hN := hC.n
  have hl : lv_has ls 2 [(0, .ref (jA j (xr m 0))), (1, .int (nI i))] := hl
  refine lv_aload_n hx hb dX6_rate_0 rfl (lv_at hl 0 rfl) ?_
  refine xx_getM S G (mm := m) (ref := "TwinPanel$Gather") (by omega) hN (hC.k _) 15 (by rw [hk]; decide) (by rw [hk]; exact hts _ q286) (by rw [hk]; exact fun x h => h) (v := .ref (jA j (xr m 4))) (xV_2_15 hk) dX6_rate_1 ?_
  refine lv_iload_n hx hb dX6_rate_4 rfl (lv_at hl 1 rfl) ?_
  refine lv_aload_n hx hb dX6_rate_5 rfl (lv_at hl 0 rfl) ?_
  refine xx_callM (mm := m) (As := []) (rest := [.int (nI i), .ref (jA j (xr m 4))]) S G (by omega) hN (hC.k _) (xt_X2_wideSum l D dA C d j m hC (by omega) hR.rd) (xx_cw hts q1076 q1077 (by rw [hk]; exact q1078) q845 q58 q846 rfl hu_Module_wideSum ⟨Nat.le_of_ble_eq_true rfl, Nat.le_of_ble_eq_true rfl⟩) rfl hl.1 rfl (Nat.le_of_ble_eq_true rfl) dX6_rate_6 ⟨Nat.zero_le _, Nat.zero_le _⟩ (fun H locs G => ?_)
  refine W.eq (g2 := F0 mid 9 ls [.double (suD C (dAD d 19) m), .int (nI i), .ref (jA j (xr m 4))]) rfl ?_
  refine xx_dast S G (r := xr m 4) (xr_lt (by decide) (Nat.lt_of_lt_of_le (by omega) hN)) (xW_m (by decide) (by omega) (xME_2_4 hk)) 2 rfl (i := i) (by omega) (by decide) (xs_wr hk (by omega)) dX6_rate_9 (fun H locs G => ?_)
  refine lv_aload_n hx hb dX6_rate_10 rfl (lv_at hl 0 rfl) ?_
  refine xx_getM S G (mm := m) (ref := "TwinPanel$Gather") (by omega) hN (hC.k _) 16 (by rw [hk]; decide) (by rw [hk]; exact hts _ q287) (by rw [hk]; exact fun x h => h) (v := .ref (jA j (xr m 5))) (xV_2_16 hk) dX6_rate_11 ?_
  refine lv_iload_n hx hb dX6_rate_14 rfl (lv_at hl 1 rfl) ?_
  refine lv_aload_n hx hb dX6_rate_15 rfl (lv_at hl 0 rfl) ?_
  refine xx_callM (mm := m) (As := []) (rest := [.int (nI i), .ref (jA j (xr m 5))]) S G (by omega) hN (hC.k _) (xt_X2_narrowSum l D dA C d (sWr j m i (suD C (dAD d 19) m)) m hC (by omega) hR.rf) (xx_cw hts q1079 q1080 (by rw [hk]; exact q1081) q945 q58 q946 rfl hu_Module_narrowSum ⟨Nat.le_of_ble_eq_true rfl, Nat.le_of_ble_eq_true rfl⟩) rfl hl.1 rfl (Nat.le_of_ble_eq_true rfl) dX6_rate_16 ⟨Nat.zero_le _, Nat.zero_le _⟩ (fun H locs G => ?_)
  refine W.eq (g2 := F0 mid 19 ls [.float (suF C (dAF d 20) m), .int (nI i), .ref (jA j (xr m 5))]) rfl ?_
  refine xx_fast S G (r := xr m 5) (xr_lt (by decide) (Nat.lt_of_lt_of_le (by omega) hN)) (xW_m (by decide) (by omega) (xME_2_5 hk)) 3 rfl (i := i) (by omega) (by decide) (xs_nr hk (by omega)) dX6_rate_19 (fun H locs G => ?_)
  exact xx_vret S hr hlk G rfl dX6_rate_20
theorem xt_X6_go (l : Launch) (D : va_G) (dA : Nat → ClassId) (C : tp_C) (d : md_T) (j : xj_T) (m : Nat) (i : Nat) (t : UInt64) (q : Int32) (hC : mOK C) (hm : m < cN C) (hk : cK C m = 2) (hi : i < 4) (hj : jrOK j m) (ht : tOK t) (hq : dI d 44 = q) : xC l D dA yX6_go cX6_go 5 none 2 [.ref (jA j (xr m 0)), .int (nI i), .double t, .int q] C d j none C (xgS d m (FP.dadd (jWf j m) (FP.dmul t (jWr j m i))) (FP.fadd (jNf j m) (FP.fmul (FP.d2f t) (jNr j m i)))) j := by
  refine xx_start (own := RX6) (by decide) rfl (Nat.le_of_ble_eq_true rfl) ?_
  intro p0 e0 s0 mid bl0 me0 co0 ls S hr hlk G hl
  have hx := S.1; have hb := S.2.1; have hml := S.2.2.1; have hown := S.2.2.2.1; have hts := S.2.2.2.2; have hN := hC.n
  have hl : lv_has ls 5 [(0, .ref (jA j (xr m 0))), (1, .int (nI i)), (2, .double t), (4, .int q)] := hl
  refine lv_aload_n hx hb dX6_go_0 rfl (lv_at hl 0 rfl) ?_
  refine lv_aload_n hx hb dX6_go_1 rfl (lv_at hl 0 rfl) ?_
  refine lv_aload_n hx hb dX6_go_2 rfl (lv_at hl 0 rfl) ?_
  refine xx_getM S G (mm := m) (ref := "TwinPanel$Gather") (by omega) hN (hC.k _) 13 (by rw [hk]; decide) (by rw [hk]; exact hts _ q284) (by rw [hk]; exact fun x h => h) (v := .double (jWf j m)) (xV_2_13 hk) dX6_go_3 ?_
  refine lv_dload_n hx hb dX6_go_6 rfl (lv_at hl 2 rfl) ?_
  refine lv_aload_n hx hb dX6_go_7 rfl (lv_at hl 0 rfl) ?_
  refine xx_getM S G (mm := m) (ref := "TwinPanel$Gather") (by omega) hN (hC.k _) 15 (by rw [hk]; decide) (by rw [hk]; exact hts _ q286) (by rw [hk]; exact fun x h => h) (v := .ref (jA j (xr m 4))) (xV_2_15 hk) dX6_go_8 ?_
  refine lv_iload_n hx hb dX6_go_11 rfl (lv_at hl 1 rfl) ?_
  refine xx_dald S G (r := xr m 4) (xr_lt (by decide) (Nat.lt_of_lt_of_le (by omega) hN)) (xW_m (by decide) (by omega) (xME_2_4 hk)) 2 rfl (i := i) (by omega) (by decide) (v := jWr j m i) rfl dX6_go_12 ?_
  refine lv_dmul hx hb dX6_go_13 (nD_mulz ht.1 (bD_n (hj.2.2.1 i))) ?_
  refine lv_dadd hx hb dX6_go_14 (nD_add' hj.1 (nD_mulz ht.1 (bD_n (hj.2.2.1 i)))) ?_
  refine lv_iload hx hb dX6_go_15 (lv_at hl 3 rfl) ?_
  refine xx_callM (mm := m) (As := [.double (FP.dadd (jWf j m) (FP.dmul t (jWr j m i))), .int q]) (rest := [.ref (jA j (xr m 0))]) S G (by omega) hN (hC.k _) (xt_X2_afterWide l D dA C d j m (FP.dadd (jWf j m) (FP.dmul t (jWr j m i))) q hC (by omega) hq) (xx_cw hts q1090 q1091 (by rw [hk]; exact q1093) q862 q58 q878 rfl hu_Module_afterWide ⟨Nat.le_of_ble_eq_true rfl, Nat.le_of_ble_eq_true rfl⟩) rfl hl.1 rfl (Nat.le_of_ble_eq_true rfl) dX6_go_17 ⟨Nat.zero_le _, Nat.zero_le _⟩ (fun H locs G => ?_)
  refine W.eq (g2 := F0 mid 20 ls [.double (clD (FP.dadd (jWf j m) (FP.dmul t (jWr j m i)))), .ref (jA j (xr m 0))]) rfl ?_
  refine xx_putM S G (mm := m) (ref := "TwinPanel$Gather") (by omega) hN (hC.k _) 11 (by rw [hk]; decide) (by rw [hk]; exact hts _ q289) (by rw [hk]; exact fun x h => u_same (hts _ q290) x h) (by rw [hk]; rfl) (by rw [hk]; rfl) (by rw [hk]; rfl) (xs_state (by simp [hk]) (by omega)) dX6_go_20 (fun H locs G => ?_)
  refine lv_aload_n hx hb dX6_go_23 rfl (lv_at hl 0 rfl) ?_
  refine lv_aload_n hx hb dX6_go_24 rfl (lv_at hl 0 rfl) ?_
  refine lv_aload_n hx hb dX6_go_25 rfl (lv_at hl 0 rfl) ?_
  refine xx_getM S G (mm := m) (ref := "TwinPanel$Gather") (by omega) hN (hC.k _) 14 (by rw [hk]; decide) (by rw [hk]; exact hts _ q285) (by rw [hk]; exact fun x h => h) (v := .float (jNf j m)) (xV_2_14 hk) dX6_go_26 ?_
  refine lv_dload_n hx hb dX6_go_29 rfl (lv_at hl 2 rfl) ?_
  refine lv_d2f hx hb dX6_go_30 (nF_d2f (bD_n ht.2.2)) ?_
  refine lv_aload_n hx hb dX6_go_31 rfl (lv_at hl 0 rfl) ?_
  refine xx_getM S G (mm := m) (ref := "TwinPanel$Gather") (by omega) hN (hC.k _) 16 (by rw [hk]; decide) (by rw [hk]; exact hts _ q287) (by rw [hk]; exact fun x h => h) (v := .ref (jA j (xr m 5))) (xV_2_16 hk) dX6_go_32 ?_
  refine lv_iload_n hx hb dX6_go_35 rfl (lv_at hl 1 rfl) ?_
  refine xx_fald S G (r := xr m 5) (xr_lt (by decide) (Nat.lt_of_lt_of_le (by omega) hN)) (xW_m (by decide) (by omega) (xME_2_5 hk)) 3 rfl (i := i) (by omega) (by decide) (v := jNr j m i) rfl dX6_go_36 ?_
  refine lv_fmul hx hb dX6_go_37 (nF_mulz ht.2.1 (bF_n (hj.2.2.2 i))) ?_
  refine lv_fadd hx hb dX6_go_38 (nF_add' hj.2.1 (nF_mulz ht.2.1 (bF_n (hj.2.2.2 i)))) ?_
  refine lv_iload hx hb dX6_go_39 (lv_at hl 3 rfl) ?_
  refine xx_callM (mm := m) (As := [.float (FP.fadd (jNf j m) (FP.fmul (FP.d2f t) (jNr j m i))), .int q]) (rest := [.ref (jA j (xr m 0))]) S G (by omega) hN (hC.k _) (xt_X2_afterNarrow l D dA C (uAD (mAfter d m (FP.dadd (jWf j m) (FP.dmul t (jWr j m i)))) 17 m (clD (FP.dadd (jWf j m) (FP.dmul t (jWr j m i))))) j m (FP.fadd (jNf j m) (FP.fmul (FP.d2f t) (jNr j m i))) q hC (by omega) (by show dI (mAfter _ _ _) 44 = _; rw [mAfter_dI]; exact hq)) (xx_cw hts q1094 q1095 (by rw [hk]; exact q1097) q962 q58 q978 rfl hu_Module_afterNarrow ⟨Nat.le_of_ble_eq_true rfl, Nat.le_of_ble_eq_true rfl⟩) rfl hl.1 rfl (Nat.le_of_ble_eq_true rfl) dX6_go_41 ⟨Nat.zero_le _, Nat.zero_le _⟩ (fun H locs G => ?_)
  refine W.eq (g2 := F0 mid 44 ls [.float (clF (FP.fadd (jNf j m) (FP.fmul (FP.d2f t) (jNr j m i)))), .ref (jA j (xr m 0))]) rfl ?_
  refine xx_putM S G (mm := m) (ref := "TwinPanel$Gather") (by omega) hN (hC.k _) 12 (by rw [hk]; decide) (by rw [hk]; exact hts _ q298) (by rw [hk]; exact fun x h => u_same (hts _ q299) x h) (by rw [hk]; rfl) (by rw [hk]; rfl) (by rw [hk]; rfl) (xs_stateF (by simp [hk]) (by omega)) dX6_go_44 (fun H locs G => ?_)
  exact xx_vret S hr hlk G (xL_e rfl (by rfl) rfl) dX6_go_47
theorem xt_X6_goTwo (l : Launch) (D : va_G) (dA : Nat → ClassId) (C : tp_C) (d : md_T) (j : xj_T) (m : Nat) (t : UInt64) (q : Int32) (hC : mOK C) (hm : m < cN C) (hk : cK C m = 2) (hj : jrOK j m) (ht : tOK t) (ht2 : tOK (FP.ddiv t 4611686018427387904)) (hh : FP.fdiv (FP.d2f t) FP.fconst2 = FP.d2f (FP.ddiv t 4611686018427387904)) (hq : dI d 44 = q) : xC l D dA yX6_goTwo cX6_goTwo 4 none 2 [.ref (jA j (xr m 0)), .double t, .int q] C d j none C (xgS d m (FP.dadd (jWf j m) (FP.dmul (FP.ddiv t 4611686018427387904) (FP.dadd (jWr j m 0) (jWr j m 1)))) (FP.fadd (jNf j m) (FP.fmul (FP.fdiv (FP.d2f t) FP.fconst2) (FP.fadd (jNr j m 0) (jNr j m 1))))) j := by
  refine xx_start (own := RX6) (by decide) rfl (Nat.le_of_ble_eq_true rfl) ?_
  intro p0 e0 s0 mid bl0 me0 co0 ls S hr hlk G hl
  have hx := S.1; have hb := S.2.1; have hml := S.2.2.1; have hown := S.2.2.2.1; have hts := S.2.2.2.2; have hN := hC.n
  have hl : lv_has ls 4 [(0, .ref (jA j (xr m 0))), (1, .double t), (3, .int q)] := hl
  refine lv_aload_n hx hb dX6_goTwo_0 rfl (lv_at hl 0 rfl) ?_
  refine lv_aload_n hx hb dX6_goTwo_1 rfl (lv_at hl 0 rfl) ?_
  refine lv_aload_n hx hb dX6_goTwo_2 rfl (lv_at hl 0 rfl) ?_
  refine xx_getM S G (mm := m) (ref := "TwinPanel$Gather") (by omega) hN (hC.k _) 13 (by rw [hk]; decide) (by rw [hk]; exact hts _ q284) (by rw [hk]; exact fun x h => h) (v := .double (jWf j m)) (xV_2_13 hk) dX6_goTwo_3 ?_
  refine lv_dload_n hx hb dX6_goTwo_6 rfl (lv_at hl 1 rfl) ?_
  refine lv_ldc2d hx hb hown (hts _ q1102) dX6_goTwo_7 ?_
  refine lv_ddiv hx hb dX6_goTwo_10 (bD_n ht2.2.2) ?_
  refine lv_aload_n hx hb dX6_goTwo_11 rfl (lv_at hl 0 rfl) ?_
  refine xx_getM S G (mm := m) (ref := "TwinPanel$Gather") (by omega) hN (hC.k _) 15 (by rw [hk]; decide) (by rw [hk]; exact hts _ q286) (by rw [hk]; exact fun x h => h) (v := .ref (jA j (xr m 4))) (xV_2_15 hk) dX6_goTwo_12 ?_
  refine lv_iconst (v := nI 0) hx hb dX6_goTwo_15 (by decide) ?_
  refine xx_dald S G (r := xr m 4) (xr_lt (by decide) (Nat.lt_of_lt_of_le (by omega) hN)) (xW_m (by decide) (by omega) (xME_2_4 hk)) 2 rfl (i := 0) (by omega) (by decide) (v := jWr j m 0) rfl dX6_goTwo_16 ?_
  refine lv_aload_n hx hb dX6_goTwo_17 rfl (lv_at hl 0 rfl) ?_
  refine xx_getM S G (mm := m) (ref := "TwinPanel$Gather") (by omega) hN (hC.k _) 15 (by rw [hk]; decide) (by rw [hk]; exact hts _ q286) (by rw [hk]; exact fun x h => h) (v := .ref (jA j (xr m 4))) (xV_2_15 hk) dX6_goTwo_18 ?_
  refine lv_iconst (v := nI 1) hx hb dX6_goTwo_21 (by decide) ?_
  refine xx_dald S G (r := xr m 4) (xr_lt (by decide) (Nat.lt_of_lt_of_le (by omega) hN)) (xW_m (by decide) (by omega) (xME_2_4 hk)) 2 rfl (i := 1) (by omega) (by decide) (v := jWr j m 1) rfl dX6_goTwo_22 ?_
  refine lv_dadd hx hb dX6_goTwo_23 (bD_n (bD_add (hj.2.2.1 0) (hj.2.2.1 1))) ?_
  refine lv_dmul hx hb dX6_goTwo_24 (nD_mulz ht2.1 (bD_n (bD_add (hj.2.2.1 0) (hj.2.2.1 1)))) ?_
  refine lv_dadd hx hb dX6_goTwo_25 (nD_add' hj.1 (nD_mulz ht2.1 (bD_n (bD_add (hj.2.2.1 0) (hj.2.2.1 1))))) ?_
  refine lv_iload_n hx hb dX6_goTwo_26 rfl (lv_at hl 2 rfl) ?_
  refine xx_callM (mm := m) (As := [.double (FP.dadd (jWf j m) (FP.dmul (FP.ddiv t 4611686018427387904) (FP.dadd (jWr j m 0) (jWr j m 1)))), .int q]) (rest := [.ref (jA j (xr m 0))]) S G (by omega) hN (hC.k _) (xt_X2_afterWide l D dA C d j m (FP.dadd (jWf j m) (FP.dmul (FP.ddiv t 4611686018427387904) (FP.dadd (jWr j m 0) (jWr j m 1)))) q hC (by omega) hq) (xx_cw hts q1090 q1091 (by rw [hk]; exact q1093) q862 q58 q878 rfl hu_Module_afterWide ⟨Nat.le_of_ble_eq_true rfl, Nat.le_of_ble_eq_true rfl⟩) rfl hl.1 rfl (Nat.le_of_ble_eq_true rfl) dX6_goTwo_27 ⟨Nat.zero_le _, Nat.zero_le _⟩ (fun H locs G => ?_)
  refine W.eq (g2 := F0 mid 30 ls [.double (clD (FP.dadd (jWf j m) (FP.dmul (FP.ddiv t 4611686018427387904) (FP.dadd (jWr j m 0) (jWr j m 1))))), .ref (jA j (xr m 0))]) rfl ?_
  refine xx_putM S G (mm := m) (ref := "TwinPanel$Gather") (by omega) hN (hC.k _) 11 (by rw [hk]; decide) (by rw [hk]; exact hts _ q289) (by rw [hk]; exact fun x h => u_same (hts _ q290) x h) (by rw [hk]; rfl) (by rw [hk]; rfl) (by rw [hk]; rfl) (xs_state (by simp [hk]) (by omega)) dX6_goTwo_30 (fun H locs G => ?_)
  refine lv_aload_n hx hb dX6_goTwo_33 rfl (lv_at hl 0 rfl) ?_
  refine lv_aload_n hx hb dX6_goTwo_34 rfl (lv_at hl 0 rfl) ?_
  refine lv_aload_n hx hb dX6_goTwo_35 rfl (lv_at hl 0 rfl) ?_
  refine xx_getM S G (mm := m) (ref := "TwinPanel$Gather") (by omega) hN (hC.k _) 14 (by rw [hk]; decide) (by rw [hk]; exact hts _ q285) (by rw [hk]; exact fun x h => h) (v := .float (jNf j m)) (xV_2_14 hk) dX6_goTwo_36 ?_
  refine lv_dload_n hx hb dX6_goTwo_39 rfl (lv_at hl 1 rfl) ?_
  refine lv_d2f hx hb dX6_goTwo_40 (nF_d2f (bD_n ht.2.2)) ?_
  refine lv_fconst2 hx hb dX6_goTwo_41 ?_
  refine lv_fdiv hx hb dX6_goTwo_42 (by rw [hh]; exact nF_d2f (bD_n ht2.2.2)) ?_
  refine lv_aload_n hx hb dX6_goTwo_43 rfl (lv_at hl 0 rfl) ?_
  refine xx_getM S G (mm := m) (ref := "TwinPanel$Gather") (by omega) hN (hC.k _) 16 (by rw [hk]; decide) (by rw [hk]; exact hts _ q287) (by rw [hk]; exact fun x h => h) (v := .ref (jA j (xr m 5))) (xV_2_16 hk) dX6_goTwo_44 ?_
  refine lv_iconst (v := nI 0) hx hb dX6_goTwo_47 (by decide) ?_
  refine xx_fald S G (r := xr m 5) (xr_lt (by decide) (Nat.lt_of_lt_of_le (by omega) hN)) (xW_m (by decide) (by omega) (xME_2_5 hk)) 3 rfl (i := 0) (by omega) (by decide) (v := jNr j m 0) rfl dX6_goTwo_48 ?_
  refine lv_aload_n hx hb dX6_goTwo_49 rfl (lv_at hl 0 rfl) ?_
  refine xx_getM S G (mm := m) (ref := "TwinPanel$Gather") (by omega) hN (hC.k _) 16 (by rw [hk]; decide) (by rw [hk]; exact hts _ q287) (by rw [hk]; exact fun x h => h) (v := .ref (jA j (xr m 5))) (xV_2_16 hk) dX6_goTwo_50 ?_
  refine lv_iconst (v := nI 1) hx hb dX6_goTwo_53 (by decide) ?_
  refine xx_fald S G (r := xr m 5) (xr_lt (by decide) (Nat.lt_of_lt_of_le (by omega) hN)) (xW_m (by decide) (by omega) (xME_2_5 hk)) 3 rfl (i := 1) (by omega) (by decide) (v := jNr j m 1) rfl dX6_goTwo_54 ?_
  refine lv_fadd hx hb dX6_goTwo_55 (bF_n (bF_add (hj.2.2.2 0) (hj.2.2.2 1))) ?_
  refine lv_fmul hx hb dX6_goTwo_56 (nF_mulz (by rw [hh]; exact ht2.2.1) (bF_n (bF_add (hj.2.2.2 0) (hj.2.2.2 1)))) ?_
  refine lv_fadd hx hb dX6_goTwo_57 (nF_add' hj.2.1 (nF_mulz (by rw [hh]; exact ht2.2.1) (bF_n (bF_add (hj.2.2.2 0) (hj.2.2.2 1))))) ?_
  refine lv_iload_n hx hb dX6_goTwo_58 rfl (lv_at hl 2 rfl) ?_
  refine xx_callM (mm := m) (As := [.float (FP.fadd (jNf j m) (FP.fmul (FP.fdiv (FP.d2f t) FP.fconst2) (FP.fadd (jNr j m 0) (jNr j m 1)))), .int q]) (rest := [.ref (jA j (xr m 0))]) S G (by omega) hN (hC.k _) (xt_X2_afterNarrow l D dA C (uAD (mAfter d m (FP.dadd (jWf j m) (FP.dmul (FP.ddiv t 4611686018427387904) (FP.dadd (jWr j m 0) (jWr j m 1))))) 17 m (clD (FP.dadd (jWf j m) (FP.dmul (FP.ddiv t 4611686018427387904) (FP.dadd (jWr j m 0) (jWr j m 1)))))) j m (FP.fadd (jNf j m) (FP.fmul (FP.fdiv (FP.d2f t) FP.fconst2) (FP.fadd (jNr j m 0) (jNr j m 1)))) q hC (by omega) (by show dI (mAfter _ _ _) 44 = _; rw [mAfter_dI]; exact hq)) (xx_cw hts q1094 q1095 (by rw [hk]; exact q1097) q962 q58 q978 rfl hu_Module_afterNarrow ⟨Nat.le_of_ble_eq_true rfl, Nat.le_of_ble_eq_true rfl⟩) rfl hl.1 rfl (Nat.le_of_ble_eq_true rfl) dX6_goTwo_59 ⟨Nat.zero_le _, Nat.zero_le _⟩ (fun H locs G => ?_)
  refine W.eq (g2 := F0 mid 62 ls [.float (clF (FP.fadd (jNf j m) (FP.fmul (FP.fdiv (FP.d2f t) FP.fconst2) (FP.fadd (jNr j m 0) (jNr j m 1))))), .ref (jA j (xr m 0))]) rfl ?_
  refine xx_putM S G (mm := m) (ref := "TwinPanel$Gather") (by omega) hN (hC.k _) 12 (by rw [hk]; decide) (by rw [hk]; exact hts _ q298) (by rw [hk]; exact fun x h => u_same (hts _ q299) x h) (by rw [hk]; rfl) (by rw [hk]; rfl) (by rw [hk]; rfl) (xs_stateF (by simp [hk]) (by omega)) dX6_goTwo_62 (fun H locs G => ?_)
  exact xx_vret S hr hlk G (xL_e rfl (by rfl) rfl) dX6_goTwo_65
theorem xt_X6_goFour (l : Launch) (D : va_G) (dA : Nat → ClassId) (C : tp_C) (d : md_T) (j : xj_T) (m : Nat) (t : UInt64) (q : Int32) (hC : mOK C) (hm : m < cN C) (hk : cK C m = 2) (hj : jrOK j m) (ht : tOK t) (hq : dI d 44 = q) : xC l D dA yX6_goFour cX6_goFour 7 none 2 [.ref (jA j (xr m 0)), .double t, .int q] C d j none C (xgS d m (FP.dadd (jWf j m) (FP.dmul t (FP.ddiv (w4D (jWr j m)) 4618441417868443648))) (FP.fadd (jNf j m) (FP.fmul (FP.d2f t) (FP.fdiv (w4F (jNr j m)) 1086324736)))) j := by
  refine xx_start (own := RX6) (by decide) rfl (Nat.le_of_ble_eq_true rfl) ?_
  intro p0 e0 s0 mid bl0 me0 co0 ls S hr hlk G hl
  have hx := S.1; have hb := S.2.1; have hml := S.2.2.1; have hown := S.2.2.2.1; have hts := S.2.2.2.2; have hN := hC.n
  have hl : lv_has ls 7 [(0, .ref (jA j (xr m 0))), (1, .double t), (3, .int q)] := hl
  refine lv_aload_n hx hb dX6_goFour_0 rfl (lv_at hl 0 rfl) ?_
  refine xx_getM S G (mm := m) (ref := "TwinPanel$Gather") (by omega) hN (hC.k _) 15 (by rw [hk]; decide) (by rw [hk]; exact hts _ q286) (by rw [hk]; exact fun x h => h) (v := .ref (jA j (xr m 4))) (xV_2_15 hk) dX6_goFour_1 ?_
  refine lv_iconst (v := nI 0) hx hb dX6_goFour_4 (by decide) ?_
  refine xx_dald S G (r := xr m 4) (xr_lt (by decide) (Nat.lt_of_lt_of_le (by omega) hN)) (xW_m (by decide) (by omega) (xME_2_4 hk)) 2 rfl (i := 0) (by omega) (by decide) (v := jWr j m 0) rfl dX6_goFour_5 ?_
  refine lv_ldc2d hx hb hown (hts _ q1102) dX6_goFour_6 ?_
  refine lv_aload_n hx hb dX6_goFour_9 rfl (lv_at hl 0 rfl) ?_
  refine xx_getM S G (mm := m) (ref := "TwinPanel$Gather") (by omega) hN (hC.k _) 15 (by rw [hk]; decide) (by rw [hk]; exact hts _ q286) (by rw [hk]; exact fun x h => h) (v := .ref (jA j (xr m 4))) (xV_2_15 hk) dX6_goFour_10 ?_
  refine lv_iconst (v := nI 1) hx hb dX6_goFour_13 (by decide) ?_
  refine xx_dald S G (r := xr m 4) (xr_lt (by decide) (Nat.lt_of_lt_of_le (by omega) hN)) (xW_m (by decide) (by omega) (xME_2_4 hk)) 2 rfl (i := 1) (by omega) (by decide) (v := jWr j m 1) rfl dX6_goFour_14 ?_
  refine lv_dmul hx hb dX6_goFour_15 (bD_n (w4_1 hj.2.2.1 1)) ?_
  refine lv_dadd hx hb dX6_goFour_16 (bD_n (w4_2 hj.2.2.1)) ?_
  refine lv_dstore (lv' := [(4, .double (FP.dadd (jWr j m 0) (FP.dmul 4611686018427387904 (jWr j m 1)))), (0, .ref (jA j (xr m 0))), (1, .double t), (3, .int q)]) hx hb dX6_goFour_17 hl (by decide) rfl (fun ls hl => ?_)
  refine lv_dload hx hb dX6_goFour_19 (lv_at hl 0 rfl) ?_
  refine lv_ldc2d hx hb hown (hts _ q1102) dX6_goFour_21 ?_
  refine lv_aload_n hx hb dX6_goFour_24 rfl (lv_at hl 1 rfl) ?_
  refine xx_getM S G (mm := m) (ref := "TwinPanel$Gather") (by omega) hN (hC.k _) 15 (by rw [hk]; decide) (by rw [hk]; exact hts _ q286) (by rw [hk]; exact fun x h => h) (v := .ref (jA j (xr m 4))) (xV_2_15 hk) dX6_goFour_25 ?_
  refine lv_iconst (v := nI 2) hx hb dX6_goFour_28 (by decide) ?_
  refine xx_dald S G (r := xr m 4) (xr_lt (by decide) (Nat.lt_of_lt_of_le (by omega) hN)) (xW_m (by decide) (by omega) (xME_2_4 hk)) 2 rfl (i := 2) (by omega) (by decide) (v := jWr j m 2) rfl dX6_goFour_29 ?_
  refine lv_dmul hx hb dX6_goFour_30 (bD_n (w4_1 hj.2.2.1 2)) ?_
  refine lv_dadd hx hb dX6_goFour_31 (bD_n (w4_4 hj.2.2.1)) ?_
  refine lv_dstore (lv' := [(4, .double (FP.dadd (FP.dadd (jWr j m 0) (FP.dmul 4611686018427387904 (jWr j m 1))) (FP.dmul 4611686018427387904 (jWr j m 2)))), (0, .ref (jA j (xr m 0))), (1, .double t), (3, .int q)]) hx hb dX6_goFour_32 hl (by decide) rfl (fun ls hl => ?_)
  refine lv_dload hx hb dX6_goFour_34 (lv_at hl 0 rfl) ?_
  refine lv_aload_n hx hb dX6_goFour_36 rfl (lv_at hl 1 rfl) ?_
  refine xx_getM S G (mm := m) (ref := "TwinPanel$Gather") (by omega) hN (hC.k _) 15 (by rw [hk]; decide) (by rw [hk]; exact hts _ q286) (by rw [hk]; exact fun x h => h) (v := .ref (jA j (xr m 4))) (xV_2_15 hk) dX6_goFour_37 ?_
  refine lv_iconst (v := nI 3) hx hb dX6_goFour_40 (by decide) ?_
  refine xx_dald S G (r := xr m 4) (xr_lt (by decide) (Nat.lt_of_lt_of_le (by omega) hN)) (xW_m (by decide) (by omega) (xME_2_4 hk)) 2 rfl (i := 3) (by omega) (by decide) (v := jWr j m 3) rfl dX6_goFour_41 ?_
  refine lv_dadd hx hb dX6_goFour_42 (bD_n (w4_5 hj.2.2.1)) ?_
  refine lv_dstore (lv' := [(4, .double (FP.dadd (FP.dadd (FP.dadd (jWr j m 0) (FP.dmul 4611686018427387904 (jWr j m 1))) (FP.dmul 4611686018427387904 (jWr j m 2))) (jWr j m 3))), (0, .ref (jA j (xr m 0))), (1, .double t), (3, .int q)]) hx hb dX6_goFour_43 hl (by decide) rfl (fun ls hl => ?_)
  refine lv_aload_n hx hb dX6_goFour_45 rfl (lv_at hl 1 rfl) ?_
  refine lv_aload_n hx hb dX6_goFour_46 rfl (lv_at hl 1 rfl) ?_
  refine lv_aload_n hx hb dX6_goFour_47 rfl (lv_at hl 1 rfl) ?_
  refine xx_getM S G (mm := m) (ref := "TwinPanel$Gather") (by omega) hN (hC.k _) 13 (by rw [hk]; decide) (by rw [hk]; exact hts _ q284) (by rw [hk]; exact fun x h => h) (v := .double (jWf j m)) (xV_2_13 hk) dX6_goFour_48 ?_
  refine lv_dload_n hx hb dX6_goFour_51 rfl (lv_at hl 2 rfl) ?_
  refine lv_dload hx hb dX6_goFour_52 (lv_at hl 0 rfl) ?_
  refine lv_ldc2d hx hb hown (hts _ q1107) dX6_goFour_54 ?_
  refine lv_ddiv hx hb dX6_goFour_57 (w4_n hj.2.2.1) ?_
  refine lv_dmul hx hb dX6_goFour_58 (nD_mulz ht.1 (w4_n hj.2.2.1)) ?_
  refine lv_dadd hx hb dX6_goFour_59 (nD_add' hj.1 (nD_mulz ht.1 (w4_n hj.2.2.1))) ?_
  refine lv_iload_n hx hb dX6_goFour_60 rfl (lv_at hl 3 rfl) ?_
  refine xx_callM (mm := m) (As := [.double (FP.dadd (jWf j m) (FP.dmul t (FP.ddiv (FP.dadd (FP.dadd (FP.dadd (jWr j m 0) (FP.dmul 4611686018427387904 (jWr j m 1))) (FP.dmul 4611686018427387904 (jWr j m 2))) (jWr j m 3)) 4618441417868443648))), .int q]) (rest := [.ref (jA j (xr m 0))]) S G (by omega) hN (hC.k _) (xt_X2_afterWide l D dA C d j m (FP.dadd (jWf j m) (FP.dmul t (FP.ddiv (FP.dadd (FP.dadd (FP.dadd (jWr j m 0) (FP.dmul 4611686018427387904 (jWr j m 1))) (FP.dmul 4611686018427387904 (jWr j m 2))) (jWr j m 3)) 4618441417868443648))) q hC (by omega) hq) (xx_cw hts q1090 q1091 (by rw [hk]; exact q1093) q862 q58 q878 rfl hu_Module_afterWide ⟨Nat.le_of_ble_eq_true rfl, Nat.le_of_ble_eq_true rfl⟩) rfl hl.1 rfl (Nat.le_of_ble_eq_true rfl) dX6_goFour_61 ⟨Nat.zero_le _, Nat.zero_le _⟩ (fun H locs G => ?_)
  refine W.eq (g2 := F0 mid 64 ls [.double (clD (FP.dadd (jWf j m) (FP.dmul t (FP.ddiv (FP.dadd (FP.dadd (FP.dadd (jWr j m 0) (FP.dmul 4611686018427387904 (jWr j m 1))) (FP.dmul 4611686018427387904 (jWr j m 2))) (jWr j m 3)) 4618441417868443648)))), .ref (jA j (xr m 0))]) rfl ?_
  refine xx_putM S G (mm := m) (ref := "TwinPanel$Gather") (by omega) hN (hC.k _) 11 (by rw [hk]; decide) (by rw [hk]; exact hts _ q289) (by rw [hk]; exact fun x h => u_same (hts _ q290) x h) (by rw [hk]; rfl) (by rw [hk]; rfl) (by rw [hk]; rfl) (xs_state (by simp [hk]) (by omega)) dX6_goFour_64 (fun H locs G => ?_)
  refine lv_aload_n hx hb dX6_goFour_67 rfl (lv_at hl 1 rfl) ?_
  refine xx_getM S G (mm := m) (ref := "TwinPanel$Gather") (by omega) hN (hC.k _) 16 (by rw [hk]; decide) (by rw [hk]; exact hts _ q287) (by rw [hk]; exact fun x h => h) (v := .ref (jA j (xr m 5))) (xV_2_16 hk) dX6_goFour_68 ?_
  refine lv_iconst (v := nI 0) hx hb dX6_goFour_71 (by decide) ?_
  refine xx_fald S G (r := xr m 5) (xr_lt (by decide) (Nat.lt_of_lt_of_le (by omega) hN)) (xW_m (by decide) (by omega) (xME_2_5 hk)) 3 rfl (i := 0) (by omega) (by decide) (v := jNr j m 0) rfl dX6_goFour_72 ?_
  refine lv_fconst2 hx hb dX6_goFour_73 ?_
  refine lv_aload_n hx hb dX6_goFour_74 rfl (lv_at hl 1 rfl) ?_
  refine xx_getM S G (mm := m) (ref := "TwinPanel$Gather") (by omega) hN (hC.k _) 16 (by rw [hk]; decide) (by rw [hk]; exact hts _ q287) (by rw [hk]; exact fun x h => h) (v := .ref (jA j (xr m 5))) (xV_2_16 hk) dX6_goFour_75 ?_
  refine lv_iconst (v := nI 1) hx hb dX6_goFour_78 (by decide) ?_
  refine xx_fald S G (r := xr m 5) (xr_lt (by decide) (Nat.lt_of_lt_of_le (by omega) hN)) (xW_m (by decide) (by omega) (xME_2_5 hk)) 3 rfl (i := 1) (by omega) (by decide) (v := jNr j m 1) rfl dX6_goFour_79 ?_
  refine lv_fmul hx hb dX6_goFour_80 (bF_n (w4_1F hj.2.2.2 1)) ?_
  refine lv_fadd hx hb dX6_goFour_81 (bF_n (w4_2F hj.2.2.2)) ?_
  refine lv_fstore (lv' := [(6, .float (FP.fadd (jNr j m 0) (FP.fmul FP.fconst2 (jNr j m 1)))), (4, .double (FP.dadd (FP.dadd (FP.dadd (jWr j m 0) (FP.dmul 4611686018427387904 (jWr j m 1))) (FP.dmul 4611686018427387904 (jWr j m 2))) (jWr j m 3))), (0, .ref (jA j (xr m 0))), (1, .double t), (3, .int q)]) hx hb dX6_goFour_82 hl (by decide) rfl (fun ls hl => ?_)
  refine lv_fload hx hb dX6_goFour_84 (lv_at hl 0 rfl) ?_
  refine lv_fconst2 hx hb dX6_goFour_86 ?_
  refine lv_aload_n hx hb dX6_goFour_87 rfl (lv_at hl 2 rfl) ?_
  refine xx_getM S G (mm := m) (ref := "TwinPanel$Gather") (by omega) hN (hC.k _) 16 (by rw [hk]; decide) (by rw [hk]; exact hts _ q287) (by rw [hk]; exact fun x h => h) (v := .ref (jA j (xr m 5))) (xV_2_16 hk) dX6_goFour_88 ?_
  refine lv_iconst (v := nI 2) hx hb dX6_goFour_91 (by decide) ?_
  refine xx_fald S G (r := xr m 5) (xr_lt (by decide) (Nat.lt_of_lt_of_le (by omega) hN)) (xW_m (by decide) (by omega) (xME_2_5 hk)) 3 rfl (i := 2) (by omega) (by decide) (v := jNr j m 2) rfl dX6_goFour_92 ?_
  refine lv_fmul hx hb dX6_goFour_93 (bF_n (w4_1F hj.2.2.2 2)) ?_
  refine lv_fadd hx hb dX6_goFour_94 (bF_n (w4_4F hj.2.2.2)) ?_
  refine lv_fstore (lv' := [(6, .float (FP.fadd (FP.fadd (jNr j m 0) (FP.fmul FP.fconst2 (jNr j m 1))) (FP.fmul FP.fconst2 (jNr j m 2)))), (4, .double (FP.dadd (FP.dadd (FP.dadd (jWr j m 0) (FP.dmul 4611686018427387904 (jWr j m 1))) (FP.dmul 4611686018427387904 (jWr j m 2))) (jWr j m 3))), (0, .ref (jA j (xr m 0))), (1, .double t), (3, .int q)]) hx hb dX6_goFour_95 hl (by decide) rfl (fun ls hl => ?_)
  refine lv_fload hx hb dX6_goFour_97 (lv_at hl 0 rfl) ?_
  refine lv_aload_n hx hb dX6_goFour_99 rfl (lv_at hl 2 rfl) ?_
  refine xx_getM S G (mm := m) (ref := "TwinPanel$Gather") (by omega) hN (hC.k _) 16 (by rw [hk]; decide) (by rw [hk]; exact hts _ q287) (by rw [hk]; exact fun x h => h) (v := .ref (jA j (xr m 5))) (xV_2_16 hk) dX6_goFour_100 ?_
  refine lv_iconst (v := nI 3) hx hb dX6_goFour_103 (by decide) ?_
  refine xx_fald S G (r := xr m 5) (xr_lt (by decide) (Nat.lt_of_lt_of_le (by omega) hN)) (xW_m (by decide) (by omega) (xME_2_5 hk)) 3 rfl (i := 3) (by omega) (by decide) (v := jNr j m 3) rfl dX6_goFour_104 ?_
  refine lv_fadd hx hb dX6_goFour_105 (bF_n (w4_5F hj.2.2.2)) ?_
  refine lv_fstore (lv' := [(6, .float (FP.fadd (FP.fadd (FP.fadd (jNr j m 0) (FP.fmul FP.fconst2 (jNr j m 1))) (FP.fmul FP.fconst2 (jNr j m 2))) (jNr j m 3))), (4, .double (FP.dadd (FP.dadd (FP.dadd (jWr j m 0) (FP.dmul 4611686018427387904 (jWr j m 1))) (FP.dmul 4611686018427387904 (jWr j m 2))) (jWr j m 3))), (0, .ref (jA j (xr m 0))), (1, .double t), (3, .int q)]) hx hb dX6_goFour_106 hl (by decide) rfl (fun ls hl => ?_)
  refine lv_aload_n hx hb dX6_goFour_108 rfl (lv_at hl 2 rfl) ?_
  refine lv_aload_n hx hb dX6_goFour_109 rfl (lv_at hl 2 rfl) ?_
  refine lv_aload_n hx hb dX6_goFour_110 rfl (lv_at hl 2 rfl) ?_
  refine xx_getM S G (mm := m) (ref := "TwinPanel$Gather") (by omega) hN (hC.k _) 14 (by rw [hk]; decide) (by rw [hk]; exact hts _ q285) (by rw [hk]; exact fun x h => h) (v := .float (jNf j m)) (xV_2_14 hk) dX6_goFour_111 ?_
  refine lv_dload_n hx hb dX6_goFour_114 rfl (lv_at hl 3 rfl) ?_
  refine lv_d2f hx hb dX6_goFour_115 (nF_d2f (bD_n ht.2.2)) ?_
  refine lv_fload hx hb dX6_goFour_116 (lv_at hl 0 rfl) ?_
  refine lv_ldcf hx hb hown (hts _ q1108) dX6_goFour_118 ?_
  refine lv_fdiv hx hb dX6_goFour_120 (w4_nF hj.2.2.2) ?_
  refine lv_fmul hx hb dX6_goFour_121 (nF_mulz ht.2.1 (w4_nF hj.2.2.2)) ?_
  refine lv_fadd hx hb dX6_goFour_122 (nF_add' hj.2.1 (nF_mulz ht.2.1 (w4_nF hj.2.2.2))) ?_
  refine lv_iload_n hx hb dX6_goFour_123 rfl (lv_at hl 4 rfl) ?_
  refine xx_callM (mm := m) (As := [.float (FP.fadd (jNf j m) (FP.fmul (FP.d2f t) (FP.fdiv (FP.fadd (FP.fadd (FP.fadd (jNr j m 0) (FP.fmul FP.fconst2 (jNr j m 1))) (FP.fmul FP.fconst2 (jNr j m 2))) (jNr j m 3)) 1086324736))), .int q]) (rest := [.ref (jA j (xr m 0))]) S G (by omega) hN (hC.k _) (xt_X2_afterNarrow l D dA C (uAD (mAfter d m (FP.dadd (jWf j m) (FP.dmul t (FP.ddiv (FP.dadd (FP.dadd (FP.dadd (jWr j m 0) (FP.dmul 4611686018427387904 (jWr j m 1))) (FP.dmul 4611686018427387904 (jWr j m 2))) (jWr j m 3)) 4618441417868443648)))) 17 m (clD (FP.dadd (jWf j m) (FP.dmul t (FP.ddiv (FP.dadd (FP.dadd (FP.dadd (jWr j m 0) (FP.dmul 4611686018427387904 (jWr j m 1))) (FP.dmul 4611686018427387904 (jWr j m 2))) (jWr j m 3)) 4618441417868443648))))) j m (FP.fadd (jNf j m) (FP.fmul (FP.d2f t) (FP.fdiv (FP.fadd (FP.fadd (FP.fadd (jNr j m 0) (FP.fmul FP.fconst2 (jNr j m 1))) (FP.fmul FP.fconst2 (jNr j m 2))) (jNr j m 3)) 1086324736))) q hC (by omega) (by show dI (mAfter _ _ _) 44 = _; rw [mAfter_dI]; exact hq)) (xx_cw hts q1094 q1095 (by rw [hk]; exact q1097) q962 q58 q978 rfl hu_Module_afterNarrow ⟨Nat.le_of_ble_eq_true rfl, Nat.le_of_ble_eq_true rfl⟩) rfl hl.1 rfl (Nat.le_of_ble_eq_true rfl) dX6_goFour_124 ⟨Nat.zero_le _, Nat.zero_le _⟩ (fun H locs G => ?_)
  refine W.eq (g2 := F0 mid 127 ls [.float (clF (FP.fadd (jNf j m) (FP.fmul (FP.d2f t) (FP.fdiv (FP.fadd (FP.fadd (FP.fadd (jNr j m 0) (FP.fmul FP.fconst2 (jNr j m 1))) (FP.fmul FP.fconst2 (jNr j m 2))) (jNr j m 3)) 1086324736)))), .ref (jA j (xr m 0))]) rfl ?_
  refine xx_putM S G (mm := m) (ref := "TwinPanel$Gather") (by omega) hN (hC.k _) 12 (by rw [hk]; decide) (by rw [hk]; exact hts _ q298) (by rw [hk]; exact fun x h => u_same (hts _ q299) x h) (by rw [hk]; rfl) (by rw [hk]; rfl) (by rw [hk]; rfl) (xs_stateF (by simp [hk]) (by omega)) dX6_goFour_127 (fun H locs G => ?_)
  exact xx_vret S hr hlk G (xL_e rfl (by rfl) rfl) dX6_goFour_130
theorem xt_X7_take (l : Launch) (D : va_G) (dA : Nat → ClassId) (C : tp_C) (d : md_T) (j : xj_T) (m : Nat) (hC : mOK C) (hm : m < cN C) (hk : cK C m = 3) (hI : okM C m) : xC l D dA yX7_take cX7_take 1 none 1 [.ref (jA j (xr m 0))] C d j none C d (sNn (sWn j m (nxD C d m)) m (nxF C d m)) := by
  refine xx_start (own := RX7) (by decide) rfl (Nat.le_of_ble_eq_true rfl) ?_
  intro p0 e0 s0 mid bl0 me0 co0 ls S hr hlk G hl
  have hx := S.1; have hb := S.2.1; have hml := S.2.2.1; have hown := S.2.2.2.1; have hts := S.2.2.2.2; have hN := hC.n
  have hl : lv_has ls 1 [(0, .ref (jA j (xr m 0)))] := hl
  obtain ⟨k0, f0⟩ := hi_0 hI.1 (by rw [hk]; decide) (by rw [hk]; decide)
  obtain ⟨k1, f1⟩ := hi_1 hI.1 (by rw [hk]; decide) (by rw [hk]; decide) (by rw [hk]; decide)
  refine lv_aload_n hx hb dX7_take_0 rfl (lv_at hl 0 rfl) ?_
  refine lv_aload_n hx hb dX7_take_1 rfl (lv_at hl 0 rfl) ?_
  refine lv_iconst (v := nI 1) hx hb dX7_take_2 (by decide) ?_
  refine xx_callM (mm := m) (As := [.int (nI 1)]) (rest := [.ref (jA j (xr m 0))]) S G (by omega) hN (hC.k _) (xt_X2_wideIn l D dA C d j m 1 hC (by omega) (by decide) f1) (xx_cw hts q1056 q1057 (by rw [hk]; exact q1058) q749 q58 q750 rfl hu_Module_wideIn ⟨Nat.le_of_ble_eq_true rfl, Nat.le_of_ble_eq_true rfl⟩) rfl hl.1 rfl (Nat.le_of_ble_eq_true rfl) dX7_take_3 ⟨Nat.zero_le _, Nat.zero_le _⟩ (fun H locs G => ?_)
  refine W.eq (g2 := F0 mid 6 ls [.double (inD C (dAD d 19) m 1), .ref (jA j (xr m 0))]) rfl ?_
  refine lv_dconst0 hx hb dX7_take_6 ?_
  refine fx_jlle (tgt := 19) hx hb dX7_take_7 dX7_take_8 (by decide) (fun c_8 => ?_) (fun c_8 => ?_)
  · refine lv_aload_n hx hb dX7_take_19 rfl (lv_at hl 0 rfl) ?_
    refine xx_getM S G (mm := m) (ref := "TwinPanel$Track") (by omega) hN (hC.k _) 11 (by rw [hk]; decide) (by rw [hk]; exact hts _ q292) (by rw [hk]; exact fun x h => u_same (hts _ q293) x h) (v := .double (dAD d 17 m)) (xV_3_11 hk) dX7_take_20 ?_
    refine xx_putM S G (mm := m) (ref := "TwinPanel$Track") (by omega) hN (hC.k _) 13 (by rw [hk]; decide) (by rw [hk]; exact hts _ q340) (by rw [hk]; exact fun x h => h) (by rw [hk]; rfl) (by rw [hk]; rfl) (by rw [hk]; rfl) (xs_Wn3 hk (by omega)) dX7_take_23 (fun H locs G => ?_)
    refine lv_aload_n hx hb dX7_take_26 rfl (lv_at hl 0 rfl) ?_
    refine lv_aload_n hx hb dX7_take_27 rfl (lv_at hl 0 rfl) ?_
    refine lv_iconst (v := nI 1) hx hb dX7_take_28 (by decide) ?_
    refine xx_callM (mm := m) (As := [.int (nI 1)]) (rest := [.ref (jA j (xr m 0))]) S G (by omega) hN (hC.k _) (xt_X2_narrowIn l D dA C d (sWn j m (dAD d 17 m)) m 1 hC (by omega) (by decide) f1) (xx_cw hts q1059 q1060 (by rw [hk]; exact q1061) q892 q58 q893 rfl hu_Module_narrowIn ⟨Nat.le_of_ble_eq_true rfl, Nat.le_of_ble_eq_true rfl⟩) rfl hl.1 rfl (Nat.le_of_ble_eq_true rfl) dX7_take_29 ⟨Nat.zero_le _, Nat.zero_le _⟩ (fun H locs G => ?_)
    refine W.eq (g2 := F0 mid 32 ls [.float (inF C (dAF d 20) m 1), .ref (jA j (xr m 0))]) rfl ?_
    refine lv_fconst0 hx hb dX7_take_32 ?_
    refine fy_jlle (tgt := 45) hx hb dX7_take_33 dX7_take_34 (by decide) (fun c_34 => ?_) (fun c_34 => ?_)
    · refine lv_aload_n hx hb dX7_take_45 rfl (lv_at hl 0 rfl) ?_
      refine xx_getM S G (mm := m) (ref := "TwinPanel$Track") (by omega) hN (hC.k _) 12 (by rw [hk]; decide) (by rw [hk]; exact hts _ q300) (by rw [hk]; exact fun x h => u_same (hts _ q301) x h) (v := .float (dAF d 18 m)) (xV_3_12 hk) dX7_take_46 ?_
      refine xx_putM S G (mm := m) (ref := "TwinPanel$Track") (by omega) hN (hC.k _) 14 (by rw [hk]; decide) (by rw [hk]; exact hts _ q341) (by rw [hk]; exact fun x h => h) (by rw [hk]; rfl) (by rw [hk]; rfl) (by rw [hk]; rfl) (xs_Nn3 hk (by omega)) dX7_take_49 (fun H locs G => ?_)
      exact xx_vret S hr hlk G (xL_e rfl rfl (by simp [nxD, nxF, c_8, c_34])) dX7_take_52
    · refine lv_aload_n hx hb dX7_take_37 rfl (lv_at hl 0 rfl) ?_
      refine lv_iconst (v := nI 0) hx hb dX7_take_38 (by decide) ?_
      refine xx_callM (mm := m) (As := [.int (nI 0)]) (rest := [.ref (jA j (xr m 0))]) S G (by omega) hN (hC.k _) (xt_X2_narrowIn l D dA C d (sWn j m (dAD d 17 m)) m 0 hC (by omega) (by decide) f0) (xx_cw hts q1059 q1060 (by rw [hk]; exact q1061) q892 q58 q893 rfl hu_Module_narrowIn ⟨Nat.le_of_ble_eq_true rfl, Nat.le_of_ble_eq_true rfl⟩) rfl hl.1 rfl (Nat.le_of_ble_eq_true rfl) dX7_take_39 ⟨Nat.zero_le _, Nat.zero_le _⟩ (fun H locs G => ?_)
      refine W.eq (g2 := F0 mid 42 ls [.float (inF C (dAF d 20) m 0), .ref (jA j (xr m 0))]) rfl ?_
      refine lv_goto (tgt := 49) hx hb dX7_take_42 (by decide) ?_
      refine xx_putM S G (mm := m) (ref := "TwinPanel$Track") (by omega) hN (hC.k _) 14 (by rw [hk]; decide) (by rw [hk]; exact hts _ q341) (by rw [hk]; exact fun x h => h) (by rw [hk]; rfl) (by rw [hk]; rfl) (by rw [hk]; rfl) (xs_Nn3 hk (by omega)) dX7_take_49 (fun H locs G => ?_)
      exact xx_vret S hr hlk G (xL_e rfl rfl (by simp [nxD, nxF, c_8, c_34])) dX7_take_52
  · refine lv_aload_n hx hb dX7_take_11 rfl (lv_at hl 0 rfl) ?_
    refine lv_iconst (v := nI 0) hx hb dX7_take_12 (by decide) ?_
    refine xx_callM (mm := m) (As := [.int (nI 0)]) (rest := [.ref (jA j (xr m 0))]) S G (by omega) hN (hC.k _) (xt_X2_wideIn l D dA C d j m 0 hC (by omega) (by decide) f0) (xx_cw hts q1056 q1057 (by rw [hk]; exact q1058) q749 q58 q750 rfl hu_Module_wideIn ⟨Nat.le_of_ble_eq_true rfl, Nat.le_of_ble_eq_true rfl⟩) rfl hl.1 rfl (Nat.le_of_ble_eq_true rfl) dX7_take_13 ⟨Nat.zero_le _, Nat.zero_le _⟩ (fun H locs G => ?_)
    refine W.eq (g2 := F0 mid 16 ls [.double (inD C (dAD d 19) m 0), .ref (jA j (xr m 0))]) rfl ?_
    refine lv_goto (tgt := 23) hx hb dX7_take_16 (by decide) ?_
    refine xx_putM S G (mm := m) (ref := "TwinPanel$Track") (by omega) hN (hC.k _) 13 (by rw [hk]; decide) (by rw [hk]; exact hts _ q340) (by rw [hk]; exact fun x h => h) (by rw [hk]; rfl) (by rw [hk]; rfl) (by rw [hk]; rfl) (xs_Wn3 hk (by omega)) dX7_take_23 (fun H locs G => ?_)
    refine lv_aload_n hx hb dX7_take_26 rfl (lv_at hl 0 rfl) ?_
    refine lv_aload_n hx hb dX7_take_27 rfl (lv_at hl 0 rfl) ?_
    refine lv_iconst (v := nI 1) hx hb dX7_take_28 (by decide) ?_
    refine xx_callM (mm := m) (As := [.int (nI 1)]) (rest := [.ref (jA j (xr m 0))]) S G (by omega) hN (hC.k _) (xt_X2_narrowIn l D dA C d (sWn j m (inD C (dAD d 19) m 0)) m 1 hC (by omega) (by decide) f1) (xx_cw hts q1059 q1060 (by rw [hk]; exact q1061) q892 q58 q893 rfl hu_Module_narrowIn ⟨Nat.le_of_ble_eq_true rfl, Nat.le_of_ble_eq_true rfl⟩) rfl hl.1 rfl (Nat.le_of_ble_eq_true rfl) dX7_take_29 ⟨Nat.zero_le _, Nat.zero_le _⟩ (fun H locs G => ?_)
    refine W.eq (g2 := F0 mid 32 ls [.float (inF C (dAF d 20) m 1), .ref (jA j (xr m 0))]) rfl ?_
    refine lv_fconst0 hx hb dX7_take_32 ?_
    refine fy_jlle (tgt := 45) hx hb dX7_take_33 dX7_take_34 (by decide) (fun c_34 => ?_) (fun c_34 => ?_)
    · refine lv_aload_n hx hb dX7_take_45 rfl (lv_at hl 0 rfl) ?_
      refine xx_getM S G (mm := m) (ref := "TwinPanel$Track") (by omega) hN (hC.k _) 12 (by rw [hk]; decide) (by rw [hk]; exact hts _ q300) (by rw [hk]; exact fun x h => u_same (hts _ q301) x h) (v := .float (dAF d 18 m)) (xV_3_12 hk) dX7_take_46 ?_
      refine xx_putM S G (mm := m) (ref := "TwinPanel$Track") (by omega) hN (hC.k _) 14 (by rw [hk]; decide) (by rw [hk]; exact hts _ q341) (by rw [hk]; exact fun x h => h) (by rw [hk]; rfl) (by rw [hk]; rfl) (by rw [hk]; rfl) (xs_Nn3 hk (by omega)) dX7_take_49 (fun H locs G => ?_)
      exact xx_vret S hr hlk G (xL_e rfl rfl (by simp [nxD, nxF, c_8, c_34])) dX7_take_52
    · refine lv_aload_n hx hb dX7_take_37 rfl (lv_at hl 0 rfl) ?_
      refine lv_iconst (v := nI 0) hx hb dX7_take_38 (by decide) ?_
      refine xx_callM (mm := m) (As := [.int (nI 0)]) (rest := [.ref (jA j (xr m 0))]) S G (by omega) hN (hC.k _) (xt_X2_narrowIn l D dA C d (sWn j m (inD C (dAD d 19) m 0)) m 0 hC (by omega) (by decide) f0) (xx_cw hts q1059 q1060 (by rw [hk]; exact q1061) q892 q58 q893 rfl hu_Module_narrowIn ⟨Nat.le_of_ble_eq_true rfl, Nat.le_of_ble_eq_true rfl⟩) rfl hl.1 rfl (Nat.le_of_ble_eq_true rfl) dX7_take_39 ⟨Nat.zero_le _, Nat.zero_le _⟩ (fun H locs G => ?_)
      refine W.eq (g2 := F0 mid 42 ls [.float (inF C (dAF d 20) m 0), .ref (jA j (xr m 0))]) rfl ?_
      refine lv_goto (tgt := 49) hx hb dX7_take_42 (by decide) ?_
      refine xx_putM S G (mm := m) (ref := "TwinPanel$Track") (by omega) hN (hC.k _) 14 (by rw [hk]; decide) (by rw [hk]; exact hts _ q341) (by rw [hk]; exact fun x h => h) (by rw [hk]; rfl) (by rw [hk]; rfl) (by rw [hk]; rfl) (xs_Nn3 hk (by omega)) dX7_take_49 (fun H locs G => ?_)
      exact xx_vret S hr hlk G (xL_e rfl rfl (by simp [nxD, nxF, c_8, c_34])) dX7_take_52
theorem xt_X7_become (l : Launch) (D : va_G) (dA : Nat → ClassId) (C : tp_C) (d : md_T) (j : xj_T) (m : Nat) (hC : mOK C) (hm : m < cN C) (hk : cK C m = 3) : xC l D dA yX7_become cX7_become 1 none 0 [.ref (jA j (xr m 0))] C d j none C (uAF (uAD d 17 m (jWn j m)) 18 m (jNn j m)) j := by
  refine xx_start (own := RX7) (by decide) rfl (Nat.le_of_ble_eq_true rfl) ?_
  intro p0 e0 s0 mid bl0 me0 co0 ls S hr hlk G hl
  have hx := S.1; have hb := S.2.1; have hml := S.2.2.1; have hown := S.2.2.2.1; have hts := S.2.2.2.2; have hN := hC.n
  have hl : lv_has ls 1 [(0, .ref (jA j (xr m 0)))] := hl
  refine lv_aload_n hx hb dX7_become_0 rfl (lv_at hl 0 rfl) ?_
  refine lv_aload_n hx hb dX7_become_1 rfl (lv_at hl 0 rfl) ?_
  refine xx_getM S G (mm := m) (ref := "TwinPanel$Track") (by omega) hN (hC.k _) 13 (by rw [hk]; decide) (by rw [hk]; exact hts _ q340) (by rw [hk]; exact fun x h => h) (v := .double (jWn j m)) (xV_3_13 hk) dX7_become_2 ?_
  refine xx_putM S G (mm := m) (ref := "TwinPanel$Track") (by omega) hN (hC.k _) 11 (by rw [hk]; decide) (by rw [hk]; exact hts _ q292) (by rw [hk]; exact fun x h => u_same (hts _ q293) x h) (by rw [hk]; rfl) (by rw [hk]; rfl) (by rw [hk]; rfl) (xs_state (by simp [hk]) (by omega)) dX7_become_5 (fun H locs G => ?_)
  refine lv_aload_n hx hb dX7_become_8 rfl (lv_at hl 0 rfl) ?_
  refine lv_aload_n hx hb dX7_become_9 rfl (lv_at hl 0 rfl) ?_
  refine xx_getM S G (mm := m) (ref := "TwinPanel$Track") (by omega) hN (hC.k _) 14 (by rw [hk]; decide) (by rw [hk]; exact hts _ q341) (by rw [hk]; exact fun x h => h) (v := .float (jNn j m)) (xV_3_14 hk) dX7_become_10 ?_
  refine xx_putM S G (mm := m) (ref := "TwinPanel$Track") (by omega) hN (hC.k _) 12 (by rw [hk]; decide) (by rw [hk]; exact hts _ q300) (by rw [hk]; exact fun x h => u_same (hts _ q301) x h) (by rw [hk]; rfl) (by rw [hk]; rfl) (by rw [hk]; rfl) (xs_stateF (by simp [hk]) (by omega)) dX7_become_13 (fun H locs G => ?_)
  exact xx_vret S hr hlk G rfl dX7_become_16
theorem xt_X15_take (l : Launch) (D : va_G) (dA : Nat → ClassId) (C : tp_C) (d : md_T) (j : xj_T) (m : Nat) (hC : mOK C) (hm : m < cN C) (hk : cK C m = 11) (hI : okM C m) : xC l D dA yX15_take cX15_take 1 none 1 [.ref (jA j (xr m 0))] C d j none C d (sNn (sWn j m (inD C (dAD d 19) m 0)) m (inF C (dAF d 20) m 0)) := by
  refine xx_start (own := RX15) (by decide) rfl (Nat.le_of_ble_eq_true rfl) ?_
  intro p0 e0 s0 mid bl0 me0 co0 ls S hr hlk G hl
  have hx := S.1; have hb := S.2.1; have hml := S.2.2.1; have hown := S.2.2.2.1; have hts := S.2.2.2.2; have hN := hC.n
  have hl : lv_has ls 1 [(0, .ref (jA j (xr m 0)))] := hl
  obtain ⟨k0, f0⟩ := hi_0 hI.1 (by rw [hk]; decide) (by rw [hk]; decide)
  refine lv_aload_n hx hb dX15_take_0 rfl (lv_at hl 0 rfl) ?_
  refine lv_aload_n hx hb dX15_take_1 rfl (lv_at hl 0 rfl) ?_
  refine lv_iconst (v := nI 0) hx hb dX15_take_2 (by decide) ?_
  refine xx_callM (mm := m) (As := [.int (nI 0)]) (rest := [.ref (jA j (xr m 0))]) S G (by omega) hN (hC.k _) (xt_X2_wideIn l D dA C d j m 0 hC (by omega) (by decide) f0) (xx_cw hts q1037 q1038 (by rw [hk]; exact q1039) q749 q58 q750 rfl hu_Module_wideIn ⟨Nat.le_of_ble_eq_true rfl, Nat.le_of_ble_eq_true rfl⟩) rfl hl.1 rfl (Nat.le_of_ble_eq_true rfl) dX15_take_3 ⟨Nat.zero_le _, Nat.zero_le _⟩ (fun H locs G => ?_)
  refine W.eq (g2 := F0 mid 6 ls [.double (inD C (dAD d 19) m 0), .ref (jA j (xr m 0))]) rfl ?_
  refine xx_putM S G (mm := m) (ref := "TwinPanel$Delay") (by omega) hN (hC.k _) 15 (by rw [hk]; decide) (by rw [hk]; exact hts _ q506) (by rw [hk]; exact fun x h => h) (by rw [hk]; rfl) (by rw [hk]; rfl) (by rw [hk]; rfl) (xs_Wn11 hk (by omega)) dX15_take_6 (fun H locs G => ?_)
  refine lv_aload_n hx hb dX15_take_9 rfl (lv_at hl 0 rfl) ?_
  refine lv_aload_n hx hb dX15_take_10 rfl (lv_at hl 0 rfl) ?_
  refine lv_iconst (v := nI 0) hx hb dX15_take_11 (by decide) ?_
  refine xx_callM (mm := m) (As := [.int (nI 0)]) (rest := [.ref (jA j (xr m 0))]) S G (by omega) hN (hC.k _) (xt_X2_narrowIn l D dA C d (sWn j m (inD C (dAD d 19) m 0)) m 0 hC (by omega) (by decide) f0) (xx_cw hts q1040 q1041 (by rw [hk]; exact q1042) q892 q58 q893 rfl hu_Module_narrowIn ⟨Nat.le_of_ble_eq_true rfl, Nat.le_of_ble_eq_true rfl⟩) rfl hl.1 rfl (Nat.le_of_ble_eq_true rfl) dX15_take_12 ⟨Nat.zero_le _, Nat.zero_le _⟩ (fun H locs G => ?_)
  refine W.eq (g2 := F0 mid 15 ls [.float (inF C (dAF d 20) m 0), .ref (jA j (xr m 0))]) rfl ?_
  refine xx_putM S G (mm := m) (ref := "TwinPanel$Delay") (by omega) hN (hC.k _) 16 (by rw [hk]; decide) (by rw [hk]; exact hts _ q507) (by rw [hk]; exact fun x h => h) (by rw [hk]; rfl) (by rw [hk]; rfl) (by rw [hk]; rfl) (xs_Nn11 hk (by omega)) dX15_take_15 (fun H locs G => ?_)
  exact xx_vret S hr hlk G rfl dX15_take_18
theorem xt_X17_become (l : Launch) (D : va_G) (dA : Nat → ClassId) (C : tp_C) (d : md_T) (j : xj_T) (m : Nat) (hC : mOK C) (hm : m < cN C) (hk : cK C m = 13) : xC l D dA yX17_become cX17_become 1 none 0 [.ref (jA j (xr m 0))] C d j none C (uAF (uAD (uAI d 23 m (sdN (dAI d 23 m))) 17 m (nsV (sdN (dAI d 23 m)))) 18 m (FP.d2f (nsV (sdN (dAI d 23 m))))) j := by
  refine xx_start (own := RX17) (by decide) rfl (Nat.le_of_ble_eq_true rfl) ?_
  intro p0 e0 s0 mid bl0 me0 co0 ls S hr hlk G hl
  have hx := S.1; have hb := S.2.1; have hml := S.2.2.1; have hown := S.2.2.2.1; have hts := S.2.2.2.2; have hN := hC.n
  have hl : lv_has ls 1 [(0, .ref (jA j (xr m 0)))] := hl
  refine lv_aload_n hx hb dX17_become_0 rfl (lv_at hl 0 rfl) ?_
  refine lv_ldc hx hb hown (hts _ q1124) dX17_become_1 ?_
  refine lv_aload_n hx hb dX17_become_3 rfl (lv_at hl 0 rfl) ?_
  refine xx_getM S G (mm := m) (ref := "TwinPanel$Noise") (by omega) hN (hC.k _) 13 (by rw [hk]; decide) (by rw [hk]; exact hts _ q554) (by rw [hk]; exact fun x h => h) (v := .int (dAI d 23 m)) (xV_13_13 hk) dX17_become_4 ?_
  refine lv_imul hx hb dX17_become_7 ?_
  refine lv_ldc hx hb hown (hts _ q1125) dX17_become_8 ?_
  refine lv_iadd hx hb dX17_become_10 ?_
  refine xx_putM S G (mm := m) (ref := "TwinPanel$Noise") (by omega) hN (hC.k _) 13 (by rw [hk]; decide) (by rw [hk]; exact hts _ q554) (by rw [hk]; exact fun x h => h) (by rw [hk]; rfl) (by rw [hk]; rfl) (by rw [hk]; rfl) (xs_seed hk (by omega)) dX17_become_11 (fun H locs G => ?_)
  refine lv_aload_n hx hb dX17_become_14 rfl (lv_at hl 0 rfl) ?_
  refine lv_aload_n hx hb dX17_become_15 rfl (lv_at hl 0 rfl) ?_
  refine xx_getM S G (mm := m) (ref := "TwinPanel$Noise") (by omega) hN (hC.k _) 13 (by rw [hk]; decide) (by rw [hk]; exact hts _ q554) (by rw [hk]; exact fun x h => h) (v := .int (sdN (dAI d 23 m))) ((xV_13_13 hk).trans (by rw [dAI_self]; simp [upd, sdN])) dX17_become_16 ?_
  refine lv_i2d hx hb dX17_become_19 ?_
  refine lv_ldc2d hx hb hown (hts _ q1126) dX17_become_20 ?_
  refine lv_ddiv hx hb dX17_become_23 (bD_n (nsV_b _)) ?_
  refine xx_putM S G (mm := m) (ref := "TwinPanel$Noise") (by omega) hN (hC.k _) 11 (by rw [hk]; decide) (by rw [hk]; exact hts _ q294) (by rw [hk]; exact fun x h => u_same (hts _ q295) x h) (by rw [hk]; rfl) (by rw [hk]; rfl) (by rw [hk]; rfl) (xs_state (by simp [hk]) (by omega)) dX17_become_24 (fun H locs G => ?_)
  refine lv_aload_n hx hb dX17_become_27 rfl (lv_at hl 0 rfl) ?_
  refine lv_aload_n hx hb dX17_become_28 rfl (lv_at hl 0 rfl) ?_
  refine xx_getM S G (mm := m) (ref := "TwinPanel$Noise") (by omega) hN (hC.k _) 11 (by rw [hk]; decide) (by rw [hk]; exact hts _ q294) (by rw [hk]; exact fun x h => u_same (hts _ q295) x h) (v := .double (nsV (sdN (dAI d 23 m)))) ((xV_13_11 hk).trans (by rw [dAD_self]; simp [vf_upd, nsV])) dX17_become_29 ?_
  refine lv_d2f hx hb dX17_become_32 (nF_d2f (bD_n (nsV_b _))) ?_
  refine xx_putM S G (mm := m) (ref := "TwinPanel$Noise") (by omega) hN (hC.k _) 12 (by rw [hk]; decide) (by rw [hk]; exact hts _ q303) (by rw [hk]; exact fun x h => u_same (hts _ q304) x h) (by rw [hk]; rfl) (by rw [hk]; rfl) (by rw [hk]; rfl) (xs_stateF (by simp [hk]) (by omega)) dX17_become_33 (fun H locs G => ?_)
  exact xx_vret S hr hlk G (xL_e rfl (by rfl) rfl) dX17_become_36
theorem xt_X7_needs (l : Launch) (D : va_G) (dA : Nat → ClassId) (C : tp_C) (d : md_T) (j : xj_T) (m : Nat) (hC : mOK C) (hm : m < cN C) (hk : cK C m = 3) : xC l D dA yX7_needs cX7_needs 1 (some .int) 0 [.ref (jA j (xr m 0))] C d j (some (.int (nI 2))) C d j := by
  refine xx_start (own := RX7) (by decide) rfl (Nat.le_of_ble_eq_true rfl) ?_
  intro p0 e0 s0 mid bl0 me0 co0 ls S hr hlk G hl
  have hx := S.1; have hb := S.2.1; have hml := S.2.2.1; have hown := S.2.2.2.1; have hts := S.2.2.2.2; have hN := hC.n
  have hl : lv_has ls 1 [(0, .ref (jA j (xr m 0)))] := hl
  refine lv_iconst (v := nI 2) hx hb dX7_needs_0 (by decide) ?_
  exact xx_iret S hr hlk G rfl rfl dX7_needs_1
theorem xt_X8_needs (l : Launch) (D : va_G) (dA : Nat → ClassId) (C : tp_C) (d : md_T) (j : xj_T) (m : Nat) (hC : mOK C) (hm : m < cN C) (hk : cK C m = 4) : xC l D dA yX8_needs cX8_needs 1 (some .int) 0 [.ref (jA j (xr m 0))] C d j (some (.int (nI 2))) C d j := by
  refine xx_start (own := RX8) (by decide) rfl (Nat.le_of_ble_eq_true rfl) ?_
  intro p0 e0 s0 mid bl0 me0 co0 ls S hr hlk G hl
  have hx := S.1; have hb := S.2.1; have hml := S.2.2.1; have hown := S.2.2.2.1; have hts := S.2.2.2.2; have hN := hC.n
  have hl : lv_has ls 1 [(0, .ref (jA j (xr m 0)))] := hl
  refine lv_iconst (v := nI 2) hx hb dX8_needs_0 (by decide) ?_
  exact xx_iret S hr hlk G rfl rfl dX8_needs_1
theorem xt_X9_needs (l : Launch) (D : va_G) (dA : Nat → ClassId) (C : tp_C) (d : md_T) (j : xj_T) (m : Nat) (hC : mOK C) (hm : m < cN C) (hk : cK C m = 5) : xC l D dA yX9_needs cX9_needs 1 (some .int) 0 [.ref (jA j (xr m 0))] C d j (some (.int (nI 2))) C d j := by
  refine xx_start (own := RX9) (by decide) rfl (Nat.le_of_ble_eq_true rfl) ?_
  intro p0 e0 s0 mid bl0 me0 co0 ls S hr hlk G hl
  have hx := S.1; have hb := S.2.1; have hml := S.2.2.1; have hown := S.2.2.2.1; have hts := S.2.2.2.2; have hN := hC.n
  have hl : lv_has ls 1 [(0, .ref (jA j (xr m 0)))] := hl
  refine lv_iconst (v := nI 2) hx hb dX9_needs_0 (by decide) ?_
  exact xx_iret S hr hlk G rfl rfl dX9_needs_1
theorem xt_X12_needs (l : Launch) (D : va_G) (dA : Nat → ClassId) (C : tp_C) (d : md_T) (j : xj_T) (m : Nat) (hC : mOK C) (hm : m < cN C) (hk : cK C m = 8) : xC l D dA yX12_needs cX12_needs 1 (some .int) 0 [.ref (jA j (xr m 0))] C d j (some (.int (nI 2))) C d j := by
  refine xx_start (own := RX12) (by decide) rfl (Nat.le_of_ble_eq_true rfl) ?_
  intro p0 e0 s0 mid bl0 me0 co0 ls S hr hlk G hl
  have hx := S.1; have hb := S.2.1; have hml := S.2.2.1; have hown := S.2.2.2.1; have hts := S.2.2.2.2; have hN := hC.n
  have hl : lv_has ls 1 [(0, .ref (jA j (xr m 0)))] := hl
  refine lv_iconst (v := nI 2) hx hb dX12_needs_0 (by decide) ?_
  exact xx_iret S hr hlk G rfl rfl dX12_needs_1
theorem xt_X13_needs (l : Launch) (D : va_G) (dA : Nat → ClassId) (C : tp_C) (d : md_T) (j : xj_T) (m : Nat) (hC : mOK C) (hm : m < cN C) (hk : cK C m = 9) : xC l D dA yX13_needs cX13_needs 1 (some .int) 0 [.ref (jA j (xr m 0))] C d j (some (.int (nI 3))) C d j := by
  refine xx_start (own := RX13) (by decide) rfl (Nat.le_of_ble_eq_true rfl) ?_
  intro p0 e0 s0 mid bl0 me0 co0 ls S hr hlk G hl
  have hx := S.1; have hb := S.2.1; have hml := S.2.2.1; have hown := S.2.2.2.1; have hts := S.2.2.2.2; have hN := hC.n
  have hl : lv_has ls 1 [(0, .ref (jA j (xr m 0)))] := hl
  refine lv_iconst (v := nI 3) hx hb dX13_needs_0 (by decide) ?_
  exact xx_iret S hr hlk G rfl rfl dX13_needs_1
theorem xt_X17_needs (l : Launch) (D : va_G) (dA : Nat → ClassId) (C : tp_C) (d : md_T) (j : xj_T) (m : Nat) (hC : mOK C) (hm : m < cN C) (hk : cK C m = 13) : xC l D dA yX17_needs cX17_needs 1 (some .int) 0 [.ref (jA j (xr m 0))] C d j (some (.int (nI 0))) C d j := by
  refine xx_start (own := RX17) (by decide) rfl (Nat.le_of_ble_eq_true rfl) ?_
  intro p0 e0 s0 mid bl0 me0 co0 ls S hr hlk G hl
  have hx := S.1; have hb := S.2.1; have hml := S.2.2.1; have hown := S.2.2.2.1; have hts := S.2.2.2.2; have hN := hC.n
  have hl : lv_has ls 1 [(0, .ref (jA j (xr m 0)))] := hl
  refine lv_iconst (v := nI 0) hx hb dX17_needs_0 (by decide) ?_
  exact xx_iret S hr hlk G rfl rfl dX17_needs_1
theorem xt_X5_remembers_2 (l : Launch) (D : va_G) (dA : Nat → ClassId) (C : tp_C) (d : md_T) (j : xj_T) (m : Nat) (hC : mOK C) (hm : m < cN C) : xC l D dA yX5_remembers cX5_remembers 1 (some .boolean) 0 [.ref (jA j (xr m 0))] C d j (some (.int (bI true))) C d j := by
  refine xx_start (own := RX5) (by decide) rfl (Nat.le_of_ble_eq_true rfl) ?_
  intro p0 e0 s0 mid bl0 me0 co0 ls S hr hlk G hl
  have hx := S.1; have hb := S.2.1; have hml := S.2.2.1; have hown := S.2.2.2.1; have hts := S.2.2.2.2; have hN := hC.n
  have hl : lv_has ls 1 [(0, .ref (jA j (xr m 0)))] := hl
  refine lv_iconst (v := nI 1) hx hb dX5_remembers_0 (by decide) ?_
  exact xx_zret S hr hlk G (by first | rfl | exact bb_nar _) (bI_t (by rfl)) rfl dX5_remembers_1
