set_option maxRecDepth 100000
set_option maxHeartbeats 4000000
theorem dX1_lengthOf_0 : decode cX1_lengthOf 0 = .ok (.dconst 1, 1) := by decide +kernel
theorem dX1_lengthOf_1 : decode cX1_lengthOf 1 = .ok (.dstore_n 2, 1) := by decide +kernel
theorem dX1_lengthOf_2 : decode cX1_lengthOf 2 = .ok (.iconst 0, 1) := by decide +kernel
theorem dX1_lengthOf_3 : decode cX1_lengthOf 3 = .ok (.istore 4, 2) := by decide +kernel
theorem dX1_lengthOf_5 : decode cX1_lengthOf 5 = .ok (.iload 4, 2) := by decide +kernel
theorem dX1_lengthOf_7 : decode cX1_lengthOf 7 = .ok (.iload_n 1, 1) := by decide +kernel
theorem dX1_lengthOf_8 : decode cX1_lengthOf 8 = .ok (.if_icmp .ge 15, 3) := by decide +kernel
theorem dX1_lengthOf_11 : decode cX1_lengthOf 11 = .ok (.dload_n 2, 1) := by decide +kernel
theorem dX1_lengthOf_12 : decode cX1_lengthOf 12 = .ok (.ldc2_w 314, 3) := by decide +kernel
theorem dX1_lengthOf_15 : decode cX1_lengthOf 15 = .ok (.ddiv, 1) := by decide +kernel
theorem dX1_lengthOf_16 : decode cX1_lengthOf 16 = .ok (.dstore_n 2, 1) := by decide +kernel
theorem dX1_lengthOf_17 : decode cX1_lengthOf 17 = .ok (.iinc 4 1, 3) := by decide +kernel
theorem dX1_lengthOf_20 : decode cX1_lengthOf 20 = .ok (.goto (-15), 3) := by decide +kernel
theorem dX1_lengthOf_23 : decode cX1_lengthOf 23 = .ok (.dload_n 2, 1) := by decide +kernel
theorem dX1_lengthOf_24 : decode cX1_lengthOf 24 = .ok (.dreturn, 1) := by decide +kernel
theorem dX1_toStrips_0 : decode cX1_toStrips 0 = .ok (.iconst 0, 1) := by decide +kernel
theorem dX1_toStrips_1 : decode cX1_toStrips 1 = .ok (.istore_n 1, 1) := by decide +kernel
theorem dX1_toStrips_2 : decode cX1_toStrips 2 = .ok (.iload_n 1, 1) := by decide +kernel
theorem dX1_toStrips_3 : decode cX1_toStrips 3 = .ok (.aload_n 0, 1) := by decide +kernel
theorem dX1_toStrips_4 : decode cX1_toStrips 4 = .ok (.getfield 332, 3) := by decide +kernel
theorem dX1_toStrips_7 : decode cX1_toStrips 7 = .ok (.if_icmp .ge 46, 3) := by decide +kernel
theorem dX1_toStrips_10 : decode cX1_toStrips 10 = .ok (.aload_n 0, 1) := by decide +kernel
theorem dX1_toStrips_11 : decode cX1_toStrips 11 = .ok (.getfield 113, 3) := by decide +kernel
theorem dX1_toStrips_14 : decode cX1_toStrips 14 = .ok (.bipush 120, 2) := by decide +kernel
theorem dX1_toStrips_16 : decode cX1_toStrips 16 = .ok (.iload_n 1, 1) := by decide +kernel
theorem dX1_toStrips_17 : decode cX1_toStrips 17 = .ok (.imul, 1) := by decide +kernel
theorem dX1_toStrips_18 : decode cX1_toStrips 18 = .ok (.aload_n 0, 1) := by decide +kernel
theorem dX1_toStrips_19 : decode cX1_toStrips 19 = .ok (.getfield 110, 3) := by decide +kernel
theorem dX1_toStrips_22 : decode cX1_toStrips 22 = .ok (.iload_n 1, 1) := by decide +kernel
theorem dX1_toStrips_23 : decode cX1_toStrips 23 = .ok (.iaload, 1) := by decide +kernel
theorem dX1_toStrips_24 : decode cX1_toStrips 24 = .ok (.iadd, 1) := by decide +kernel
theorem dX1_toStrips_25 : decode cX1_toStrips 25 = .ok (.aload_n 0, 1) := by decide +kernel
theorem dX1_toStrips_26 : decode cX1_toStrips 26 = .ok (.getfield 53, 3) := by decide +kernel
theorem dX1_toStrips_29 : decode cX1_toStrips 29 = .ok (.aload_n 0, 1) := by decide +kernel
theorem dX1_toStrips_30 : decode cX1_toStrips 30 = .ok (.getfield 107, 3) := by decide +kernel
theorem dX1_toStrips_33 : decode cX1_toStrips 33 = .ok (.iload_n 1, 1) := by decide +kernel
theorem dX1_toStrips_34 : decode cX1_toStrips 34 = .ok (.iaload, 1) := by decide +kernel
theorem dX1_toStrips_35 : decode cX1_toStrips 35 = .ok (.daload, 1) := by decide +kernel
theorem dX1_toStrips_36 : decode cX1_toStrips 36 = .ok (.dastore, 1) := by decide +kernel
theorem dX1_toStrips_37 : decode cX1_toStrips 37 = .ok (.aload_n 0, 1) := by decide +kernel
theorem dX1_toStrips_38 : decode cX1_toStrips 38 = .ok (.getfield 110, 3) := by decide +kernel
theorem dX1_toStrips_41 : decode cX1_toStrips 41 = .ok (.iload_n 1, 1) := by decide +kernel
theorem dX1_toStrips_42 : decode cX1_toStrips 42 = .ok (.dup2, 1) := by decide +kernel
theorem dX1_toStrips_43 : decode cX1_toStrips 43 = .ok (.iaload, 1) := by decide +kernel
theorem dX1_toStrips_44 : decode cX1_toStrips 44 = .ok (.iconst 1, 1) := by decide +kernel
theorem dX1_toStrips_45 : decode cX1_toStrips 45 = .ok (.iadd, 1) := by decide +kernel
theorem dX1_toStrips_46 : decode cX1_toStrips 46 = .ok (.iastore, 1) := by decide +kernel
theorem dX1_toStrips_47 : decode cX1_toStrips 47 = .ok (.iinc 1 1, 3) := by decide +kernel
theorem dX1_toStrips_50 : decode cX1_toStrips 50 = .ok (.goto (-48), 3) := by decide +kernel
theorem dX1_toStrips_53 : decode cX1_toStrips 53 = .ok (.return_, 1) := by decide +kernel
theorem dX1_keep_0 : decode cX1_keep 0 = .ok (.aload_n 0, 1) := by decide +kernel
theorem dX1_keep_1 : decode cX1_keep 1 = .ok (.aload_n 0, 1) := by decide +kernel
theorem dX1_keep_2 : decode cX1_keep 2 = .ok (.getfield 322, 3) := by decide +kernel
theorem dX1_keep_5 : decode cX1_keep 5 = .ok (.putfield 362, 3) := by decide +kernel
theorem dX1_keep_8 : decode cX1_keep 8 = .ok (.iconst 0, 1) := by decide +kernel
theorem dX1_keep_9 : decode cX1_keep 9 = .ok (.istore_n 1, 1) := by decide +kernel
theorem dX1_keep_10 : decode cX1_keep 10 = .ok (.iload_n 1, 1) := by decide +kernel
theorem dX1_keep_11 : decode cX1_keep 11 = .ok (.bipush 20, 2) := by decide +kernel
theorem dX1_keep_13 : decode cX1_keep 13 = .ok (.if_icmp .ge 105, 3) := by decide +kernel
theorem dX1_keep_16 : decode cX1_keep 16 = .ok (.aload_n 0, 1) := by decide +kernel
theorem dX1_keep_17 : decode cX1_keep 17 = .ok (.getfield 77, 3) := by decide +kernel
theorem dX1_keep_20 : decode cX1_keep 20 = .ok (.iload_n 1, 1) := by decide +kernel
theorem dX1_keep_21 : decode cX1_keep 21 = .ok (.aload_n 0, 1) := by decide +kernel
theorem dX1_keep_22 : decode cX1_keep 22 = .ok (.getfield 46, 3) := by decide +kernel
theorem dX1_keep_25 : decode cX1_keep 25 = .ok (.iload_n 1, 1) := by decide +kernel
theorem dX1_keep_26 : decode cX1_keep 26 = .ok (.daload, 1) := by decide +kernel
theorem dX1_keep_27 : decode cX1_keep 27 = .ok (.dastore, 1) := by decide +kernel
theorem dX1_keep_28 : decode cX1_keep 28 = .ok (.aload_n 0, 1) := by decide +kernel
theorem dX1_keep_29 : decode cX1_keep 29 = .ok (.getfield 80, 3) := by decide +kernel
theorem dX1_keep_32 : decode cX1_keep 32 = .ok (.iload_n 1, 1) := by decide +kernel
theorem dX1_keep_33 : decode cX1_keep 33 = .ok (.aload_n 0, 1) := by decide +kernel
theorem dX1_keep_34 : decode cX1_keep 34 = .ok (.getfield 49, 3) := by decide +kernel
theorem dX1_keep_37 : decode cX1_keep 37 = .ok (.iload_n 1, 1) := by decide +kernel
theorem dX1_keep_38 : decode cX1_keep 38 = .ok (.faload, 1) := by decide +kernel
theorem dX1_keep_39 : decode cX1_keep 39 = .ok (.fastore, 1) := by decide +kernel
theorem dX1_keep_40 : decode cX1_keep 40 = .ok (.aload_n 0, 1) := by decide +kernel
theorem dX1_keep_41 : decode cX1_keep 41 = .ok (.getfield 83, 3) := by decide +kernel
theorem dX1_keep_44 : decode cX1_keep 44 = .ok (.iload_n 1, 1) := by decide +kernel
theorem dX1_keep_45 : decode cX1_keep 45 = .ok (.aload_n 0, 1) := by decide +kernel
theorem dX1_keep_46 : decode cX1_keep 46 = .ok (.getfield 53, 3) := by decide +kernel
theorem dX1_keep_49 : decode cX1_keep 49 = .ok (.iload_n 1, 1) := by decide +kernel
theorem dX1_keep_50 : decode cX1_keep 50 = .ok (.daload, 1) := by decide +kernel
theorem dX1_keep_51 : decode cX1_keep 51 = .ok (.dastore, 1) := by decide +kernel
theorem dX1_keep_52 : decode cX1_keep 52 = .ok (.aload_n 0, 1) := by decide +kernel
theorem dX1_keep_53 : decode cX1_keep 53 = .ok (.getfield 86, 3) := by decide +kernel
theorem dX1_keep_56 : decode cX1_keep 56 = .ok (.iload_n 1, 1) := by decide +kernel
theorem dX1_keep_57 : decode cX1_keep 57 = .ok (.aload_n 0, 1) := by decide +kernel
theorem dX1_keep_58 : decode cX1_keep 58 = .ok (.getfield 56, 3) := by decide +kernel
theorem dX1_keep_61 : decode cX1_keep 61 = .ok (.iload_n 1, 1) := by decide +kernel
theorem dX1_keep_62 : decode cX1_keep 62 = .ok (.faload, 1) := by decide +kernel
theorem dX1_keep_63 : decode cX1_keep 63 = .ok (.fastore, 1) := by decide +kernel
theorem dX1_keep_64 : decode cX1_keep 64 = .ok (.aload_n 0, 1) := by decide +kernel
theorem dX1_keep_65 : decode cX1_keep 65 = .ok (.getfield 95, 3) := by decide +kernel
theorem dX1_keep_68 : decode cX1_keep 68 = .ok (.iload_n 1, 1) := by decide +kernel
theorem dX1_keep_69 : decode cX1_keep 69 = .ok (.aload_n 0, 1) := by decide +kernel
theorem dX1_keep_70 : decode cX1_keep 70 = .ok (.getfield 65, 3) := by decide +kernel
theorem dX1_keep_73 : decode cX1_keep 73 = .ok (.iload_n 1, 1) := by decide +kernel
theorem dX1_keep_74 : decode cX1_keep 74 = .ok (.iaload, 1) := by decide +kernel
theorem dX1_keep_75 : decode cX1_keep 75 = .ok (.iastore, 1) := by decide +kernel
theorem dX1_keep_76 : decode cX1_keep 76 = .ok (.aload_n 0, 1) := by decide +kernel
theorem dX1_keep_77 : decode cX1_keep 77 = .ok (.getfield 98, 3) := by decide +kernel
theorem dX1_keep_80 : decode cX1_keep 80 = .ok (.iload_n 1, 1) := by decide +kernel
theorem dX1_keep_81 : decode cX1_keep 81 = .ok (.aload_n 0, 1) := by decide +kernel
theorem dX1_keep_82 : decode cX1_keep 82 = .ok (.getfield 68, 3) := by decide +kernel
theorem dX1_keep_85 : decode cX1_keep 85 = .ok (.iload_n 1, 1) := by decide +kernel
theorem dX1_keep_86 : decode cX1_keep 86 = .ok (.iaload, 1) := by decide +kernel
theorem dX1_keep_87 : decode cX1_keep 87 = .ok (.iastore, 1) := by decide +kernel
theorem dX1_keep_88 : decode cX1_keep 88 = .ok (.aload_n 0, 1) := by decide +kernel
theorem dX1_keep_89 : decode cX1_keep 89 = .ok (.getfield 101, 3) := by decide +kernel
theorem dX1_keep_92 : decode cX1_keep 92 = .ok (.iload_n 1, 1) := by decide +kernel
theorem dX1_keep_93 : decode cX1_keep 93 = .ok (.aload_n 0, 1) := by decide +kernel
theorem dX1_keep_94 : decode cX1_keep 94 = .ok (.getfield 71, 3) := by decide +kernel
theorem dX1_keep_97 : decode cX1_keep 97 = .ok (.iload_n 1, 1) := by decide +kernel
theorem dX1_keep_98 : decode cX1_keep 98 = .ok (.daload, 1) := by decide +kernel
theorem dX1_keep_99 : decode cX1_keep 99 = .ok (.dastore, 1) := by decide +kernel
theorem dX1_keep_100 : decode cX1_keep 100 = .ok (.aload_n 0, 1) := by decide +kernel
theorem dX1_keep_101 : decode cX1_keep 101 = .ok (.getfield 104, 3) := by decide +kernel
theorem dX1_keep_104 : decode cX1_keep 104 = .ok (.iload_n 1, 1) := by decide +kernel
theorem dX1_keep_105 : decode cX1_keep 105 = .ok (.aload_n 0, 1) := by decide +kernel
theorem dX1_keep_106 : decode cX1_keep 106 = .ok (.getfield 74, 3) := by decide +kernel
theorem dX1_keep_109 : decode cX1_keep 109 = .ok (.iload_n 1, 1) := by decide +kernel
theorem dX1_keep_110 : decode cX1_keep 110 = .ok (.daload, 1) := by decide +kernel
theorem dX1_keep_111 : decode cX1_keep 111 = .ok (.dastore, 1) := by decide +kernel
theorem dX1_keep_112 : decode cX1_keep 112 = .ok (.iinc 1 1, 3) := by decide +kernel
theorem dX1_keep_115 : decode cX1_keep 115 = .ok (.goto (-105), 3) := by decide +kernel
theorem dX1_keep_118 : decode cX1_keep 118 = .ok (.iconst 0, 1) := by decide +kernel
theorem dX1_keep_119 : decode cX1_keep 119 = .ok (.istore_n 1, 1) := by decide +kernel
theorem dX1_keep_120 : decode cX1_keep 120 = .ok (.iload_n 1, 1) := by decide +kernel
theorem dX1_keep_121 : decode cX1_keep 121 = .ok (.sipush 320, 3) := by decide +kernel
theorem dX1_keep_124 : decode cX1_keep 124 = .ok (.if_icmp .ge 33, 3) := by decide +kernel
theorem dX1_keep_127 : decode cX1_keep 127 = .ok (.aload_n 0, 1) := by decide +kernel
theorem dX1_keep_128 : decode cX1_keep 128 = .ok (.getfield 89, 3) := by decide +kernel
theorem dX1_keep_131 : decode cX1_keep 131 = .ok (.iload_n 1, 1) := by decide +kernel
theorem dX1_keep_132 : decode cX1_keep 132 = .ok (.aload_n 0, 1) := by decide +kernel
theorem dX1_keep_133 : decode cX1_keep 133 = .ok (.getfield 59, 3) := by decide +kernel
theorem dX1_keep_136 : decode cX1_keep 136 = .ok (.iload_n 1, 1) := by decide +kernel
theorem dX1_keep_137 : decode cX1_keep 137 = .ok (.daload, 1) := by decide +kernel
theorem dX1_keep_138 : decode cX1_keep 138 = .ok (.dastore, 1) := by decide +kernel
theorem dX1_keep_139 : decode cX1_keep 139 = .ok (.aload_n 0, 1) := by decide +kernel
theorem dX1_keep_140 : decode cX1_keep 140 = .ok (.getfield 92, 3) := by decide +kernel
theorem dX1_keep_143 : decode cX1_keep 143 = .ok (.iload_n 1, 1) := by decide +kernel
theorem dX1_keep_144 : decode cX1_keep 144 = .ok (.aload_n 0, 1) := by decide +kernel
theorem dX1_keep_145 : decode cX1_keep 145 = .ok (.getfield 62, 3) := by decide +kernel
theorem dX1_keep_148 : decode cX1_keep 148 = .ok (.iload_n 1, 1) := by decide +kernel
theorem dX1_keep_149 : decode cX1_keep 149 = .ok (.faload, 1) := by decide +kernel
theorem dX1_keep_150 : decode cX1_keep 150 = .ok (.fastore, 1) := by decide +kernel
theorem dX1_keep_151 : decode cX1_keep 151 = .ok (.iinc 1 1, 3) := by decide +kernel
theorem dX1_keep_154 : decode cX1_keep 154 = .ok (.goto (-34), 3) := by decide +kernel
theorem dX1_keep_157 : decode cX1_keep 157 = .ok (.return_, 1) := by decide +kernel
theorem dX1_back_0 : decode cX1_back 0 = .ok (.aload_n 0, 1) := by decide +kernel
theorem dX1_back_1 : decode cX1_back 1 = .ok (.aload_n 0, 1) := by decide +kernel
theorem dX1_back_2 : decode cX1_back 2 = .ok (.getfield 362, 3) := by decide +kernel
theorem dX1_back_5 : decode cX1_back 5 = .ok (.putfield 322, 3) := by decide +kernel
theorem dX1_back_8 : decode cX1_back 8 = .ok (.iconst 0, 1) := by decide +kernel
theorem dX1_back_9 : decode cX1_back 9 = .ok (.istore_n 1, 1) := by decide +kernel
theorem dX1_back_10 : decode cX1_back 10 = .ok (.iload_n 1, 1) := by decide +kernel
theorem dX1_back_11 : decode cX1_back 11 = .ok (.bipush 20, 2) := by decide +kernel
theorem dX1_back_13 : decode cX1_back 13 = .ok (.if_icmp .ge 105, 3) := by decide +kernel
theorem dX1_back_16 : decode cX1_back 16 = .ok (.aload_n 0, 1) := by decide +kernel
theorem dX1_back_17 : decode cX1_back 17 = .ok (.getfield 46, 3) := by decide +kernel
theorem dX1_back_20 : decode cX1_back 20 = .ok (.iload_n 1, 1) := by decide +kernel
theorem dX1_back_21 : decode cX1_back 21 = .ok (.aload_n 0, 1) := by decide +kernel
theorem dX1_back_22 : decode cX1_back 22 = .ok (.getfield 77, 3) := by decide +kernel
theorem dX1_back_25 : decode cX1_back 25 = .ok (.iload_n 1, 1) := by decide +kernel
theorem dX1_back_26 : decode cX1_back 26 = .ok (.daload, 1) := by decide +kernel
theorem dX1_back_27 : decode cX1_back 27 = .ok (.dastore, 1) := by decide +kernel
theorem dX1_back_28 : decode cX1_back 28 = .ok (.aload_n 0, 1) := by decide +kernel
theorem dX1_back_29 : decode cX1_back 29 = .ok (.getfield 49, 3) := by decide +kernel
theorem dX1_back_32 : decode cX1_back 32 = .ok (.iload_n 1, 1) := by decide +kernel
theorem dX1_back_33 : decode cX1_back 33 = .ok (.aload_n 0, 1) := by decide +kernel
theorem dX1_back_34 : decode cX1_back 34 = .ok (.getfield 80, 3) := by decide +kernel
theorem dX1_back_37 : decode cX1_back 37 = .ok (.iload_n 1, 1) := by decide +kernel
theorem dX1_back_38 : decode cX1_back 38 = .ok (.faload, 1) := by decide +kernel
theorem dX1_back_39 : decode cX1_back 39 = .ok (.fastore, 1) := by decide +kernel
theorem dX1_back_40 : decode cX1_back 40 = .ok (.aload_n 0, 1) := by decide +kernel
theorem dX1_back_41 : decode cX1_back 41 = .ok (.getfield 53, 3) := by decide +kernel
theorem dX1_back_44 : decode cX1_back 44 = .ok (.iload_n 1, 1) := by decide +kernel
theorem dX1_back_45 : decode cX1_back 45 = .ok (.aload_n 0, 1) := by decide +kernel
theorem dX1_back_46 : decode cX1_back 46 = .ok (.getfield 83, 3) := by decide +kernel
theorem dX1_back_49 : decode cX1_back 49 = .ok (.iload_n 1, 1) := by decide +kernel
theorem dX1_back_50 : decode cX1_back 50 = .ok (.daload, 1) := by decide +kernel
theorem dX1_back_51 : decode cX1_back 51 = .ok (.dastore, 1) := by decide +kernel
theorem dX1_back_52 : decode cX1_back 52 = .ok (.aload_n 0, 1) := by decide +kernel
theorem dX1_back_53 : decode cX1_back 53 = .ok (.getfield 56, 3) := by decide +kernel
theorem dX1_back_56 : decode cX1_back 56 = .ok (.iload_n 1, 1) := by decide +kernel
theorem dX1_back_57 : decode cX1_back 57 = .ok (.aload_n 0, 1) := by decide +kernel
theorem dX1_back_58 : decode cX1_back 58 = .ok (.getfield 86, 3) := by decide +kernel
theorem dX1_back_61 : decode cX1_back 61 = .ok (.iload_n 1, 1) := by decide +kernel
theorem dX1_back_62 : decode cX1_back 62 = .ok (.faload, 1) := by decide +kernel
theorem dX1_back_63 : decode cX1_back 63 = .ok (.fastore, 1) := by decide +kernel
theorem dX1_back_64 : decode cX1_back 64 = .ok (.aload_n 0, 1) := by decide +kernel
theorem dX1_back_65 : decode cX1_back 65 = .ok (.getfield 65, 3) := by decide +kernel
theorem dX1_back_68 : decode cX1_back 68 = .ok (.iload_n 1, 1) := by decide +kernel
theorem dX1_back_69 : decode cX1_back 69 = .ok (.aload_n 0, 1) := by decide +kernel
theorem dX1_back_70 : decode cX1_back 70 = .ok (.getfield 95, 3) := by decide +kernel
theorem dX1_back_73 : decode cX1_back 73 = .ok (.iload_n 1, 1) := by decide +kernel
theorem dX1_back_74 : decode cX1_back 74 = .ok (.iaload, 1) := by decide +kernel
theorem dX1_back_75 : decode cX1_back 75 = .ok (.iastore, 1) := by decide +kernel
theorem dX1_back_76 : decode cX1_back 76 = .ok (.aload_n 0, 1) := by decide +kernel
theorem dX1_back_77 : decode cX1_back 77 = .ok (.getfield 68, 3) := by decide +kernel
theorem dX1_back_80 : decode cX1_back 80 = .ok (.iload_n 1, 1) := by decide +kernel
theorem dX1_back_81 : decode cX1_back 81 = .ok (.aload_n 0, 1) := by decide +kernel
theorem dX1_back_82 : decode cX1_back 82 = .ok (.getfield 98, 3) := by decide +kernel
theorem dX1_back_85 : decode cX1_back 85 = .ok (.iload_n 1, 1) := by decide +kernel
theorem dX1_back_86 : decode cX1_back 86 = .ok (.iaload, 1) := by decide +kernel
theorem dX1_back_87 : decode cX1_back 87 = .ok (.iastore, 1) := by decide +kernel
theorem dX1_back_88 : decode cX1_back 88 = .ok (.aload_n 0, 1) := by decide +kernel
theorem dX1_back_89 : decode cX1_back 89 = .ok (.getfield 71, 3) := by decide +kernel
theorem dX1_back_92 : decode cX1_back 92 = .ok (.iload_n 1, 1) := by decide +kernel
theorem dX1_back_93 : decode cX1_back 93 = .ok (.aload_n 0, 1) := by decide +kernel
theorem dX1_back_94 : decode cX1_back 94 = .ok (.getfield 101, 3) := by decide +kernel
theorem dX1_back_97 : decode cX1_back 97 = .ok (.iload_n 1, 1) := by decide +kernel
theorem dX1_back_98 : decode cX1_back 98 = .ok (.daload, 1) := by decide +kernel
theorem dX1_back_99 : decode cX1_back 99 = .ok (.dastore, 1) := by decide +kernel
theorem dX1_back_100 : decode cX1_back 100 = .ok (.aload_n 0, 1) := by decide +kernel
theorem dX1_back_101 : decode cX1_back 101 = .ok (.getfield 74, 3) := by decide +kernel
theorem dX1_back_104 : decode cX1_back 104 = .ok (.iload_n 1, 1) := by decide +kernel
theorem dX1_back_105 : decode cX1_back 105 = .ok (.aload_n 0, 1) := by decide +kernel
theorem dX1_back_106 : decode cX1_back 106 = .ok (.getfield 104, 3) := by decide +kernel
theorem dX1_back_109 : decode cX1_back 109 = .ok (.iload_n 1, 1) := by decide +kernel
theorem dX1_back_110 : decode cX1_back 110 = .ok (.daload, 1) := by decide +kernel
theorem dX1_back_111 : decode cX1_back 111 = .ok (.dastore, 1) := by decide +kernel
theorem dX1_back_112 : decode cX1_back 112 = .ok (.iinc 1 1, 3) := by decide +kernel
theorem dX1_back_115 : decode cX1_back 115 = .ok (.goto (-105), 3) := by decide +kernel
theorem dX1_back_118 : decode cX1_back 118 = .ok (.iconst 0, 1) := by decide +kernel
theorem dX1_back_119 : decode cX1_back 119 = .ok (.istore_n 1, 1) := by decide +kernel
theorem dX1_back_120 : decode cX1_back 120 = .ok (.iload_n 1, 1) := by decide +kernel
theorem dX1_back_121 : decode cX1_back 121 = .ok (.sipush 320, 3) := by decide +kernel
theorem dX1_back_124 : decode cX1_back 124 = .ok (.if_icmp .ge 33, 3) := by decide +kernel
theorem dX1_back_127 : decode cX1_back 127 = .ok (.aload_n 0, 1) := by decide +kernel
theorem dX1_back_128 : decode cX1_back 128 = .ok (.getfield 59, 3) := by decide +kernel
theorem dX1_back_131 : decode cX1_back 131 = .ok (.iload_n 1, 1) := by decide +kernel
theorem dX1_back_132 : decode cX1_back 132 = .ok (.aload_n 0, 1) := by decide +kernel
theorem dX1_back_133 : decode cX1_back 133 = .ok (.getfield 89, 3) := by decide +kernel
theorem dX1_back_136 : decode cX1_back 136 = .ok (.iload_n 1, 1) := by decide +kernel
theorem dX1_back_137 : decode cX1_back 137 = .ok (.daload, 1) := by decide +kernel
theorem dX1_back_138 : decode cX1_back 138 = .ok (.dastore, 1) := by decide +kernel
theorem dX1_back_139 : decode cX1_back 139 = .ok (.aload_n 0, 1) := by decide +kernel
theorem dX1_back_140 : decode cX1_back 140 = .ok (.getfield 62, 3) := by decide +kernel
theorem dX1_back_143 : decode cX1_back 143 = .ok (.iload_n 1, 1) := by decide +kernel
theorem dX1_back_144 : decode cX1_back 144 = .ok (.aload_n 0, 1) := by decide +kernel
theorem dX1_back_145 : decode cX1_back 145 = .ok (.getfield 92, 3) := by decide +kernel
theorem dX1_back_148 : decode cX1_back 148 = .ok (.iload_n 1, 1) := by decide +kernel
theorem dX1_back_149 : decode cX1_back 149 = .ok (.faload, 1) := by decide +kernel
theorem dX1_back_150 : decode cX1_back 150 = .ok (.fastore, 1) := by decide +kernel
theorem dX1_back_151 : decode cX1_back 151 = .ok (.iinc 1 1, 3) := by decide +kernel
theorem dX1_back_154 : decode cX1_back 154 = .ok (.goto (-34), 3) := by decide +kernel
theorem dX1_back_157 : decode cX1_back 157 = .ok (.return_, 1) := by decide +kernel
theorem dX1_mix_0 : decode cX1_mix 0 = .ok (.aload_n 0, 1) := by decide +kernel
theorem dX1_mix_1 : decode cX1_mix 1 = .ok (.ldc2_w 381, 3) := by decide +kernel
theorem dX1_mix_4 : decode cX1_mix 4 = .ok (.aload_n 0, 1) := by decide +kernel
theorem dX1_mix_5 : decode cX1_mix 5 = .ok (.getfield 383, 3) := by decide +kernel
theorem dX1_mix_8 : decode cX1_mix 8 = .ok (.lmul, 1) := by decide +kernel
theorem dX1_mix_9 : decode cX1_mix 9 = .ok (.lload_n 1, 1) := by decide +kernel
theorem dX1_mix_10 : decode cX1_mix 10 = .ok (.ladd, 1) := by decide +kernel
theorem dX1_mix_11 : decode cX1_mix 11 = .ok (.putfield 383, 3) := by decide +kernel
theorem dX1_mix_14 : decode cX1_mix 14 = .ok (.return_, 1) := by decide +kernel
theorem dX1_digest_0 : decode cX1_digest 0 = .ok (.aload_n 0, 1) := by decide +kernel
theorem dX1_digest_1 : decode cX1_digest 1 = .ok (.ldc2_w 387, 3) := by decide +kernel
theorem dX1_digest_4 : decode cX1_digest 4 = .ok (.putfield 383, 3) := by decide +kernel
theorem dX1_digest_7 : decode cX1_digest 7 = .ok (.aload_n 0, 1) := by decide +kernel
theorem dX1_digest_8 : decode cX1_digest 8 = .ok (.aload_n 0, 1) := by decide +kernel
theorem dX1_digest_9 : decode cX1_digest 9 = .ok (.getfield 195, 3) := by decide +kernel
theorem dX1_digest_12 : decode cX1_digest 12 = .ok (.i2l, 1) := by decide +kernel
theorem dX1_digest_13 : decode cX1_digest 13 = .ok (.invokevirtual 389, 3) := by decide +kernel
theorem dX1_digest_16 : decode cX1_digest 16 = .ok (.aload_n 0, 1) := by decide +kernel
theorem dX1_digest_17 : decode cX1_digest 17 = .ok (.aload_n 0, 1) := by decide +kernel
theorem dX1_digest_18 : decode cX1_digest 18 = .ok (.getfield 322, 3) := by decide +kernel
theorem dX1_digest_21 : decode cX1_digest 21 = .ok (.i2l, 1) := by decide +kernel
theorem dX1_digest_22 : decode cX1_digest 22 = .ok (.invokevirtual 389, 3) := by decide +kernel
theorem dX1_digest_25 : decode cX1_digest 25 = .ok (.iconst 0, 1) := by decide +kernel
theorem dX1_digest_26 : decode cX1_digest 26 = .ok (.istore_n 1, 1) := by decide +kernel
theorem dX1_digest_27 : decode cX1_digest 27 = .ok (.iload_n 1, 1) := by decide +kernel
theorem dX1_digest_28 : decode cX1_digest 28 = .ok (.aload_n 0, 1) := by decide +kernel
theorem dX1_digest_29 : decode cX1_digest 29 = .ok (.getfield 158, 3) := by decide +kernel
theorem dX1_digest_32 : decode cX1_digest 32 = .ok (.if_icmp .ge 144, 3) := by decide +kernel
theorem dX1_digest_35 : decode cX1_digest 35 = .ok (.aload_n 0, 1) := by decide +kernel
theorem dX1_digest_36 : decode cX1_digest 36 = .ok (.aload_n 0, 1) := by decide +kernel
theorem dX1_digest_37 : decode cX1_digest 37 = .ok (.getfield 7, 3) := by decide +kernel
theorem dX1_digest_40 : decode cX1_digest 40 = .ok (.iload_n 1, 1) := by decide +kernel
theorem dX1_digest_41 : decode cX1_digest 41 = .ok (.iaload, 1) := by decide +kernel
theorem dX1_digest_42 : decode cX1_digest 42 = .ok (.i2l, 1) := by decide +kernel
theorem dX1_digest_43 : decode cX1_digest 43 = .ok (.invokevirtual 389, 3) := by decide +kernel
theorem dX1_digest_46 : decode cX1_digest 46 = .ok (.aload_n 0, 1) := by decide +kernel
theorem dX1_digest_47 : decode cX1_digest 47 = .ok (.aload_n 0, 1) := by decide +kernel
theorem dX1_digest_48 : decode cX1_digest 48 = .ok (.getfield 13, 3) := by decide +kernel
theorem dX1_digest_51 : decode cX1_digest 51 = .ok (.iload_n 1, 1) := by decide +kernel
theorem dX1_digest_52 : decode cX1_digest 52 = .ok (.daload, 1) := by decide +kernel
theorem dX1_digest_53 : decode cX1_digest 53 = .ok (.invokestatic 250, 3) := by decide +kernel
theorem dX1_digest_56 : decode cX1_digest 56 = .ok (.invokevirtual 389, 3) := by decide +kernel
theorem dX1_digest_59 : decode cX1_digest 59 = .ok (.iconst 0, 1) := by decide +kernel
theorem dX1_digest_60 : decode cX1_digest 60 = .ok (.istore_n 2, 1) := by decide +kernel
theorem dX1_digest_61 : decode cX1_digest 61 = .ok (.iload_n 2, 1) := by decide +kernel
theorem dX1_digest_62 : decode cX1_digest 62 = .ok (.bipush 6, 2) := by decide +kernel
theorem dX1_digest_64 : decode cX1_digest 64 = .ok (.if_icmp .ge 48, 3) := by decide +kernel
theorem dX1_digest_67 : decode cX1_digest 67 = .ok (.aload_n 0, 1) := by decide +kernel
theorem dX1_digest_68 : decode cX1_digest 68 = .ok (.aload_n 0, 1) := by decide +kernel
theorem dX1_digest_69 : decode cX1_digest 69 = .ok (.getfield 17, 3) := by decide +kernel
theorem dX1_digest_72 : decode cX1_digest 72 = .ok (.bipush 6, 2) := by decide +kernel
theorem dX1_digest_74 : decode cX1_digest 74 = .ok (.iload_n 1, 1) := by decide +kernel
theorem dX1_digest_75 : decode cX1_digest 75 = .ok (.imul, 1) := by decide +kernel
theorem dX1_digest_76 : decode cX1_digest 76 = .ok (.iload_n 2, 1) := by decide +kernel
theorem dX1_digest_77 : decode cX1_digest 77 = .ok (.iadd, 1) := by decide +kernel
theorem dX1_digest_78 : decode cX1_digest 78 = .ok (.iaload, 1) := by decide +kernel
theorem dX1_digest_79 : decode cX1_digest 79 = .ok (.i2l, 1) := by decide +kernel
theorem dX1_digest_80 : decode cX1_digest 80 = .ok (.invokevirtual 389, 3) := by decide +kernel
theorem dX1_digest_83 : decode cX1_digest 83 = .ok (.aload_n 0, 1) := by decide +kernel
theorem dX1_digest_84 : decode cX1_digest 84 = .ok (.aload_n 0, 1) := by decide +kernel
theorem dX1_digest_85 : decode cX1_digest 85 = .ok (.getfield 20, 3) := by decide +kernel
theorem dX1_digest_88 : decode cX1_digest 88 = .ok (.bipush 6, 2) := by decide +kernel
theorem dX1_digest_90 : decode cX1_digest 90 = .ok (.iload_n 1, 1) := by decide +kernel
theorem dX1_digest_91 : decode cX1_digest 91 = .ok (.imul, 1) := by decide +kernel
theorem dX1_digest_92 : decode cX1_digest 92 = .ok (.iload_n 2, 1) := by decide +kernel
theorem dX1_digest_93 : decode cX1_digest 93 = .ok (.iadd, 1) := by decide +kernel
theorem dX1_digest_94 : decode cX1_digest 94 = .ok (.baload, 1) := by decide +kernel
theorem dX1_digest_95 : decode cX1_digest 95 = .ok (.ifCond .eq 7, 3) := by decide +kernel
theorem dX1_digest_98 : decode cX1_digest 98 = .ok (.lconst 1, 1) := by decide +kernel
theorem dX1_digest_99 : decode cX1_digest 99 = .ok (.goto 4, 3) := by decide +kernel
theorem dX1_digest_102 : decode cX1_digest 102 = .ok (.lconst 0, 1) := by decide +kernel
theorem dX1_digest_103 : decode cX1_digest 103 = .ok (.invokevirtual 389, 3) := by decide +kernel
theorem dX1_digest_106 : decode cX1_digest 106 = .ok (.iinc 2 1, 3) := by decide +kernel
theorem dX1_digest_109 : decode cX1_digest 109 = .ok (.goto (-48), 3) := by decide +kernel
theorem dX1_digest_112 : decode cX1_digest 112 = .ok (.aload_n 0, 1) := by decide +kernel
theorem dX1_digest_113 : decode cX1_digest 113 = .ok (.aload_n 0, 1) := by decide +kernel
theorem dX1_digest_114 : decode cX1_digest 114 = .ok (.getfield 24, 3) := by decide +kernel
theorem dX1_digest_117 : decode cX1_digest 117 = .ok (.iload_n 1, 1) := by decide +kernel
theorem dX1_digest_118 : decode cX1_digest 118 = .ok (.daload, 1) := by decide +kernel
theorem dX1_digest_119 : decode cX1_digest 119 = .ok (.invokestatic 250, 3) := by decide +kernel
theorem dX1_digest_122 : decode cX1_digest 122 = .ok (.invokevirtual 389, 3) := by decide +kernel
theorem dX1_digest_125 : decode cX1_digest 125 = .ok (.aload_n 0, 1) := by decide +kernel
theorem dX1_digest_126 : decode cX1_digest 126 = .ok (.getfield 195, 3) := by decide +kernel
theorem dX1_digest_129 : decode cX1_digest 129 = .ok (.ifCond .eq 41, 3) := by decide +kernel
theorem dX1_digest_132 : decode cX1_digest 132 = .ok (.aload_n 0, 1) := by decide +kernel
theorem dX1_digest_133 : decode cX1_digest 133 = .ok (.aload_n 0, 1) := by decide +kernel
theorem dX1_digest_134 : decode cX1_digest 134 = .ok (.getfield 53, 3) := by decide +kernel
theorem dX1_digest_137 : decode cX1_digest 137 = .ok (.iload_n 1, 1) := by decide +kernel
theorem dX1_digest_138 : decode cX1_digest 138 = .ok (.daload, 1) := by decide +kernel
theorem dX1_digest_139 : decode cX1_digest 139 = .ok (.invokestatic 250, 3) := by decide +kernel
theorem dX1_digest_142 : decode cX1_digest 142 = .ok (.invokevirtual 389, 3) := by decide +kernel
theorem dX1_digest_145 : decode cX1_digest 145 = .ok (.aload_n 0, 1) := by decide +kernel
theorem dX1_digest_146 : decode cX1_digest 146 = .ok (.aload_n 0, 1) := by decide +kernel
theorem dX1_digest_147 : decode cX1_digest 147 = .ok (.getfield 56, 3) := by decide +kernel
theorem dX1_digest_150 : decode cX1_digest 150 = .ok (.iload_n 1, 1) := by decide +kernel
theorem dX1_digest_151 : decode cX1_digest 151 = .ok (.faload, 1) := by decide +kernel
theorem dX1_digest_152 : decode cX1_digest 152 = .ok (.invokestatic 353, 3) := by decide +kernel
theorem dX1_digest_155 : decode cX1_digest 155 = .ok (.i2l, 1) := by decide +kernel
theorem dX1_digest_156 : decode cX1_digest 156 = .ok (.invokevirtual 389, 3) := by decide +kernel
theorem dX1_digest_159 : decode cX1_digest 159 = .ok (.aload_n 0, 1) := by decide +kernel
theorem dX1_digest_160 : decode cX1_digest 160 = .ok (.aload_n 0, 1) := by decide +kernel
theorem dX1_digest_161 : decode cX1_digest 161 = .ok (.getfield 68, 3) := by decide +kernel
theorem dX1_digest_164 : decode cX1_digest 164 = .ok (.iload_n 1, 1) := by decide +kernel
theorem dX1_digest_165 : decode cX1_digest 165 = .ok (.iaload, 1) := by decide +kernel
theorem dX1_digest_166 : decode cX1_digest 166 = .ok (.i2l, 1) := by decide +kernel
theorem dX1_digest_167 : decode cX1_digest 167 = .ok (.invokevirtual 389, 3) := by decide +kernel
theorem dX1_digest_170 : decode cX1_digest 170 = .ok (.iinc 1 1, 3) := by decide +kernel
theorem dX1_digest_173 : decode cX1_digest 173 = .ok (.goto (-146), 3) := by decide +kernel
theorem dX1_digest_176 : decode cX1_digest 176 = .ok (.iconst 0, 1) := by decide +kernel
theorem dX1_digest_177 : decode cX1_digest 177 = .ok (.istore_n 1, 1) := by decide +kernel
theorem dX1_digest_178 : decode cX1_digest 178 = .ok (.iload_n 1, 1) := by decide +kernel
theorem dX1_digest_179 : decode cX1_digest 179 = .ok (.aload_n 0, 1) := by decide +kernel
theorem dX1_digest_180 : decode cX1_digest 180 = .ok (.getfield 332, 3) := by decide +kernel
theorem dX1_digest_183 : decode cX1_digest 183 = .ok (.if_icmp .ge 56, 3) := by decide +kernel
theorem dX1_digest_186 : decode cX1_digest 186 = .ok (.aload_n 0, 1) := by decide +kernel
theorem dX1_digest_187 : decode cX1_digest 187 = .ok (.aload_n 0, 1) := by decide +kernel
theorem dX1_digest_188 : decode cX1_digest 188 = .ok (.getfield 110, 3) := by decide +kernel
theorem dX1_digest_191 : decode cX1_digest 191 = .ok (.iload_n 1, 1) := by decide +kernel
theorem dX1_digest_192 : decode cX1_digest 192 = .ok (.iaload, 1) := by decide +kernel
theorem dX1_digest_193 : decode cX1_digest 193 = .ok (.i2l, 1) := by decide +kernel
theorem dX1_digest_194 : decode cX1_digest 194 = .ok (.invokevirtual 389, 3) := by decide +kernel
theorem dX1_digest_197 : decode cX1_digest 197 = .ok (.iconst 0, 1) := by decide +kernel
theorem dX1_digest_198 : decode cX1_digest 198 = .ok (.istore_n 2, 1) := by decide +kernel
theorem dX1_digest_199 : decode cX1_digest 199 = .ok (.iload_n 2, 1) := by decide +kernel
theorem dX1_digest_200 : decode cX1_digest 200 = .ok (.aload_n 0, 1) := by decide +kernel
theorem dX1_digest_201 : decode cX1_digest 201 = .ok (.getfield 110, 3) := by decide +kernel
theorem dX1_digest_204 : decode cX1_digest 204 = .ok (.iload_n 1, 1) := by decide +kernel
theorem dX1_digest_205 : decode cX1_digest 205 = .ok (.iaload, 1) := by decide +kernel
theorem dX1_digest_206 : decode cX1_digest 206 = .ok (.if_icmp .ge 27, 3) := by decide +kernel
theorem dX1_digest_209 : decode cX1_digest 209 = .ok (.aload_n 0, 1) := by decide +kernel
theorem dX1_digest_210 : decode cX1_digest 210 = .ok (.aload_n 0, 1) := by decide +kernel
theorem dX1_digest_211 : decode cX1_digest 211 = .ok (.getfield 113, 3) := by decide +kernel
theorem dX1_digest_214 : decode cX1_digest 214 = .ok (.bipush 120, 2) := by decide +kernel
theorem dX1_digest_216 : decode cX1_digest 216 = .ok (.iload_n 1, 1) := by decide +kernel
theorem dX1_digest_217 : decode cX1_digest 217 = .ok (.imul, 1) := by decide +kernel
theorem dX1_digest_218 : decode cX1_digest 218 = .ok (.iload_n 2, 1) := by decide +kernel
theorem dX1_digest_219 : decode cX1_digest 219 = .ok (.iadd, 1) := by decide +kernel
theorem dX1_digest_220 : decode cX1_digest 220 = .ok (.daload, 1) := by decide +kernel
theorem dX1_digest_221 : decode cX1_digest 221 = .ok (.invokestatic 250, 3) := by decide +kernel
theorem dX1_digest_224 : decode cX1_digest 224 = .ok (.invokevirtual 389, 3) := by decide +kernel
theorem dX1_digest_227 : decode cX1_digest 227 = .ok (.iinc 2 1, 3) := by decide +kernel
theorem dX1_digest_230 : decode cX1_digest 230 = .ok (.goto (-31), 3) := by decide +kernel
theorem dX1_digest_233 : decode cX1_digest 233 = .ok (.iinc 1 1, 3) := by decide +kernel
theorem dX1_digest_236 : decode cX1_digest 236 = .ok (.goto (-58), 3) := by decide +kernel
theorem dX1_digest_239 : decode cX1_digest 239 = .ok (.aload_n 0, 1) := by decide +kernel
theorem dX1_digest_240 : decode cX1_digest 240 = .ok (.getfield 383, 3) := by decide +kernel
theorem dX1_digest_243 : decode cX1_digest 243 = .ok (.lreturn, 1) := by decide +kernel
theorem hd_X1_mix : yX1_mix.cls = RX1 ∧ yX1_mix.cls ≠ "java/lang/invoke/MethodHandle" ∧ yX1_mix.cls ≠ "java/lang/invoke/VarHandle" ∧ (parseMethodDescriptor yX1_mix.desc).map (fun d => d.parameters.length) = some 1 := by decide +kernel
theorem mt_X1_lengthOf (l : Launch) (D : va_G) (dA : Nat → ClassId) (ad : Nat → Nat) (C : tp_C) (d : md_T) (k : Nat) (hk : k < 23) : mC l D dA ad yX1_lengthOf cX1_lengthOf 5 (some .double) 0 [.int (nI k)] C d (some (.double (hvT k))) C d := by
  refine mm_start (by decide) rfl (Nat.le_of_ble_eq_true rfl) ?_
  intro p0 e0 s0 mid bl0 me0 co0 ls S hr hlk G hl
  have hx := S.1; have hb := S.2.1; have hml := S.2.2.1; have hown := S.2.2.2.1; have hts := S.2.2.2.2
  have hl : lv_has ls 5 [(0, .ref (ad 0)), (1, .int (nI k))] := hl
  have L1 : ∀ (n_ i : Nat), i ≤ k → k < i + n_ → ∀ (H : Heap) (locs : List Loc) (ls : Array Slot), mG D dA ad C d s0 H locs → lv_has ls 5 [(4, .int (nI i)), (2, .double (hvT i)), (0, .ref (ad 0)), (1, .int (nI k))] → (∀ (H : Heap) (locs : List Loc) (ls : Array Slot), mG D dA ad C d s0 H locs → lv_has ls 5 [(4, .int (nI k)), (2, .double (hvT k)), (0, .ref (ad 0)), (1, .int (nI k))] → W p0 l e0 (rm_ 0) s0 mid (Value.ref (ad 0) :: [.int (nI k)]).toArray bl0 me0 co0 H locs 0 0 (MQ bl0 (mQ D dA ad (some (.double (hvT k))) C d) (Value.ref (ad 0) :: [.int (nI k)]).toArray s0 0 0 (mA ad)) (F0 mid 23 ls [])) → W p0 l e0 (rm_ 0) s0 mid (Value.ref (ad 0) :: [.int (nI k)]).toArray bl0 me0 co0 H locs 0 0 (MQ bl0 (mQ D dA ad (some (.double (hvT k))) C d) (Value.ref (ad 0) :: [.int (nI k)]).toArray s0 0 0 (mA ad)) (F0 mid 5 ls []) := by
    intro n_
    induction n_ with
    | zero => intro i h1_ h2_; exact absurd h2_ (by omega)
    | succ n_ ih =>
      intro i h1_ h2_ H locs ls G hl kk
      refine lv_iload hx hb dX1_lengthOf_5 (lv_at hl 0 rfl) ?_
      refine lv_iload_n hx hb dX1_lengthOf_7 rfl (lv_at hl 3 rfl) ?_
      refine nn_cge (tgt := 23) hx hb (by omega) (by omega) dX1_lengthOf_8 (by decide) (fun c_8 => ?_) (fun c_8 => ?_)
      · have hiN : i = k := by omega
        subst hiN
        exact kk H locs ls G (lv_sub hl [0, 1, 2, 3] rfl)
      · refine lv_dload_n hx hb dX1_lengthOf_11 rfl (lv_at hl 1 rfl) ?_
        refine lv_ldc2d hx hb hown (hts _ q1627) dX1_lengthOf_12 ?_
        refine lv_ddiv hx hb dX1_lengthOf_15 (hv_n (k := i + 1) (by omega)) ?_
        refine lv_dstore_n (lv' := [(2, .double (FP.ddiv (hvT i) 4611686018427387904)), (4, .int (nI i)), (0, .ref (ad 0)), (1, .int (nI k))]) hx hb dX1_lengthOf_16 rfl hl (by decide) rfl (fun ls hl => ?_)
        refine lv_iinc (v := nI (i + 1)) (lv' := [(4, .int (nI (i + 1))), (2, .double (FP.ddiv (hvT i) 4611686018427387904)), (0, .ref (ad 0)), (1, .int (nI k))]) hx hb dX1_lengthOf_17 hl (k := 1) rfl (nI_1 _) (by decide) rfl (fun ls hl => ?_)
        refine lv_goto (tgt := 5) hx hb dX1_lengthOf_20 (by decide) ?_
        exact ih (i + 1) (by omega) (by omega) H locs ls G (lv_eq (lv_sub (l' := [(4, .int (nI (i + 1))), (2, .double (FP.ddiv (hvT i) 4611686018427387904)), (0, .ref (ad 0)), (1, .int (nI k))]) hl [0, 1, 2, 3] rfl) (by rfl)) kk
  refine lv_dconst1 hx hb dX1_lengthOf_0 ?_
  refine lv_dstore_n (lv' := [(2, .double FP.dconst1), (0, .ref (ad 0)), (1, .int (nI k))]) hx hb dX1_lengthOf_1 rfl hl (by decide) rfl (fun ls hl => ?_)
  refine lv_iconst (v := nI 0) hx hb dX1_lengthOf_2 (by decide) ?_
  refine lv_istore (lv' := [(4, .int (nI 0)), (2, .double FP.dconst1), (0, .ref (ad 0)), (1, .int (nI k))]) hx hb dX1_lengthOf_3 hl (by decide) rfl (fun ls hl => ?_)
  refine L1 (k + 1) 0 (by omega) (by omega) _ _ ls G (lv_eq (lv_sub (l' := [(4, .int (nI 0)), (2, .double FP.dconst1), (0, .ref (ad 0)), (1, .int (nI k))]) hl [0, 1, 2, 3] rfl) (by rfl)) (fun H locs ls G hl => ?_)
  refine lv_dload_n hx hb dX1_lengthOf_23 rfl (lv_at hl 1 rfl) ?_
  exact mm_dret S hr hlk G rfl rfl rfl dX1_lengthOf_24
theorem mt_X1_toStrips (l : Launch) (D : va_G) (dA : Nat → ClassId) (ad : Nat → Nat) (C : tp_C) (d : md_T) (hC : mOK C) (hSm : smOK d) (hSc : ∀ s, s < cZ C → cntN d s < 120) : mC l D dA ad yX1_toStrips cX1_toStrips 2 none 0 [] C d none C (tsD C d) := by
  refine mm_start (by decide) rfl (Nat.le_of_ble_eq_true rfl) ?_
  intro p0 e0 s0 mid bl0 me0 co0 ls S hr hlk G hl
  have hx := S.1; have hb := S.2.1; have hml := S.2.2.1; have hown := S.2.2.2.1; have hts := S.2.2.2.2
  have hl : lv_has ls 2 [(0, .ref (ad 0))] := hl
  have hN := hC.n
  have hZ := hC.z
  have L1 : ∀ (n_ s : Nat), s ≤ cZ C → cZ C < s + n_ → ∀ (H : Heap) (locs : List Loc) (ls : Array Slot), mG D dA ad C (tsI C d s) s0 H locs → lv_has ls 2 [(1, .int (nI s)), (0, .ref (ad 0))] → (∀ (H : Heap) (locs : List Loc) (ls : Array Slot), mG D dA ad C (tsI C d (cZ C)) s0 H locs → lv_has ls 2 [(1, .int (nI (cZ C))), (0, .ref (ad 0))] → W p0 l e0 (rm_ 0) s0 mid (Value.ref (ad 0) :: []).toArray bl0 me0 co0 H locs 0 0 (MQ bl0 (mQ D dA ad none C (tsD C d)) (Value.ref (ad 0) :: []).toArray s0 0 0 (mA ad)) (F0 mid 53 ls [])) → W p0 l e0 (rm_ 0) s0 mid (Value.ref (ad 0) :: []).toArray bl0 me0 co0 H locs 0 0 (MQ bl0 (mQ D dA ad none C (tsD C d)) (Value.ref (ad 0) :: []).toArray s0 0 0 (mA ad)) (F0 mid 2 ls []) := by
    intro n_
    induction n_ with
    | zero => intro s h1_ h2_; exact absurd h2_ (by omega)
    | succ n_ ih =>
      intro s h1_ h2_ H locs ls G hl kk
      refine lv_iload_n hx hb dX1_toStrips_2 rfl (lv_at hl 0 rfl) ?_
      refine lv_aload_n hx hb dX1_toStrips_3 rfl (lv_at hl 1 rfl) ?_
      refine mm_get S G 37 (by decide) q1304 rfl (v := .int (nI (cZ C))) rfl dX1_toStrips_4 ?_
      refine nn_cge (tgt := 53) hx hb (by omega) (by omega) dX1_toStrips_7 (by decide) (fun c_7 => ?_) (fun c_7 => ?_)
      · have hiN : s = cZ C := by omega
        subst hiN
        exact kk H locs ls G (lv_sub hl [0, 1] rfl)
      · have ho := hC.o (show s < cZ C by omega)
        have hc := hSc s (by omega)
        refine lv_aload_n hx hb dX1_toStrips_10 rfl (lv_at hl 1 rfl) ?_
        refine mm_get S G 40 (by decide) q1307 rfl (v := .ref (ad 41)) rfl dX1_toStrips_11 ?_
        refine lv_bipush (v := nI 120) hx hb dX1_toStrips_14 (by decide) ?_
        refine lv_iload_n hx hb dX1_toStrips_16 rfl (lv_at hl 0 rfl) ?_
        refine nn_mul hx hb dX1_toStrips_17 ?_
        refine lv_aload_n hx hb dX1_toStrips_18 rfl (lv_at hl 1 rfl) ?_
        refine mm_get S G 39 (by decide) q1306 rfl (v := .ref (ad 40)) rfl dX1_toStrips_19 ?_
        refine lv_iload_n hx hb dX1_toStrips_22 rfl (lv_at hl 0 rfl) ?_
        refine mm_iald S G 39 0 (by decide) (n := 6) rfl rfl (by omega) (by decide) (v := nI (cntN d s)) (by show pm (dAI d 39) s (fun s => nI (cntN d s + 1)) s = _; rw [pm_at]; exact hSm.eq s) dX1_toStrips_23 ?_
        refine nn_add hx hb dX1_toStrips_24 ?_
        refine lv_aload_n hx hb dX1_toStrips_25 rfl (lv_at hl 1 rfl) ?_
        refine mm_get S G 19 (by decide) q1286 rfl (v := .ref (ad 20)) rfl dX1_toStrips_26 ?_
        refine lv_aload_n hx hb dX1_toStrips_29 rfl (lv_at hl 1 rfl) ?_
        refine mm_get S G 38 (by decide) q1305 rfl (v := .ref (ad 39)) rfl dX1_toStrips_30 ?_
        refine lv_iload_n hx hb dX1_toStrips_33 rfl (lv_at hl 0 rfl) ?_
        refine mm_iald S G 38 0 (by decide) (n := 6) rfl rfl (by omega) (by decide) (v := nI (cO C s)) rfl dX1_toStrips_34 ?_
        refine mm_dald S G 19 2 (by decide) (n := 20) rfl rfl (by omega) (by decide) (v := dAD d 19 (cO C s)) rfl dX1_toStrips_35 ?_
        refine mm_dast S G 40 rfl (by decide) (n := 720) rfl (by omega) dX1_toStrips_36 (fun H locs G => ?_)
        refine lv_aload_n hx hb dX1_toStrips_37 rfl (lv_at hl 1 rfl) ?_
        refine mm_get S G 39 (by decide) q1306 rfl (v := .ref (ad 40)) rfl dX1_toStrips_38 ?_
        refine lv_iload_n hx hb dX1_toStrips_41 rfl (lv_at hl 0 rfl) ?_
        refine lv_dup2_11 hx hb dX1_toStrips_42 rfl rfl ?_
        refine mm_iald S G 39 0 (by decide) (n := 6) rfl rfl (by omega) (by decide) (v := nI (cntN d s)) (by show pm (dAI d 39) s (fun s => nI (cntN d s + 1)) s = _; rw [pm_at]; exact hSm.eq s) dX1_toStrips_43 ?_
        refine lv_iconst (v := nI 1) hx hb dX1_toStrips_44 (by decide) ?_
        refine nn_add hx hb dX1_toStrips_45 ?_
        refine mm_iast S G 39 rfl (by decide) (n := 6) rfl (by omega) dX1_toStrips_46 (fun H locs G => ?_)
        refine lv_iinc (v := nI (s + 1)) (lv' := [(1, .int (nI (s + 1))), (0, .ref (ad 0))]) hx hb dX1_toStrips_47 hl (k := 0) rfl (nI_1 _) (by decide) rfl (fun ls hl => ?_)
        refine lv_goto (tgt := 2) hx hb dX1_toStrips_50 (by decide) ?_
        exact ih (s + 1) (by omega) (by omega) H locs ls (mG_d (by exact tsI_s C d s hc) G) (lv_sub hl [0, 1] rfl) kk
  refine lv_iconst (v := nI 0) hx hb dX1_toStrips_0 (by decide) ?_
  refine lv_istore_n (lv' := [(1, .int (nI 0)), (0, .ref (ad 0))]) hx hb dX1_toStrips_1 rfl hl (by decide) rfl (fun ls hl => ?_)
  refine L1 (cZ C + 1) 0 (by omega) (by omega) _ _ ls (mG_d (by exact (tsI_0 C d).symm) G) (lv_sub hl [0, 1] rfl) (fun H locs ls G hl => ?_)
  exact mm_vret S hr hlk G rfl (by rfl) dX1_toStrips_53
theorem mt_X1_keep (l : Launch) (D : va_G) (dA : Nat → ClassId) (ad : Nat → Nat) (C : tp_C) (d : md_T) : mC l D dA ad yX1_keep cX1_keep 2 none 0 [] C d none C (keD d) := by
  refine mm_start (by decide) rfl (Nat.le_of_ble_eq_true rfl) ?_
  intro p0 e0 s0 mid bl0 me0 co0 ls S hr hlk G hl
  have hx := S.1; have hb := S.2.1; have hml := S.2.2.1; have hown := S.2.2.2.1; have hts := S.2.2.2.2
  have hl : lv_has ls 2 [(0, .ref (ad 0))] := hl
  have L1 : ∀ (n_ i : Nat), i ≤ 20 → 20 < i + n_ → ∀ (H : Heap) (locs : List Loc) (ls : Array Slot), mG D dA ad C (ke1 d i) s0 H locs → lv_has ls 2 [(1, .int (nI i)), (0, .ref (ad 0))] → (∀ (H : Heap) (locs : List Loc) (ls : Array Slot), mG D dA ad C (ke1 d 20) s0 H locs → lv_has ls 2 [(1, .int (nI 20)), (0, .ref (ad 0))] → W p0 l e0 (rm_ 0) s0 mid (Value.ref (ad 0) :: []).toArray bl0 me0 co0 H locs 0 0 (MQ bl0 (mQ D dA ad none C (keD d)) (Value.ref (ad 0) :: []).toArray s0 0 0 (mA ad)) (F0 mid 118 ls [])) → W p0 l e0 (rm_ 0) s0 mid (Value.ref (ad 0) :: []).toArray bl0 me0 co0 H locs 0 0 (MQ bl0 (mQ D dA ad none C (keD d)) (Value.ref (ad 0) :: []).toArray s0 0 0 (mA ad)) (F0 mid 10 ls []) := by
    intro n_
    induction n_ with
    | zero => intro i h1_ h2_; exact absurd h2_ (by omega)
    | succ n_ ih =>
      intro i h1_ h2_ H locs ls G hl kk
      refine lv_iload_n hx hb dX1_keep_10 rfl (lv_at hl 0 rfl) ?_
      refine lv_bipush (v := nI 20) hx hb dX1_keep_11 (by decide) ?_
      refine nn_cge (tgt := 118) hx hb (by omega) (by omega) dX1_keep_13 (by decide) (fun c_13 => ?_) (fun c_13 => ?_)
      · have hiN : i = 20 := by omega
        subst hiN
        exact kk H locs ls G (lv_sub hl [0, 1] rfl)
      · refine lv_aload_n hx hb dX1_keep_16 rfl (lv_at hl 1 rfl) ?_
        refine mm_get S G 27 (by decide) q1294 rfl (v := .ref (ad 28)) rfl dX1_keep_17 ?_
        refine lv_iload_n hx hb dX1_keep_20 rfl (lv_at hl 0 rfl) ?_
        refine lv_aload_n hx hb dX1_keep_21 rfl (lv_at hl 1 rfl) ?_
        refine mm_get S G 17 (by decide) q1284 rfl (v := .ref (ad 18)) rfl dX1_keep_22 ?_
        refine lv_iload_n hx hb dX1_keep_25 rfl (lv_at hl 0 rfl) ?_
        refine mm_dald S G 17 2 (by decide) (n := 20) rfl rfl (by omega) (by decide) (v := dAD (ke1 d i) 17 i) rfl dX1_keep_26 ?_
        refine mm_dast S G 27 rfl (by decide) (n := 20) rfl (by omega) dX1_keep_27 (fun H locs G => ?_)
        refine lv_aload_n hx hb dX1_keep_28 rfl (lv_at hl 1 rfl) ?_
        refine mm_get S G 28 (by decide) q1295 rfl (v := .ref (ad 29)) rfl dX1_keep_29 ?_
        refine lv_iload_n hx hb dX1_keep_32 rfl (lv_at hl 0 rfl) ?_
        refine lv_aload_n hx hb dX1_keep_33 rfl (lv_at hl 1 rfl) ?_
        refine mm_get S G 18 (by decide) q1285 rfl (v := .ref (ad 19)) rfl dX1_keep_34 ?_
        refine lv_iload_n hx hb dX1_keep_37 rfl (lv_at hl 0 rfl) ?_
        refine mm_fald S G 18 3 (by decide) (n := 20) rfl rfl (by omega) (by decide) (v := dAF (ke1 d i) 18 i) rfl dX1_keep_38 ?_
        refine mm_fast S G 28 rfl (by decide) (n := 20) rfl (by omega) dX1_keep_39 (fun H locs G => ?_)
        refine lv_aload_n hx hb dX1_keep_40 rfl (lv_at hl 1 rfl) ?_
        refine mm_get S G 29 (by decide) q1296 rfl (v := .ref (ad 30)) rfl dX1_keep_41 ?_
        refine lv_iload_n hx hb dX1_keep_44 rfl (lv_at hl 0 rfl) ?_
        refine lv_aload_n hx hb dX1_keep_45 rfl (lv_at hl 1 rfl) ?_
        refine mm_get S G 19 (by decide) q1286 rfl (v := .ref (ad 20)) rfl dX1_keep_46 ?_
        refine lv_iload_n hx hb dX1_keep_49 rfl (lv_at hl 0 rfl) ?_
        refine mm_dald S G 19 2 (by decide) (n := 20) rfl rfl (by omega) (by decide) (v := dAD (ke1 d i) 19 i) rfl dX1_keep_50 ?_
        refine mm_dast S G 29 rfl (by decide) (n := 20) rfl (by omega) dX1_keep_51 (fun H locs G => ?_)
        refine lv_aload_n hx hb dX1_keep_52 rfl (lv_at hl 1 rfl) ?_
        refine mm_get S G 30 (by decide) q1297 rfl (v := .ref (ad 31)) rfl dX1_keep_53 ?_
        refine lv_iload_n hx hb dX1_keep_56 rfl (lv_at hl 0 rfl) ?_
        refine lv_aload_n hx hb dX1_keep_57 rfl (lv_at hl 1 rfl) ?_
        refine mm_get S G 20 (by decide) q1287 rfl (v := .ref (ad 21)) rfl dX1_keep_58 ?_
        refine lv_iload_n hx hb dX1_keep_61 rfl (lv_at hl 0 rfl) ?_
        refine mm_fald S G 20 3 (by decide) (n := 20) rfl rfl (by omega) (by decide) (v := dAF (ke1 d i) 20 i) rfl dX1_keep_62 ?_
        refine mm_fast S G 30 rfl (by decide) (n := 20) rfl (by omega) dX1_keep_63 (fun H locs G => ?_)
        refine lv_aload_n hx hb dX1_keep_64 rfl (lv_at hl 1 rfl) ?_
        refine mm_get S G 33 (by decide) q1300 rfl (v := .ref (ad 34)) rfl dX1_keep_65 ?_
        refine lv_iload_n hx hb dX1_keep_68 rfl (lv_at hl 0 rfl) ?_
        refine lv_aload_n hx hb dX1_keep_69 rfl (lv_at hl 1 rfl) ?_
        refine mm_get S G 23 (by decide) q1290 rfl (v := .ref (ad 24)) rfl dX1_keep_70 ?_
        refine lv_iload_n hx hb dX1_keep_73 rfl (lv_at hl 0 rfl) ?_
        refine mm_iald S G 23 0 (by decide) (n := 20) rfl rfl (by omega) (by decide) (v := dAI (ke1 d i) 23 i) rfl dX1_keep_74 ?_
        refine mm_iast S G 33 rfl (by decide) (n := 20) rfl (by omega) dX1_keep_75 (fun H locs G => ?_)
        refine lv_aload_n hx hb dX1_keep_76 rfl (lv_at hl 1 rfl) ?_
        refine mm_get S G 34 (by decide) q1301 rfl (v := .ref (ad 35)) rfl dX1_keep_77 ?_
        refine lv_iload_n hx hb dX1_keep_80 rfl (lv_at hl 0 rfl) ?_
        refine lv_aload_n hx hb dX1_keep_81 rfl (lv_at hl 1 rfl) ?_
        refine mm_get S G 24 (by decide) q1291 rfl (v := .ref (ad 25)) rfl dX1_keep_82 ?_
        refine lv_iload_n hx hb dX1_keep_85 rfl (lv_at hl 0 rfl) ?_
        refine mm_iald S G 24 0 (by decide) (n := 20) rfl rfl (by omega) (by decide) (v := dAI (ke1 d i) 24 i) rfl dX1_keep_86 ?_
        refine mm_iast S G 34 rfl (by decide) (n := 20) rfl (by omega) dX1_keep_87 (fun H locs G => ?_)
        refine lv_aload_n hx hb dX1_keep_88 rfl (lv_at hl 1 rfl) ?_
        refine mm_get S G 35 (by decide) q1302 rfl (v := .ref (ad 36)) rfl dX1_keep_89 ?_
        refine lv_iload_n hx hb dX1_keep_92 rfl (lv_at hl 0 rfl) ?_
        refine lv_aload_n hx hb dX1_keep_93 rfl (lv_at hl 1 rfl) ?_
        refine mm_get S G 25 (by decide) q1292 rfl (v := .ref (ad 26)) rfl dX1_keep_94 ?_
        refine lv_iload_n hx hb dX1_keep_97 rfl (lv_at hl 0 rfl) ?_
        refine mm_dald S G 25 2 (by decide) (n := 20) rfl rfl (by omega) (by decide) (v := dAD (ke1 d i) 25 i) rfl dX1_keep_98 ?_
        refine mm_dast S G 35 rfl (by decide) (n := 20) rfl (by omega) dX1_keep_99 (fun H locs G => ?_)
        refine lv_aload_n hx hb dX1_keep_100 rfl (lv_at hl 1 rfl) ?_
        refine mm_get S G 36 (by decide) q1303 rfl (v := .ref (ad 37)) rfl dX1_keep_101 ?_
        refine lv_iload_n hx hb dX1_keep_104 rfl (lv_at hl 0 rfl) ?_
        refine lv_aload_n hx hb dX1_keep_105 rfl (lv_at hl 1 rfl) ?_
        refine mm_get S G 26 (by decide) q1293 rfl (v := .ref (ad 27)) rfl dX1_keep_106 ?_
        refine lv_iload_n hx hb dX1_keep_109 rfl (lv_at hl 0 rfl) ?_
        refine mm_dald S G 26 2 (by decide) (n := 20) rfl rfl (by omega) (by decide) (v := dAD (ke1 d i) 26 i) rfl dX1_keep_110 ?_
        refine mm_dast S G 36 rfl (by decide) (n := 20) rfl (by omega) dX1_keep_111 (fun H locs G => ?_)
        refine lv_iinc (v := nI (i + 1)) (lv' := [(1, .int (nI (i + 1))), (0, .ref (ad 0))]) hx hb dX1_keep_112 hl (k := 0) rfl (nI_1 _) (by decide) rfl (fun ls hl => ?_)
        refine lv_goto (tgt := 10) hx hb dX1_keep_115 (by decide) ?_
        exact ih (i + 1) (by omega) (by omega) H locs ls (mG_d (by rfl) G) (lv_sub hl [0, 1] rfl) kk
  have L2 : ∀ (n_ i : Nat), i ≤ k320 → k320 < i + n_ → ∀ (H : Heap) (locs : List Loc) (ls : Array Slot), mG D dA ad C (ke2 d i) s0 H locs → lv_has ls 2 [(1, .int (nI i)), (0, .ref (ad 0))] → (∀ (H : Heap) (locs : List Loc) (ls : Array Slot), mG D dA ad C (ke2 d k320) s0 H locs → lv_has ls 2 [(1, .int (nI k320)), (0, .ref (ad 0))] → W p0 l e0 (rm_ 0) s0 mid (Value.ref (ad 0) :: []).toArray bl0 me0 co0 H locs 0 0 (MQ bl0 (mQ D dA ad none C (keD d)) (Value.ref (ad 0) :: []).toArray s0 0 0 (mA ad)) (F0 mid 157 ls [])) → W p0 l e0 (rm_ 0) s0 mid (Value.ref (ad 0) :: []).toArray bl0 me0 co0 H locs 0 0 (MQ bl0 (mQ D dA ad none C (keD d)) (Value.ref (ad 0) :: []).toArray s0 0 0 (mA ad)) (F0 mid 120 ls []) := by
    intro n_
    induction n_ with
    | zero => intro i h1_ h2_; exact absurd h2_ (by omega)
    | succ n_ ih =>
      intro i h1_ h2_ H locs ls G hl kk
      have h320 : k320 = 320 := rfl
      refine lv_iload_n hx hb dX1_keep_120 rfl (lv_at hl 0 rfl) ?_
      refine lv_sipush (v := nI 320) hx hb dX1_keep_121 (by decide) ?_
      refine nn_cge (tgt := 157) hx hb (by omega) (by omega) dX1_keep_124 (by decide) (fun c_124 => ?_) (fun c_124 => ?_)
      · have hiN : i = k320 := by omega
        subst hiN
        exact kk H locs ls G (lv_sub hl [0, 1] rfl)
      · refine lv_aload_n hx hb dX1_keep_127 rfl (lv_at hl 1 rfl) ?_
        refine mm_get S G 31 (by decide) q1298 rfl (v := .ref (ad 32)) rfl dX1_keep_128 ?_
        refine lv_iload_n hx hb dX1_keep_131 rfl (lv_at hl 0 rfl) ?_
        refine lv_aload_n hx hb dX1_keep_132 rfl (lv_at hl 1 rfl) ?_
        refine mm_get S G 21 (by decide) q1288 rfl (v := .ref (ad 22)) rfl dX1_keep_133 ?_
        refine lv_iload_n hx hb dX1_keep_136 rfl (lv_at hl 0 rfl) ?_
        refine mm_dald S G 21 2 (by decide) (n := 320) rfl rfl (by omega) (by decide) (v := dAD (ke2 d i) 21 i) rfl dX1_keep_137 ?_
        refine mm_dast S G 31 rfl (by decide) (n := 320) rfl (by omega) dX1_keep_138 (fun H locs G => ?_)
        refine lv_aload_n hx hb dX1_keep_139 rfl (lv_at hl 1 rfl) ?_
        refine mm_get S G 32 (by decide) q1299 rfl (v := .ref (ad 33)) rfl dX1_keep_140 ?_
        refine lv_iload_n hx hb dX1_keep_143 rfl (lv_at hl 0 rfl) ?_
        refine lv_aload_n hx hb dX1_keep_144 rfl (lv_at hl 1 rfl) ?_
        refine mm_get S G 22 (by decide) q1289 rfl (v := .ref (ad 23)) rfl dX1_keep_145 ?_
        refine lv_iload_n hx hb dX1_keep_148 rfl (lv_at hl 0 rfl) ?_
        refine mm_fald S G 22 3 (by decide) (n := 320) rfl rfl (by omega) (by decide) (v := dAF (ke2 d i) 22 i) rfl dX1_keep_149 ?_
        refine mm_fast S G 32 rfl (by decide) (n := 320) rfl (by omega) dX1_keep_150 (fun H locs G => ?_)
        refine lv_iinc (v := nI (i + 1)) (lv' := [(1, .int (nI (i + 1))), (0, .ref (ad 0))]) hx hb dX1_keep_151 hl (k := 0) rfl (nI_1 _) (by decide) rfl (fun ls hl => ?_)
        refine lv_goto (tgt := 120) hx hb dX1_keep_154 (by decide) ?_
        exact ih (i + 1) (by omega) (by omega) H locs ls (mG_d (by rfl) G) (lv_sub hl [0, 1] rfl) kk
  refine lv_aload_n hx hb dX1_keep_0 rfl (lv_at hl 0 rfl) ?_
  refine lv_aload_n hx hb dX1_keep_1 rfl (lv_at hl 0 rfl) ?_
  refine mm_get S G 12 (by decide) q1279 rfl (v := .int (dI d 12)) rfl dX1_keep_2 ?_
  refine mm_puti S G 58 rfl (by decide) q1325 rfl rfl rfl dX1_keep_5 (fun H locs G => ?_)
  refine lv_iconst (v := nI 0) hx hb dX1_keep_8 (by decide) ?_
  refine lv_istore_n (lv' := [(1, .int (nI 0)), (0, .ref (ad 0))]) hx hb dX1_keep_9 rfl hl (by decide) rfl (fun ls hl => ?_)
  refine L1 21 0 (by omega) (by omega) _ _ ls (mG_d (by rfl) G) (lv_sub hl [0, 1] rfl) (fun H locs ls G hl => ?_)
  refine lv_iconst (v := nI 0) hx hb dX1_keep_118 (by decide) ?_
  refine lv_istore_n (lv' := [(1, .int (nI 0)), (0, .ref (ad 0))]) hx hb dX1_keep_119 rfl hl (by decide) rfl (fun ls hl => ?_)
  refine L2 (k320 + 1) 0 (by omega) (by omega) _ _ ls (mG_d (by rfl) G) (lv_sub hl [0, 1] rfl) (fun H locs ls G hl => ?_)
  exact mm_vret S hr hlk G rfl (by rfl) dX1_keep_157
theorem mt_X1_back (l : Launch) (D : va_G) (dA : Nat → ClassId) (ad : Nat → Nat) (C : tp_C) (d : md_T) : mC l D dA ad yX1_back cX1_back 2 none 0 [] C d none C (baD d) := by
  refine mm_start (by decide) rfl (Nat.le_of_ble_eq_true rfl) ?_
  intro p0 e0 s0 mid bl0 me0 co0 ls S hr hlk G hl
  have hx := S.1; have hb := S.2.1; have hml := S.2.2.1; have hown := S.2.2.2.1; have hts := S.2.2.2.2
  have hl : lv_has ls 2 [(0, .ref (ad 0))] := hl
  have L1 : ∀ (n_ i : Nat), i ≤ 20 → 20 < i + n_ → ∀ (H : Heap) (locs : List Loc) (ls : Array Slot), mG D dA ad C (ba1 d i) s0 H locs → lv_has ls 2 [(1, .int (nI i)), (0, .ref (ad 0))] → (∀ (H : Heap) (locs : List Loc) (ls : Array Slot), mG D dA ad C (ba1 d 20) s0 H locs → lv_has ls 2 [(1, .int (nI 20)), (0, .ref (ad 0))] → W p0 l e0 (rm_ 0) s0 mid (Value.ref (ad 0) :: []).toArray bl0 me0 co0 H locs 0 0 (MQ bl0 (mQ D dA ad none C (baD d)) (Value.ref (ad 0) :: []).toArray s0 0 0 (mA ad)) (F0 mid 118 ls [])) → W p0 l e0 (rm_ 0) s0 mid (Value.ref (ad 0) :: []).toArray bl0 me0 co0 H locs 0 0 (MQ bl0 (mQ D dA ad none C (baD d)) (Value.ref (ad 0) :: []).toArray s0 0 0 (mA ad)) (F0 mid 10 ls []) := by
    intro n_
    induction n_ with
    | zero => intro i h1_ h2_; exact absurd h2_ (by omega)
    | succ n_ ih =>
      intro i h1_ h2_ H locs ls G hl kk
      refine lv_iload_n hx hb dX1_back_10 rfl (lv_at hl 0 rfl) ?_
      refine lv_bipush (v := nI 20) hx hb dX1_back_11 (by decide) ?_
      refine nn_cge (tgt := 118) hx hb (by omega) (by omega) dX1_back_13 (by decide) (fun c_13 => ?_) (fun c_13 => ?_)
      · have hiN : i = 20 := by omega
        subst hiN
        exact kk H locs ls G (lv_sub hl [0, 1] rfl)
      · refine lv_aload_n hx hb dX1_back_16 rfl (lv_at hl 1 rfl) ?_
        refine mm_get S G 17 (by decide) q1284 rfl (v := .ref (ad 18)) rfl dX1_back_17 ?_
        refine lv_iload_n hx hb dX1_back_20 rfl (lv_at hl 0 rfl) ?_
        refine lv_aload_n hx hb dX1_back_21 rfl (lv_at hl 1 rfl) ?_
        refine mm_get S G 27 (by decide) q1294 rfl (v := .ref (ad 28)) rfl dX1_back_22 ?_
        refine lv_iload_n hx hb dX1_back_25 rfl (lv_at hl 0 rfl) ?_
        refine mm_dald S G 27 2 (by decide) (n := 20) rfl rfl (by omega) (by decide) (v := dAD (ba1 d i) 27 i) rfl dX1_back_26 ?_
        refine mm_dast S G 17 rfl (by decide) (n := 20) rfl (by omega) dX1_back_27 (fun H locs G => ?_)
        refine lv_aload_n hx hb dX1_back_28 rfl (lv_at hl 1 rfl) ?_
        refine mm_get S G 18 (by decide) q1285 rfl (v := .ref (ad 19)) rfl dX1_back_29 ?_
        refine lv_iload_n hx hb dX1_back_32 rfl (lv_at hl 0 rfl) ?_
        refine lv_aload_n hx hb dX1_back_33 rfl (lv_at hl 1 rfl) ?_
        refine mm_get S G 28 (by decide) q1295 rfl (v := .ref (ad 29)) rfl dX1_back_34 ?_
        refine lv_iload_n hx hb dX1_back_37 rfl (lv_at hl 0 rfl) ?_
        refine mm_fald S G 28 3 (by decide) (n := 20) rfl rfl (by omega) (by decide) (v := dAF (ba1 d i) 28 i) rfl dX1_back_38 ?_
        refine mm_fast S G 18 rfl (by decide) (n := 20) rfl (by omega) dX1_back_39 (fun H locs G => ?_)
        refine lv_aload_n hx hb dX1_back_40 rfl (lv_at hl 1 rfl) ?_
        refine mm_get S G 19 (by decide) q1286 rfl (v := .ref (ad 20)) rfl dX1_back_41 ?_
        refine lv_iload_n hx hb dX1_back_44 rfl (lv_at hl 0 rfl) ?_
        refine lv_aload_n hx hb dX1_back_45 rfl (lv_at hl 1 rfl) ?_
        refine mm_get S G 29 (by decide) q1296 rfl (v := .ref (ad 30)) rfl dX1_back_46 ?_
        refine lv_iload_n hx hb dX1_back_49 rfl (lv_at hl 0 rfl) ?_
        refine mm_dald S G 29 2 (by decide) (n := 20) rfl rfl (by omega) (by decide) (v := dAD (ba1 d i) 29 i) rfl dX1_back_50 ?_
        refine mm_dast S G 19 rfl (by decide) (n := 20) rfl (by omega) dX1_back_51 (fun H locs G => ?_)
        refine lv_aload_n hx hb dX1_back_52 rfl (lv_at hl 1 rfl) ?_
        refine mm_get S G 20 (by decide) q1287 rfl (v := .ref (ad 21)) rfl dX1_back_53 ?_
        refine lv_iload_n hx hb dX1_back_56 rfl (lv_at hl 0 rfl) ?_
        refine lv_aload_n hx hb dX1_back_57 rfl (lv_at hl 1 rfl) ?_
        refine mm_get S G 30 (by decide) q1297 rfl (v := .ref (ad 31)) rfl dX1_back_58 ?_
        refine lv_iload_n hx hb dX1_back_61 rfl (lv_at hl 0 rfl) ?_
        refine mm_fald S G 30 3 (by decide) (n := 20) rfl rfl (by omega) (by decide) (v := dAF (ba1 d i) 30 i) rfl dX1_back_62 ?_
        refine mm_fast S G 20 rfl (by decide) (n := 20) rfl (by omega) dX1_back_63 (fun H locs G => ?_)
        refine lv_aload_n hx hb dX1_back_64 rfl (lv_at hl 1 rfl) ?_
        refine mm_get S G 23 (by decide) q1290 rfl (v := .ref (ad 24)) rfl dX1_back_65 ?_
        refine lv_iload_n hx hb dX1_back_68 rfl (lv_at hl 0 rfl) ?_
        refine lv_aload_n hx hb dX1_back_69 rfl (lv_at hl 1 rfl) ?_
        refine mm_get S G 33 (by decide) q1300 rfl (v := .ref (ad 34)) rfl dX1_back_70 ?_
        refine lv_iload_n hx hb dX1_back_73 rfl (lv_at hl 0 rfl) ?_
        refine mm_iald S G 33 0 (by decide) (n := 20) rfl rfl (by omega) (by decide) (v := dAI (ba1 d i) 33 i) rfl dX1_back_74 ?_
        refine mm_iast S G 23 rfl (by decide) (n := 20) rfl (by omega) dX1_back_75 (fun H locs G => ?_)
        refine lv_aload_n hx hb dX1_back_76 rfl (lv_at hl 1 rfl) ?_
        refine mm_get S G 24 (by decide) q1291 rfl (v := .ref (ad 25)) rfl dX1_back_77 ?_
        refine lv_iload_n hx hb dX1_back_80 rfl (lv_at hl 0 rfl) ?_
        refine lv_aload_n hx hb dX1_back_81 rfl (lv_at hl 1 rfl) ?_
        refine mm_get S G 34 (by decide) q1301 rfl (v := .ref (ad 35)) rfl dX1_back_82 ?_
        refine lv_iload_n hx hb dX1_back_85 rfl (lv_at hl 0 rfl) ?_
        refine mm_iald S G 34 0 (by decide) (n := 20) rfl rfl (by omega) (by decide) (v := dAI (ba1 d i) 34 i) rfl dX1_back_86 ?_
        refine mm_iast S G 24 rfl (by decide) (n := 20) rfl (by omega) dX1_back_87 (fun H locs G => ?_)
        refine lv_aload_n hx hb dX1_back_88 rfl (lv_at hl 1 rfl) ?_
        refine mm_get S G 25 (by decide) q1292 rfl (v := .ref (ad 26)) rfl dX1_back_89 ?_
        refine lv_iload_n hx hb dX1_back_92 rfl (lv_at hl 0 rfl) ?_
        refine lv_aload_n hx hb dX1_back_93 rfl (lv_at hl 1 rfl) ?_
        refine mm_get S G 35 (by decide) q1302 rfl (v := .ref (ad 36)) rfl dX1_back_94 ?_
        refine lv_iload_n hx hb dX1_back_97 rfl (lv_at hl 0 rfl) ?_
        refine mm_dald S G 35 2 (by decide) (n := 20) rfl rfl (by omega) (by decide) (v := dAD (ba1 d i) 35 i) rfl dX1_back_98 ?_
        refine mm_dast S G 25 rfl (by decide) (n := 20) rfl (by omega) dX1_back_99 (fun H locs G => ?_)
        refine lv_aload_n hx hb dX1_back_100 rfl (lv_at hl 1 rfl) ?_
        refine mm_get S G 26 (by decide) q1293 rfl (v := .ref (ad 27)) rfl dX1_back_101 ?_
        refine lv_iload_n hx hb dX1_back_104 rfl (lv_at hl 0 rfl) ?_
        refine lv_aload_n hx hb dX1_back_105 rfl (lv_at hl 1 rfl) ?_
        refine mm_get S G 36 (by decide) q1303 rfl (v := .ref (ad 37)) rfl dX1_back_106 ?_
        refine lv_iload_n hx hb dX1_back_109 rfl (lv_at hl 0 rfl) ?_
        refine mm_dald S G 36 2 (by decide) (n := 20) rfl rfl (by omega) (by decide) (v := dAD (ba1 d i) 36 i) rfl dX1_back_110 ?_
        refine mm_dast S G 26 rfl (by decide) (n := 20) rfl (by omega) dX1_back_111 (fun H locs G => ?_)
        refine lv_iinc (v := nI (i + 1)) (lv' := [(1, .int (nI (i + 1))), (0, .ref (ad 0))]) hx hb dX1_back_112 hl (k := 0) rfl (nI_1 _) (by decide) rfl (fun ls hl => ?_)
        refine lv_goto (tgt := 10) hx hb dX1_back_115 (by decide) ?_
        exact ih (i + 1) (by omega) (by omega) H locs ls (mG_d (by rfl) G) (lv_sub hl [0, 1] rfl) kk
  have L2 : ∀ (n_ i : Nat), i ≤ k320 → k320 < i + n_ → ∀ (H : Heap) (locs : List Loc) (ls : Array Slot), mG D dA ad C (ba2 d i) s0 H locs → lv_has ls 2 [(1, .int (nI i)), (0, .ref (ad 0))] → (∀ (H : Heap) (locs : List Loc) (ls : Array Slot), mG D dA ad C (ba2 d k320) s0 H locs → lv_has ls 2 [(1, .int (nI k320)), (0, .ref (ad 0))] → W p0 l e0 (rm_ 0) s0 mid (Value.ref (ad 0) :: []).toArray bl0 me0 co0 H locs 0 0 (MQ bl0 (mQ D dA ad none C (baD d)) (Value.ref (ad 0) :: []).toArray s0 0 0 (mA ad)) (F0 mid 157 ls [])) → W p0 l e0 (rm_ 0) s0 mid (Value.ref (ad 0) :: []).toArray bl0 me0 co0 H locs 0 0 (MQ bl0 (mQ D dA ad none C (baD d)) (Value.ref (ad 0) :: []).toArray s0 0 0 (mA ad)) (F0 mid 120 ls []) := by
    intro n_
    induction n_ with
    | zero => intro i h1_ h2_; exact absurd h2_ (by omega)
    | succ n_ ih =>
      intro i h1_ h2_ H locs ls G hl kk
      have h320 : k320 = 320 := rfl
      refine lv_iload_n hx hb dX1_back_120 rfl (lv_at hl 0 rfl) ?_
      refine lv_sipush (v := nI 320) hx hb dX1_back_121 (by decide) ?_
      refine nn_cge (tgt := 157) hx hb (by omega) (by omega) dX1_back_124 (by decide) (fun c_124 => ?_) (fun c_124 => ?_)
      · have hiN : i = k320 := by omega
        subst hiN
        exact kk H locs ls G (lv_sub hl [0, 1] rfl)
      · refine lv_aload_n hx hb dX1_back_127 rfl (lv_at hl 1 rfl) ?_
        refine mm_get S G 21 (by decide) q1288 rfl (v := .ref (ad 22)) rfl dX1_back_128 ?_
        refine lv_iload_n hx hb dX1_back_131 rfl (lv_at hl 0 rfl) ?_
        refine lv_aload_n hx hb dX1_back_132 rfl (lv_at hl 1 rfl) ?_
        refine mm_get S G 31 (by decide) q1298 rfl (v := .ref (ad 32)) rfl dX1_back_133 ?_
        refine lv_iload_n hx hb dX1_back_136 rfl (lv_at hl 0 rfl) ?_
        refine mm_dald S G 31 2 (by decide) (n := 320) rfl rfl (by omega) (by decide) (v := dAD (ba2 d i) 31 i) rfl dX1_back_137 ?_
        refine mm_dast S G 21 rfl (by decide) (n := 320) rfl (by omega) dX1_back_138 (fun H locs G => ?_)
        refine lv_aload_n hx hb dX1_back_139 rfl (lv_at hl 1 rfl) ?_
        refine mm_get S G 22 (by decide) q1289 rfl (v := .ref (ad 23)) rfl dX1_back_140 ?_
        refine lv_iload_n hx hb dX1_back_143 rfl (lv_at hl 0 rfl) ?_
        refine lv_aload_n hx hb dX1_back_144 rfl (lv_at hl 1 rfl) ?_
        refine mm_get S G 32 (by decide) q1299 rfl (v := .ref (ad 33)) rfl dX1_back_145 ?_
        refine lv_iload_n hx hb dX1_back_148 rfl (lv_at hl 0 rfl) ?_
        refine mm_fald S G 32 3 (by decide) (n := 320) rfl rfl (by omega) (by decide) (v := dAF (ba2 d i) 32 i) rfl dX1_back_149 ?_
        refine mm_fast S G 22 rfl (by decide) (n := 320) rfl (by omega) dX1_back_150 (fun H locs G => ?_)
        refine lv_iinc (v := nI (i + 1)) (lv' := [(1, .int (nI (i + 1))), (0, .ref (ad 0))]) hx hb dX1_back_151 hl (k := 0) rfl (nI_1 _) (by decide) rfl (fun ls hl => ?_)
        refine lv_goto (tgt := 120) hx hb dX1_back_154 (by decide) ?_
        exact ih (i + 1) (by omega) (by omega) H locs ls (mG_d (by rfl) G) (lv_sub hl [0, 1] rfl) kk
  refine lv_aload_n hx hb dX1_back_0 rfl (lv_at hl 0 rfl) ?_
  refine lv_aload_n hx hb dX1_back_1 rfl (lv_at hl 0 rfl) ?_
  refine mm_get S G 58 (by decide) q1325 rfl (v := .int (dI d 58)) rfl dX1_back_2 ?_
  refine mm_puti S G 12 rfl (by decide) q1279 rfl rfl rfl dX1_back_5 (fun H locs G => ?_)
  refine lv_iconst (v := nI 0) hx hb dX1_back_8 (by decide) ?_
  refine lv_istore_n (lv' := [(1, .int (nI 0)), (0, .ref (ad 0))]) hx hb dX1_back_9 rfl hl (by decide) rfl (fun ls hl => ?_)
  refine L1 21 0 (by omega) (by omega) _ _ ls (mG_d (by rfl) G) (lv_sub hl [0, 1] rfl) (fun H locs ls G hl => ?_)
  refine lv_iconst (v := nI 0) hx hb dX1_back_118 (by decide) ?_
  refine lv_istore_n (lv' := [(1, .int (nI 0)), (0, .ref (ad 0))]) hx hb dX1_back_119 rfl hl (by decide) rfl (fun ls hl => ?_)
  refine L2 (k320 + 1) 0 (by omega) (by omega) _ _ ls (mG_d (by rfl) G) (lv_sub hl [0, 1] rfl) (fun H locs ls G hl => ?_)
  exact mm_vret S hr hlk G rfl (by rfl) dX1_back_157
theorem mt_X1_mix (l : Launch) (D : va_G) (dA : Nat → ClassId) (ad : Nat → Nat) (C : tp_C) (d : md_T) (v : Int64) : mC l D dA ad yX1_mix cX1_mix 3 none 0 [.long v] C d none C (uH d (mxH (dH d) v)) := by
  refine mm_start (by decide) rfl (Nat.le_of_ble_eq_true rfl) ?_
  intro p0 e0 s0 mid bl0 me0 co0 ls S hr hlk G hl
  have hx := S.1; have hb := S.2.1; have hml := S.2.2.1; have hown := S.2.2.2.1; have hts := S.2.2.2.2
  have hl : lv_has ls 3 [(0, .ref (ad 0)), (1, .long v)] := hl
  refine lv_aload_n hx hb dX1_mix_0 rfl (lv_at hl 0 rfl) ?_
  refine lv_ldc2 hx hb hown (hts _ q1747) dX1_mix_1 ?_
  refine lv_aload_n hx hb dX1_mix_4 rfl (lv_at hl 0 rfl) ?_
  refine mm_get S G 60 (by decide) q1327 rfl (v := .long (dH d)) rfl dX1_mix_5 ?_
  refine lv_lmul hx hb dX1_mix_8 ?_
  refine lv_lload_n hx hb dX1_mix_9 rfl (lv_at hl 1 rfl) ?_
  refine lv_ladd hx hb dX1_mix_10 ?_
  refine mm_puth S G q1327 dX1_mix_11 (fun H locs G => ?_)
  exact mm_vret S hr hlk G rfl (by rfl) dX1_mix_14
theorem mt_X1_digest (l : Launch) (D : va_G) (dA : Nat → ClassId) (ad : Nat → Nat) (C : tp_C) (d : md_T) (hC : mOK C) (hV : vOK C) (hR : rOK d) (hSm : smOK d) (hq : ∀ k, bD 1075 (dAD d 40 k)) : mC l D dA ad yX1_digest cX1_digest 3 (some .long) 2 [] C d (some (.long (dgL C d))) C (uH d (dgL C d)) := by
  refine mm_start (by decide) rfl (Nat.le_of_ble_eq_true rfl) ?_
  intro p0 e0 s0 mid bl0 me0 co0 ls S hr hlk G hl
  have hx := S.1; have hb := S.2.1; have hml := S.2.2.1; have hown := S.2.2.2.1; have hts := S.2.2.2.2
  have hl : lv_has ls 3 [(0, .ref (ad 0))] := hl
  have hN := hC.n
  have hMo := hC.mo
  have hZ := hC.z
  have L2 : ∀ (m : Nat) (hm : m < cN C) (h0 : Int64) (n_ i : Nat), i ≤ 6 → 6 < i + n_ → ∀ (H : Heap) (locs : List Loc) (ls : Array Slot), mG D dA ad C (uH d (dg6 C m i h0)) s0 H locs → lv_has ls 3 [(2, .int (nI i)), (1, .int (nI m)), (0, .ref (ad 0))] → (∀ (H : Heap) (locs : List Loc) (ls : Array Slot), mG D dA ad C (uH d (dg6 C m 6 h0)) s0 H locs → lv_has ls 3 [(2, .int (nI 6)), (1, .int (nI m)), (0, .ref (ad 0))] → W p0 l e0 (rm_ 2) s0 mid (Value.ref (ad 0) :: []).toArray bl0 me0 co0 H locs 0 0 (MQ bl0 (mQ D dA ad (some (.long (dgL C d))) C (uH d (dgL C d))) (Value.ref (ad 0) :: []).toArray s0 0 0 (mA ad)) (F0 mid 112 ls [])) → W p0 l e0 (rm_ 2) s0 mid (Value.ref (ad 0) :: []).toArray bl0 me0 co0 H locs 0 0 (MQ bl0 (mQ D dA ad (some (.long (dgL C d))) C (uH d (dgL C d))) (Value.ref (ad 0) :: []).toArray s0 0 0 (mA ad)) (F0 mid 61 ls []) := by
    intro m hm h0 n_
    induction n_ with
    | zero => intro i h1_ h2_; exact absurd h2_ (by omega)
    | succ n_ ih =>
      intro i h1_ h2_ H locs ls G hl kk
      refine lv_iload_n hx hb dX1_digest_61 rfl (lv_at hl 0 rfl) ?_
      refine lv_bipush (v := nI 6) hx hb dX1_digest_62 (by decide) ?_
      refine nn_cge (tgt := 112) hx hb (by omega) (by omega) dX1_digest_64 (by decide) (fun c_64 => ?_) (fun c_64 => ?_)
      · have hiN : i = 6 := by omega
        subst hiN
        exact kk H locs ls G (lv_sub hl [0, 1, 2] rfl)
      · refine lv_aload_n hx hb dX1_digest_67 rfl (lv_at hl 2 rfl) ?_
        refine lv_aload_n hx hb dX1_digest_68 rfl (lv_at hl 2 rfl) ?_
        refine mm_get S G 3 (by decide) q1270 rfl (v := .ref (ad 4)) rfl dX1_digest_69 ?_
        refine lv_bipush (v := nI 6) hx hb dX1_digest_72 (by decide) ?_
        refine lv_iload_n hx hb dX1_digest_74 rfl (lv_at hl 1 rfl) ?_
        refine nn_mul hx hb dX1_digest_75 ?_
        refine lv_iload_n hx hb dX1_digest_76 rfl (lv_at hl 0 rfl) ?_
        refine nn_add hx hb dX1_digest_77 ?_
        refine mm_iald S G 3 0 (by decide) (n := 120) rfl rfl (by omega) (by decide) (v := oI (cF C m i)) (tp_fr (by omega)) dX1_digest_78 ?_
        refine lv_i2l (v := (oI (cF C m i)).toInt64) hx hb dX1_digest_79 rfl ?_
        refine mm_call (As := [.long ((oI (cF C m i)).toInt64)]) (rest := []) S G (mt_X1_mix l D dA ad C (uH d (dg6 C m i h0)) ((oI (cF C m i)).toInt64)) q1743 q1745 qs50 q1746 hd_X1_mix ⟨Nat.le_of_ble_eq_true rfl, Nat.le_of_ble_eq_true rfl⟩ rfl hl.1 rfl (Nat.le_of_ble_eq_true rfl) dX1_digest_80 ⟨Nat.zero_le _, Nat.zero_le _⟩ (fun H locs G => ?_)
        refine W.eq (g2 := F0 mid 83 ls []) rfl ?_
        have G : mG D dA ad C (uH d (mxH (dg6 C m i h0) (oI (cF C m i)).toInt64)) s0 H locs := G
        refine lv_aload_n hx hb dX1_digest_83 rfl (lv_at hl 2 rfl) ?_
        refine lv_aload_n hx hb dX1_digest_84 rfl (lv_at hl 2 rfl) ?_
        refine mm_get S G 4 (by decide) q1271 rfl (v := .ref (ad 5)) rfl dX1_digest_85 ?_
        refine lv_bipush (v := nI 6) hx hb dX1_digest_88 (by decide) ?_
        refine lv_iload_n hx hb dX1_digest_90 rfl (lv_at hl 1 rfl) ?_
        refine nn_mul hx hb dX1_digest_91 ?_
        refine lv_iload_n hx hb dX1_digest_92 rfl (lv_at hl 0 rfl) ?_
        refine nn_add hx hb dX1_digest_93 ?_
        refine mm_zald S G 4 1 (by decide) (n := 120) rfl rfl (by omega) (by decide) (v := bI (cT C m i)) (tp_tu (by omega)) dX1_digest_94 ?_
        refine bb_eq (tgt := 102) hx hb dX1_digest_95 (by decide) (fun c_95 => ?_) (fun c_95 => ?_)
        · refine lv_lconst (v := 0) hx hb dX1_digest_102 (by decide) ?_
          refine mm_call (As := [.long 0]) (rest := []) S G (mt_X1_mix l D dA ad C (uH d (mxH (dg6 C m i h0) (oI (cF C m i)).toInt64)) 0) q1743 q1745 qs50 q1746 hd_X1_mix ⟨Nat.le_of_ble_eq_true rfl, Nat.le_of_ble_eq_true rfl⟩ rfl hl.1 rfl (Nat.le_of_ble_eq_true rfl) dX1_digest_103 ⟨Nat.zero_le _, Nat.zero_le _⟩ (fun H locs G => ?_)
          refine W.eq (g2 := F0 mid 106 ls []) rfl ?_
          have G : mG D dA ad C (uH d (mxH (mxH (dg6 C m i h0) (oI (cF C m i)).toInt64) 0)) s0 H locs := G
          refine lv_iinc (v := nI (i + 1)) (lv' := [(2, .int (nI (i + 1))), (1, .int (nI m)), (0, .ref (ad 0))]) hx hb dX1_digest_106 hl (k := 0) rfl (nI_1 _) (by decide) rfl (fun ls hl => ?_)
          refine lv_goto (tgt := 61) hx hb dX1_digest_109 (by decide) ?_
          exact ih (i + 1) (by omega) (by omega) H locs ls (mG_d (by show _ = uH d (dgI C m i (dg6 C m i h0)); unfold dgI; rw [c_95]; rfl) G) (lv_sub hl [0, 1, 2] rfl) kk
        · refine lv_lconst (v := 1) hx hb dX1_digest_98 (by decide) ?_
          refine lv_goto (tgt := 103) hx hb dX1_digest_99 (by decide) ?_
          refine mm_call (As := [.long 1]) (rest := []) S G (mt_X1_mix l D dA ad C (uH d (mxH (dg6 C m i h0) (oI (cF C m i)).toInt64)) 1) q1743 q1745 qs50 q1746 hd_X1_mix ⟨Nat.le_of_ble_eq_true rfl, Nat.le_of_ble_eq_true rfl⟩ rfl hl.1 rfl (Nat.le_of_ble_eq_true rfl) dX1_digest_103 ⟨Nat.zero_le _, Nat.zero_le _⟩ (fun H locs G => ?_)
          refine W.eq (g2 := F0 mid 106 ls []) rfl ?_
          have G : mG D dA ad C (uH d (mxH (mxH (dg6 C m i h0) (oI (cF C m i)).toInt64) 1)) s0 H locs := G
          refine lv_iinc (v := nI (i + 1)) (lv' := [(2, .int (nI (i + 1))), (1, .int (nI m)), (0, .ref (ad 0))]) hx hb dX1_digest_106 hl (k := 0) rfl (nI_1 _) (by decide) rfl (fun ls hl => ?_)
          refine lv_goto (tgt := 61) hx hb dX1_digest_109 (by decide) ?_
          exact ih (i + 1) (by omega) (by omega) H locs ls (mG_d (by show _ = uH d (dgI C m i (dg6 C m i h0)); unfold dgI; rw [c_95]; rfl) G) (lv_sub hl [0, 1, 2] rfl) kk
  have L1 : ∀ (n_ m : Nat), m ≤ cN C → cN C < m + n_ → ∀ (H : Heap) (locs : List Loc) (ls : Array Slot), mG D dA ad C (uH d (dg1 C d m)) s0 H locs → lv_has ls 3 [(1, .int (nI m)), (0, .ref (ad 0))] → (∀ (H : Heap) (locs : List Loc) (ls : Array Slot), mG D dA ad C (uH d (dg1 C d (cN C))) s0 H locs → lv_has ls 3 [(1, .int (nI (cN C))), (0, .ref (ad 0))] → W p0 l e0 (rm_ 2) s0 mid (Value.ref (ad 0) :: []).toArray bl0 me0 co0 H locs 0 0 (MQ bl0 (mQ D dA ad (some (.long (dgL C d))) C (uH d (dgL C d))) (Value.ref (ad 0) :: []).toArray s0 0 0 (mA ad)) (F0 mid 176 ls [])) → W p0 l e0 (rm_ 2) s0 mid (Value.ref (ad 0) :: []).toArray bl0 me0 co0 H locs 0 0 (MQ bl0 (mQ D dA ad (some (.long (dgL C d))) C (uH d (dgL C d))) (Value.ref (ad 0) :: []).toArray s0 0 0 (mA ad)) (F0 mid 27 ls []) := by
    intro n_
    induction n_ with
    | zero => intro m h1_ h2_; exact absurd h2_ (by omega)
    | succ n_ ih =>
      intro m h1_ h2_ H locs ls G hl kk
      have hk14 := hC.k m
      refine lv_iload_n hx hb dX1_digest_27 rfl (lv_at hl 0 rfl) ?_
      refine lv_aload_n hx hb dX1_digest_28 rfl (lv_at hl 1 rfl) ?_
      refine mm_get S G 0 (by decide) q1267 rfl (v := .int (nI (cN C))) rfl dX1_digest_29 ?_
      refine nn_cge (tgt := 176) hx hb (by omega) (by omega) dX1_digest_32 (by decide) (fun c_32 => ?_) (fun c_32 => ?_)
      · have hiN : m = cN C := by omega
        subst hiN
        exact kk H locs ls G (lv_sub hl [0, 1] rfl)
      · refine lv_aload_n hx hb dX1_digest_35 rfl (lv_at hl 1 rfl) ?_
        refine lv_aload_n hx hb dX1_digest_36 rfl (lv_at hl 1 rfl) ?_
        refine mm_get S G 1 (by decide) q1268 rfl (v := .ref (ad 2)) rfl dX1_digest_37 ?_
        refine lv_iload_n hx hb dX1_digest_40 rfl (lv_at hl 0 rfl) ?_
        refine mm_iald S G 1 0 (by decide) (n := 20) rfl rfl (by omega) (by decide) (v := nI (cK C m)) rfl dX1_digest_41 ?_
        refine lv_i2l (v := (nI (cK C m)).toInt64) hx hb dX1_digest_42 rfl ?_
        refine mm_call (As := [.long ((nI (cK C m)).toInt64)]) (rest := []) S G (mt_X1_mix l D dA ad C (uH d (dg1 C d m)) ((nI (cK C m)).toInt64)) q1743 q1745 qs50 q1746 hd_X1_mix ⟨Nat.le_of_ble_eq_true rfl, Nat.le_of_ble_eq_true rfl⟩ rfl hl.1 rfl (Nat.le_of_ble_eq_true rfl) dX1_digest_43 ⟨Nat.zero_le _, Nat.zero_le _⟩ (fun H locs G => ?_)
        refine W.eq (g2 := F0 mid 46 ls []) rfl ?_
        have G : mG D dA ad C (uH d (mxH (dg1 C d m) (nI (cK C m)).toInt64)) s0 H locs := G
        refine lv_aload_n hx hb dX1_digest_46 rfl (lv_at hl 1 rfl) ?_
        refine lv_aload_n hx hb dX1_digest_47 rfl (lv_at hl 1 rfl) ?_
        refine mm_get S G 2 (by decide) q1269 rfl (v := .ref (ad 3)) rfl dX1_digest_48 ?_
        refine lv_iload_n hx hb dX1_digest_51 rfl (lv_at hl 0 rfl) ?_
        refine mm_dald S G 2 2 (by decide) (n := 20) rfl rfl (by omega) (by decide) (v := cS C m) rfl dX1_digest_52 ?_
        refine sC_call (As := [.double (cS C m)]) (rest := [.ref (ad 0)]) S (st_J0_doubleToLongBits l (cS C m) (bD_n (hV.s _))) q1569 q1156 q55 q1157 hd_J0_doubleToLongBits ⟨Nat.le_of_ble_eq_true rfl, Nat.le_of_ble_eq_true rfl⟩ rfl hl.1 rfl (Nat.le_of_ble_eq_true rfl) dX1_digest_53 ⟨Nat.zero_le _, Nat.zero_le _⟩ ?_
        refine W.eq (g2 := F0 mid 56 ls [.long (((cS C m)).toInt64), .ref (ad 0)]) rfl ?_
        refine mm_call (As := [.long (((cS C m)).toInt64)]) (rest := []) S G (mt_X1_mix l D dA ad C (uH d (mxH (dg1 C d m) (nI (cK C m)).toInt64)) (((cS C m)).toInt64)) q1743 q1745 qs50 q1746 hd_X1_mix ⟨Nat.le_of_ble_eq_true rfl, Nat.le_of_ble_eq_true rfl⟩ rfl hl.1 rfl (Nat.le_of_ble_eq_true rfl) dX1_digest_56 ⟨Nat.zero_le _, Nat.zero_le _⟩ (fun H locs G => ?_)
        refine W.eq (g2 := F0 mid 59 ls []) rfl ?_
        have G : mG D dA ad C (uH d (mxH (mxH (dg1 C d m) (nI (cK C m)).toInt64) (cS C m).toInt64)) s0 H locs := G
        refine lv_iconst (v := nI 0) hx hb dX1_digest_59 (by decide) ?_
        refine lv_istore_n (lv' := [(2, .int (nI 0)), (1, .int (nI m)), (0, .ref (ad 0))]) hx hb dX1_digest_60 rfl hl (by decide) rfl (fun ls hl => ?_)
        refine L2 m (by omega) (mxH (mxH (dg1 C d m) (nI (cK C m)).toInt64) (cS C m).toInt64) 7 0 (by omega) (by omega) _ _ ls (mG_d (by rfl) G) (lv_sub hl [0, 1, 2] rfl) (fun H locs ls G hl => ?_)
        refine lv_aload_n hx hb dX1_digest_112 rfl (lv_at hl 2 rfl) ?_
        refine lv_aload_n hx hb dX1_digest_113 rfl (lv_at hl 2 rfl) ?_
        refine mm_get S G 5 (by decide) q1272 rfl (v := .ref (ad 6)) rfl dX1_digest_114 ?_
        refine lv_iload_n hx hb dX1_digest_117 rfl (lv_at hl 1 rfl) ?_
        refine mm_dald S G 5 2 (by decide) (n := 20) rfl rfl (by omega) (by decide) (v := cB C m) rfl dX1_digest_118 ?_
        refine sC_call (As := [.double (cB C m)]) (rest := [.ref (ad 0)]) S (st_J0_doubleToLongBits l (cB C m) (bD_n (hV.b _))) q1569 q1156 q55 q1157 hd_J0_doubleToLongBits ⟨Nat.le_of_ble_eq_true rfl, Nat.le_of_ble_eq_true rfl⟩ rfl hl.1 rfl (Nat.le_of_ble_eq_true rfl) dX1_digest_119 ⟨Nat.zero_le _, Nat.zero_le _⟩ ?_
        refine W.eq (g2 := F0 mid 122 ls [.long (((cB C m)).toInt64), .ref (ad 0)]) rfl ?_
        refine mm_call (As := [.long (((cB C m)).toInt64)]) (rest := []) S G (mt_X1_mix l D dA ad C (uH d (dg6 C m 6 (mxH (mxH (dg1 C d m) (nI (cK C m)).toInt64) (cS C m).toInt64))) (((cB C m)).toInt64)) q1743 q1745 qs50 q1746 hd_X1_mix ⟨Nat.le_of_ble_eq_true rfl, Nat.le_of_ble_eq_true rfl⟩ rfl hl.1 rfl (Nat.le_of_ble_eq_true rfl) dX1_digest_122 ⟨Nat.zero_le _, Nat.zero_le _⟩ (fun H locs G => ?_)
        refine W.eq (g2 := F0 mid 125 ls []) rfl ?_
        have G : mG D dA ad C (uH d (mxH (dg6 C m 6 (mxH (mxH (dg1 C d m) (nI (cK C m)).toInt64) (cS C m).toInt64)) (cB C m).toInt64)) s0 H locs := G
        refine lv_aload_n hx hb dX1_digest_125 rfl (lv_at hl 2 rfl) ?_
        refine mm_get S G 11 (by decide) q1278 rfl (v := .int (nI (cM C))) rfl dX1_digest_126 ?_
        refine nz_eq (tgt := 170) hx hb (by omega) dX1_digest_129 (by decide) (fun c_129 => ?_) (fun c_129 => ?_)
        · refine lv_iinc (v := nI (m + 1)) (lv' := [(1, .int (nI (m + 1))), (2, .int (nI 6)), (0, .ref (ad 0))]) hx hb dX1_digest_170 hl (k := 1) rfl (nI_1 _) (by decide) rfl (fun ls hl => ?_)
          refine lv_goto (tgt := 27) hx hb dX1_digest_173 (by decide) ?_
          exact ih (m + 1) (by omega) (by omega) H locs ls (mG_d (by show _ = uH d (dgM C d m (dg1 C d m)); unfold dgM dgR; rw [if_pos c_129]) G) (lv_sub hl [0, 2] rfl) kk
        · refine lv_aload_n hx hb dX1_digest_132 rfl (lv_at hl 2 rfl) ?_
          refine lv_aload_n hx hb dX1_digest_133 rfl (lv_at hl 2 rfl) ?_
          refine mm_get S G 19 (by decide) q1286 rfl (v := .ref (ad 20)) rfl dX1_digest_134 ?_
          refine lv_iload_n hx hb dX1_digest_137 rfl (lv_at hl 1 rfl) ?_
          refine mm_dald S G 19 2 (by decide) (n := 20) rfl rfl (by omega) (by decide) (v := dAD d 19 m) rfl dX1_digest_138 ?_
          refine sC_call (As := [.double (dAD d 19 m)]) (rest := [.ref (ad 0)]) S (st_J0_doubleToLongBits l (dAD d 19 m) (bD_n (hR.rd _))) q1569 q1156 q55 q1157 hd_J0_doubleToLongBits ⟨Nat.le_of_ble_eq_true rfl, Nat.le_of_ble_eq_true rfl⟩ rfl hl.1 rfl (Nat.le_of_ble_eq_true rfl) dX1_digest_139 ⟨Nat.zero_le _, Nat.zero_le _⟩ ?_
          refine W.eq (g2 := F0 mid 142 ls [.long (((dAD d 19 m)).toInt64), .ref (ad 0)]) rfl ?_
          refine mm_call (As := [.long (((dAD d 19 m)).toInt64)]) (rest := []) S G (mt_X1_mix l D dA ad C (uH d (mxH (dg6 C m 6 (mxH (mxH (dg1 C d m) (nI (cK C m)).toInt64) (cS C m).toInt64)) (cB C m).toInt64)) (((dAD d 19 m)).toInt64)) q1743 q1745 qs50 q1746 hd_X1_mix ⟨Nat.le_of_ble_eq_true rfl, Nat.le_of_ble_eq_true rfl⟩ rfl hl.1 rfl (Nat.le_of_ble_eq_true rfl) dX1_digest_142 ⟨Nat.zero_le _, Nat.zero_le _⟩ (fun H locs G => ?_)
          refine W.eq (g2 := F0 mid 145 ls []) rfl ?_
          have G : mG D dA ad C (uH d (mxH (mxH (dg6 C m 6 (mxH (mxH (dg1 C d m) (nI (cK C m)).toInt64) (cS C m).toInt64)) (cB C m).toInt64) (dAD d 19 m).toInt64)) s0 H locs := G
          refine lv_aload_n hx hb dX1_digest_145 rfl (lv_at hl 2 rfl) ?_
          refine lv_aload_n hx hb dX1_digest_146 rfl (lv_at hl 2 rfl) ?_
          refine mm_get S G 20 (by decide) q1287 rfl (v := .ref (ad 21)) rfl dX1_digest_147 ?_
          refine lv_iload_n hx hb dX1_digest_150 rfl (lv_at hl 1 rfl) ?_
          refine mm_fald S G 20 3 (by decide) (n := 20) rfl rfl (by omega) (by decide) (v := dAF d 20 m) rfl dX1_digest_151 ?_
          refine sC_call (As := [.float (dAF d 20 m)]) (rest := [.ref (ad 0)]) S (st_J6_floatToIntBits l (dAF d 20 m) (bF_n (hR.rf _))) q1669 q1168 q78 q1169 hd_J6_floatToIntBits ⟨Nat.le_of_ble_eq_true rfl, Nat.le_of_ble_eq_true rfl⟩ rfl hl.1 rfl (Nat.le_of_ble_eq_true rfl) dX1_digest_152 ⟨Nat.zero_le _, Nat.zero_le _⟩ ?_
          refine W.eq (g2 := F0 mid 155 ls [.int (((dAF d 20 m)).toInt32), .ref (ad 0)]) rfl ?_
          refine lv_i2l (v := (((dAF d 20 m)).toInt32).toInt64) hx hb dX1_digest_155 rfl ?_
          refine mm_call (As := [.long ((((dAF d 20 m)).toInt32).toInt64)]) (rest := []) S G (mt_X1_mix l D dA ad C (uH d (mxH (mxH (dg6 C m 6 (mxH (mxH (dg1 C d m) (nI (cK C m)).toInt64) (cS C m).toInt64)) (cB C m).toInt64) (dAD d 19 m).toInt64)) ((((dAF d 20 m)).toInt32).toInt64)) q1743 q1745 qs50 q1746 hd_X1_mix ⟨Nat.le_of_ble_eq_true rfl, Nat.le_of_ble_eq_true rfl⟩ rfl hl.1 rfl (Nat.le_of_ble_eq_true rfl) dX1_digest_156 ⟨Nat.zero_le _, Nat.zero_le _⟩ (fun H locs G => ?_)
          refine W.eq (g2 := F0 mid 159 ls []) rfl ?_
          have G : mG D dA ad C (uH d (mxH (mxH (mxH (dg6 C m 6 (mxH (mxH (dg1 C d m) (nI (cK C m)).toInt64) (cS C m).toInt64)) (cB C m).toInt64) (dAD d 19 m).toInt64) ((dAF d 20 m).toInt32).toInt64)) s0 H locs := G
          refine lv_aload_n hx hb dX1_digest_159 rfl (lv_at hl 2 rfl) ?_
          refine lv_aload_n hx hb dX1_digest_160 rfl (lv_at hl 2 rfl) ?_
          refine mm_get S G 24 (by decide) q1291 rfl (v := .ref (ad 25)) rfl dX1_digest_161 ?_
          refine lv_iload_n hx hb dX1_digest_164 rfl (lv_at hl 1 rfl) ?_
          refine mm_iald S G 24 0 (by decide) (n := 20) rfl rfl (by omega) (by decide) (v := dAI d 24 m) rfl dX1_digest_165 ?_
          refine lv_i2l (v := (dAI d 24 m).toInt64) hx hb dX1_digest_166 rfl ?_
          refine mm_call (As := [.long ((dAI d 24 m).toInt64)]) (rest := []) S G (mt_X1_mix l D dA ad C (uH d (mxH (mxH (mxH (dg6 C m 6 (mxH (mxH (dg1 C d m) (nI (cK C m)).toInt64) (cS C m).toInt64)) (cB C m).toInt64) (dAD d 19 m).toInt64) ((dAF d 20 m).toInt32).toInt64)) ((dAI d 24 m).toInt64)) q1743 q1745 qs50 q1746 hd_X1_mix ⟨Nat.le_of_ble_eq_true rfl, Nat.le_of_ble_eq_true rfl⟩ rfl hl.1 rfl (Nat.le_of_ble_eq_true rfl) dX1_digest_167 ⟨Nat.zero_le _, Nat.zero_le _⟩ (fun H locs G => ?_)
          refine W.eq (g2 := F0 mid 170 ls []) rfl ?_
          have G : mG D dA ad C (uH d (mxH (mxH (mxH (mxH (dg6 C m 6 (mxH (mxH (dg1 C d m) (nI (cK C m)).toInt64) (cS C m).toInt64)) (cB C m).toInt64) (dAD d 19 m).toInt64) ((dAF d 20 m).toInt32).toInt64) (dAI d 24 m).toInt64)) s0 H locs := G
          refine lv_iinc (v := nI (m + 1)) (lv' := [(1, .int (nI (m + 1))), (2, .int (nI 6)), (0, .ref (ad 0))]) hx hb dX1_digest_170 hl (k := 1) rfl (nI_1 _) (by decide) rfl (fun ls hl => ?_)
          refine lv_goto (tgt := 27) hx hb dX1_digest_173 (by decide) ?_
          exact ih (m + 1) (by omega) (by omega) H locs ls (mG_d (by show _ = uH d (dgM C d m (dg1 C d m)); unfold dgM dgR; rw [if_neg c_129]) G) (lv_sub hl [0, 2] rfl) kk
  have L4 : ∀ (s : Nat) (hs : s < cZ C) (hc : cntN d s ≤ 120) (h0 : Int64) (n_ i : Nat), i ≤ cntN d s → cntN d s < i + n_ → ∀ (H : Heap) (locs : List Loc) (ls : Array Slot), mG D dA ad C (uH d (dgT d s i h0)) s0 H locs → lv_has ls 3 [(2, .int (nI i)), (1, .int (nI s)), (0, .ref (ad 0))] → (∀ (H : Heap) (locs : List Loc) (ls : Array Slot), mG D dA ad C (uH d (dgT d s (cntN d s) h0)) s0 H locs → lv_has ls 3 [(2, .int (nI (cntN d s))), (1, .int (nI s)), (0, .ref (ad 0))] → W p0 l e0 (rm_ 2) s0 mid (Value.ref (ad 0) :: []).toArray bl0 me0 co0 H locs 0 0 (MQ bl0 (mQ D dA ad (some (.long (dgL C d))) C (uH d (dgL C d))) (Value.ref (ad 0) :: []).toArray s0 0 0 (mA ad)) (F0 mid 233 ls [])) → W p0 l e0 (rm_ 2) s0 mid (Value.ref (ad 0) :: []).toArray bl0 me0 co0 H locs 0 0 (MQ bl0 (mQ D dA ad (some (.long (dgL C d))) C (uH d (dgL C d))) (Value.ref (ad 0) :: []).toArray s0 0 0 (mA ad)) (F0 mid 199 ls []) := by
    intro s hs hc h0 n_
    induction n_ with
    | zero => intro i h1_ h2_; exact absurd h2_ (by omega)
    | succ n_ ih =>
      intro i h1_ h2_ H locs ls G hl kk
      refine lv_iload_n hx hb dX1_digest_199 rfl (lv_at hl 0 rfl) ?_
      refine lv_aload_n hx hb dX1_digest_200 rfl (lv_at hl 2 rfl) ?_
      refine mm_get S G 39 (by decide) q1306 rfl (v := .ref (ad 40)) rfl dX1_digest_201 ?_
      refine lv_iload_n hx hb dX1_digest_204 rfl (lv_at hl 1 rfl) ?_
      refine mm_iald S G 39 0 (by decide) (n := 6) rfl rfl (by omega) (by decide) (v := nI (cntN d s)) (hSm.eq s) dX1_digest_205 ?_
      refine nn_cge (tgt := 233) hx hb (by omega) (by omega) dX1_digest_206 (by decide) (fun c_206 => ?_) (fun c_206 => ?_)
      · have hiN : i = cntN d s := by omega
        subst hiN
        exact kk H locs ls G (lv_sub hl [0, 1, 2] rfl)
      · refine lv_aload_n hx hb dX1_digest_209 rfl (lv_at hl 2 rfl) ?_
        refine lv_aload_n hx hb dX1_digest_210 rfl (lv_at hl 2 rfl) ?_
        refine mm_get S G 40 (by decide) q1307 rfl (v := .ref (ad 41)) rfl dX1_digest_211 ?_
        refine lv_bipush (v := nI 120) hx hb dX1_digest_214 (by decide) ?_
        refine lv_iload_n hx hb dX1_digest_216 rfl (lv_at hl 1 rfl) ?_
        refine nn_mul hx hb dX1_digest_217 ?_
        refine lv_iload_n hx hb dX1_digest_218 rfl (lv_at hl 0 rfl) ?_
        refine nn_add hx hb dX1_digest_219 ?_
        refine mm_dald S G 40 2 (by decide) (n := 720) rfl rfl (by omega) (by decide) (v := dAD d 40 (120 * s + i)) rfl dX1_digest_220 ?_
        refine sC_call (As := [.double (dAD d 40 (120 * s + i))]) (rest := [.ref (ad 0)]) S (st_J0_doubleToLongBits l (dAD d 40 (120 * s + i)) (bD_n (hq _))) q1569 q1156 q55 q1157 hd_J0_doubleToLongBits ⟨Nat.le_of_ble_eq_true rfl, Nat.le_of_ble_eq_true rfl⟩ rfl hl.1 rfl (Nat.le_of_ble_eq_true rfl) dX1_digest_221 ⟨Nat.zero_le _, Nat.zero_le _⟩ ?_
        refine W.eq (g2 := F0 mid 224 ls [.long (((dAD d 40 (120 * s + i))).toInt64), .ref (ad 0)]) rfl ?_
        refine mm_call (As := [.long (((dAD d 40 (120 * s + i))).toInt64)]) (rest := []) S G (mt_X1_mix l D dA ad C (uH d (dgT d s i h0)) (((dAD d 40 (120 * s + i))).toInt64)) q1743 q1745 qs50 q1746 hd_X1_mix ⟨Nat.le_of_ble_eq_true rfl, Nat.le_of_ble_eq_true rfl⟩ rfl hl.1 rfl (Nat.le_of_ble_eq_true rfl) dX1_digest_224 ⟨Nat.zero_le _, Nat.zero_le _⟩ (fun H locs G => ?_)
        refine W.eq (g2 := F0 mid 227 ls []) rfl ?_
        have G : mG D dA ad C (uH d (mxH (dgT d s i h0) (dAD d 40 (120 * s + i)).toInt64)) s0 H locs := G
        refine lv_iinc (v := nI (i + 1)) (lv' := [(2, .int (nI (i + 1))), (1, .int (nI s)), (0, .ref (ad 0))]) hx hb dX1_digest_227 hl (k := 0) rfl (nI_1 _) (by decide) rfl (fun ls hl => ?_)
        refine lv_goto (tgt := 199) hx hb dX1_digest_230 (by decide) ?_
        exact ih (i + 1) (by omega) (by omega) H locs ls (mG_d (by rfl) G) (lv_sub hl [0, 1, 2] rfl) kk
  have L3 : ∀ (n_ s : Nat), s ≤ cZ C → cZ C < s + n_ → ∀ (H : Heap) (locs : List Loc) (ls : Array Slot), mG D dA ad C (uH d (dg2 C d s)) s0 H locs → lv_has ls 3 [(1, .int (nI s)), (0, .ref (ad 0))] → (∀ (H : Heap) (locs : List Loc) (ls : Array Slot), mG D dA ad C (uH d (dg2 C d (cZ C))) s0 H locs → lv_has ls 3 [(1, .int (nI (cZ C))), (0, .ref (ad 0))] → W p0 l e0 (rm_ 2) s0 mid (Value.ref (ad 0) :: []).toArray bl0 me0 co0 H locs 0 0 (MQ bl0 (mQ D dA ad (some (.long (dgL C d))) C (uH d (dgL C d))) (Value.ref (ad 0) :: []).toArray s0 0 0 (mA ad)) (F0 mid 239 ls [])) → W p0 l e0 (rm_ 2) s0 mid (Value.ref (ad 0) :: []).toArray bl0 me0 co0 H locs 0 0 (MQ bl0 (mQ D dA ad (some (.long (dgL C d))) C (uH d (dgL C d))) (Value.ref (ad 0) :: []).toArray s0 0 0 (mA ad)) (F0 mid 178 ls []) := by
    intro n_
    induction n_ with
    | zero => intro s h1_ h2_; exact absurd h2_ (by omega)
    | succ n_ ih =>
      intro s h1_ h2_ H locs ls G hl kk
      have hc := hSm.le s
      refine lv_iload_n hx hb dX1_digest_178 rfl (lv_at hl 0 rfl) ?_
      refine lv_aload_n hx hb dX1_digest_179 rfl (lv_at hl 1 rfl) ?_
      refine mm_get S G 37 (by decide) q1304 rfl (v := .int (nI (cZ C))) rfl dX1_digest_180 ?_
      refine nn_cge (tgt := 239) hx hb (by omega) (by omega) dX1_digest_183 (by decide) (fun c_183 => ?_) (fun c_183 => ?_)
      · have hiN : s = cZ C := by omega
        subst hiN
        exact kk H locs ls G (lv_sub hl [0, 1] rfl)
      · refine lv_aload_n hx hb dX1_digest_186 rfl (lv_at hl 1 rfl) ?_
        refine lv_aload_n hx hb dX1_digest_187 rfl (lv_at hl 1 rfl) ?_
        refine mm_get S G 39 (by decide) q1306 rfl (v := .ref (ad 40)) rfl dX1_digest_188 ?_
        refine lv_iload_n hx hb dX1_digest_191 rfl (lv_at hl 0 rfl) ?_
        refine mm_iald S G 39 0 (by decide) (n := 6) rfl rfl (by omega) (by decide) (v := nI (cntN d s)) (hSm.eq s) dX1_digest_192 ?_
        refine lv_i2l (v := (nI (cntN d s)).toInt64) hx hb dX1_digest_193 rfl ?_
        refine mm_call (As := [.long ((nI (cntN d s)).toInt64)]) (rest := []) S G (mt_X1_mix l D dA ad C (uH d (dg2 C d s)) ((nI (cntN d s)).toInt64)) q1743 q1745 qs50 q1746 hd_X1_mix ⟨Nat.le_of_ble_eq_true rfl, Nat.le_of_ble_eq_true rfl⟩ rfl hl.1 rfl (Nat.le_of_ble_eq_true rfl) dX1_digest_194 ⟨Nat.zero_le _, Nat.zero_le _⟩ (fun H locs G => ?_)
        refine W.eq (g2 := F0 mid 197 ls []) rfl ?_
        have G : mG D dA ad C (uH d (mxH (dg2 C d s) (nI (cntN d s)).toInt64)) s0 H locs := G
        refine lv_iconst (v := nI 0) hx hb dX1_digest_197 (by decide) ?_
        refine lv_istore_n (lv' := [(2, .int (nI 0)), (1, .int (nI s)), (0, .ref (ad 0))]) hx hb dX1_digest_198 rfl hl (by decide) rfl (fun ls hl => ?_)
        refine L4 s (by omega) hc (mxH (dg2 C d s) (nI (cntN d s)).toInt64) (cntN d s + 1) 0 (by omega) (by omega) _ _ ls (mG_d (by rfl) G) (lv_sub hl [0, 1, 2] rfl) (fun H locs ls G hl => ?_)
        refine lv_iinc (v := nI (s + 1)) (lv' := [(1, .int (nI (s + 1))), (2, .int (nI (cntN d s))), (0, .ref (ad 0))]) hx hb dX1_digest_233 hl (k := 1) rfl (nI_1 _) (by decide) rfl (fun ls hl => ?_)
        refine lv_goto (tgt := 178) hx hb dX1_digest_236 (by decide) ?_
        exact ih (s + 1) (by omega) (by omega) H locs ls (mG_d (by rfl) G) (lv_sub hl [0, 2] rfl) kk
  refine lv_aload_n hx hb dX1_digest_0 rfl (lv_at hl 0 rfl) ?_
  refine lv_ldc2 hx hb hown (hts _ q1742) dX1_digest_1 ?_
  refine mm_puth S G q1327 dX1_digest_4 (fun H locs G => ?_)
  refine lv_aload_n hx hb dX1_digest_7 rfl (lv_at hl 0 rfl) ?_
  refine lv_aload_n hx hb dX1_digest_8 rfl (lv_at hl 0 rfl) ?_
  refine mm_get S G 11 (by decide) q1278 rfl (v := .int (nI (cM C))) rfl dX1_digest_9 ?_
  refine lv_i2l (v := (nI (cM C)).toInt64) hx hb dX1_digest_12 rfl ?_
  refine mm_call (As := [.long ((nI (cM C)).toInt64)]) (rest := []) S G (mt_X1_mix l D dA ad C (uH d 47) ((nI (cM C)).toInt64)) q1743 q1745 qs50 q1746 hd_X1_mix ⟨Nat.le_of_ble_eq_true rfl, Nat.le_of_ble_eq_true rfl⟩ rfl hl.1 rfl (Nat.le_of_ble_eq_true rfl) dX1_digest_13 ⟨Nat.zero_le _, Nat.zero_le _⟩ (fun H locs G => ?_)
  refine W.eq (g2 := F0 mid 16 ls []) rfl ?_
  have G : mG D dA ad C (uH d (mxH 47 (nI (cM C)).toInt64)) s0 H locs := G
  refine lv_aload_n hx hb dX1_digest_16 rfl (lv_at hl 0 rfl) ?_
  refine lv_aload_n hx hb dX1_digest_17 rfl (lv_at hl 0 rfl) ?_
  refine mm_get S G 12 (by decide) q1279 rfl (v := .int (dI d 12)) rfl dX1_digest_18 ?_
  refine lv_i2l (v := (dI d 12).toInt64) hx hb dX1_digest_21 rfl ?_
  refine mm_call (As := [.long ((dI d 12).toInt64)]) (rest := []) S G (mt_X1_mix l D dA ad C (uH d (mxH 47 (nI (cM C)).toInt64)) ((dI d 12).toInt64)) q1743 q1745 qs50 q1746 hd_X1_mix ⟨Nat.le_of_ble_eq_true rfl, Nat.le_of_ble_eq_true rfl⟩ rfl hl.1 rfl (Nat.le_of_ble_eq_true rfl) dX1_digest_22 ⟨Nat.zero_le _, Nat.zero_le _⟩ (fun H locs G => ?_)
  refine W.eq (g2 := F0 mid 25 ls []) rfl ?_
  have G : mG D dA ad C (uH d (mxH (mxH 47 (nI (cM C)).toInt64) (dI d 12).toInt64)) s0 H locs := G
  refine lv_iconst (v := nI 0) hx hb dX1_digest_25 (by decide) ?_
  refine lv_istore_n (lv' := [(1, .int (nI 0)), (0, .ref (ad 0))]) hx hb dX1_digest_26 rfl hl (by decide) rfl (fun ls hl => ?_)
  refine L1 (cN C + 1) 0 (by omega) (by omega) _ _ ls (mG_d (by rfl) G) (lv_sub hl [0, 1] rfl) (fun H locs ls G hl => ?_)
  refine lv_iconst (v := nI 0) hx hb dX1_digest_176 (by decide) ?_
  refine lv_istore_n (lv' := [(1, .int (nI 0)), (0, .ref (ad 0))]) hx hb dX1_digest_177 rfl hl (by decide) rfl (fun ls hl => ?_)
  refine L3 (cZ C + 1) 0 (by omega) (by omega) _ _ ls (mG_d (by rfl) G) (lv_sub hl [0, 1] rfl) (fun H locs ls G hl => ?_)
  refine lv_aload_n hx hb dX1_digest_239 rfl (lv_at hl 1 rfl) ?_
  refine mm_get S G 60 (by decide) q1327 rfl (v := .long (dH (uH d (dg2 C d (cZ C))))) rfl dX1_digest_240 ?_
  exact mm_lret S hr hlk G (by rfl) rfl (by rfl) dX1_digest_243
