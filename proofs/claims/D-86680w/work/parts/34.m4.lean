set_option maxRecDepth 100000
set_option maxHeartbeats 4000000
theorem dX1_isSmall_0 : decode cX1_isSmall 0 = .ok (.lload_n 0, 1) := by decide +kernel
theorem dX1_isSmall_1 : decode cX1_isSmall 1 = .ok (.invokestatic 181, 3) := by decide +kernel
theorem dX1_isSmall_4 : decode cX1_isSmall 4 = .ok (.ifCond .eq 23, 3) := by decide +kernel
theorem dX1_isSmall_7 : decode cX1_isSmall 7 = .ok (.lload_n 0, 1) := by decide +kernel
theorem dX1_isSmall_8 : decode cX1_isSmall 8 = .ok (.invokestatic 185, 3) := by decide +kernel
theorem dX1_isSmall_11 : decode cX1_isSmall 11 = .ok (.ldc2_w 202, 3) := by decide +kernel
theorem dX1_isSmall_14 : decode cX1_isSmall 14 = .ok (.ldc2_w 177, 3) := by decide +kernel
theorem dX1_isSmall_17 : decode cX1_isSmall 17 = .ok (.invokestatic 171, 3) := by decide +kernel
theorem dX1_isSmall_20 : decode cX1_isSmall 20 = .ok (.ifCond .eq 7, 3) := by decide +kernel
theorem dX1_isSmall_23 : decode cX1_isSmall 23 = .ok (.iconst 1, 1) := by decide +kernel
theorem dX1_isSmall_24 : decode cX1_isSmall 24 = .ok (.goto 4, 3) := by decide +kernel
theorem dX1_isSmall_27 : decode cX1_isSmall 27 = .ok (.iconst 0, 1) := by decide +kernel
theorem dX1_isSmall_28 : decode cX1_isSmall 28 = .ok (.ireturn, 1) := by decide +kernel
theorem dX1_module_0 : decode cX1_module 0 = .ok (.iload_n 1, 1) := by decide +kernel
theorem dX1_module_1 : decode cX1_module 1 = .ok (.iconst 0, 1) := by decide +kernel
theorem dX1_module_2 : decode cX1_module 2 = .ok (.bipush 13, 2) := by decide +kernel
theorem dX1_module_4 : decode cX1_module 4 = .ok (.invokestatic 161, 3) := by decide +kernel
theorem dX1_module_7 : decode cX1_module 7 = .ok (.ifCond .eq 21, 3) := by decide +kernel
theorem dX1_module_10 : decode cX1_module 10 = .ok (.lload_n 2, 1) := by decide +kernel
theorem dX1_module_11 : decode cX1_module 11 = .ok (.invokestatic 181, 3) := by decide +kernel
theorem dX1_module_14 : decode cX1_module 14 = .ok (.ifCond .eq 14, 3) := by decide +kernel
theorem dX1_module_17 : decode cX1_module 17 = .ok (.iload_n 1, 1) := by decide +kernel
theorem dX1_module_18 : decode cX1_module 18 = .ok (.lload_n 2, 1) := by decide +kernel
theorem dX1_module_19 : decode cX1_module 19 = .ok (.invokestatic 185, 3) := by decide +kernel
theorem dX1_module_22 : decode cX1_module 22 = .ok (.invokestatic 191, 3) := by decide +kernel
theorem dX1_module_25 : decode cX1_module 25 = .ok (.ifCond .ne 6, 3) := by decide +kernel
theorem dX1_module_28 : decode cX1_module 28 = .ok (.bipush (-102), 2) := by decide +kernel
theorem dX1_module_30 : decode cX1_module 30 = .ok (.ireturn, 1) := by decide +kernel
theorem dX1_module_31 : decode cX1_module 31 = .ok (.aload_n 0, 1) := by decide +kernel
theorem dX1_module_32 : decode cX1_module 32 = .ok (.getfield 195, 3) := by decide +kernel
theorem dX1_module_35 : decode cX1_module 35 = .ok (.ifCond .eq 6, 3) := by decide +kernel
theorem dX1_module_38 : decode cX1_module 38 = .ok (.bipush (-103), 2) := by decide +kernel
theorem dX1_module_40 : decode cX1_module 40 = .ok (.ireturn, 1) := by decide +kernel
theorem dX1_module_41 : decode cX1_module 41 = .ok (.aload_n 0, 1) := by decide +kernel
theorem dX1_module_42 : decode cX1_module 42 = .ok (.getfield 158, 3) := by decide +kernel
theorem dX1_module_45 : decode cX1_module 45 = .ok (.bipush 20, 2) := by decide +kernel
theorem dX1_module_47 : decode cX1_module 47 = .ok (.if_icmp .ne 6, 3) := by decide +kernel
theorem dX1_module_50 : decode cX1_module 50 = .ok (.bipush (-104), 2) := by decide +kernel
theorem dX1_module_52 : decode cX1_module 52 = .ok (.ireturn, 1) := by decide +kernel
theorem dX1_module_53 : decode cX1_module 53 = .ok (.aload_n 0, 1) := by decide +kernel
theorem dX1_module_54 : decode cX1_module 54 = .ok (.getfield 7, 3) := by decide +kernel
theorem dX1_module_57 : decode cX1_module 57 = .ok (.aload_n 0, 1) := by decide +kernel
theorem dX1_module_58 : decode cX1_module 58 = .ok (.getfield 158, 3) := by decide +kernel
theorem dX1_module_61 : decode cX1_module 61 = .ok (.iload_n 1, 1) := by decide +kernel
theorem dX1_module_62 : decode cX1_module 62 = .ok (.iastore, 1) := by decide +kernel
theorem dX1_module_63 : decode cX1_module 63 = .ok (.aload_n 0, 1) := by decide +kernel
theorem dX1_module_64 : decode cX1_module 64 = .ok (.getfield 13, 3) := by decide +kernel
theorem dX1_module_67 : decode cX1_module 67 = .ok (.aload_n 0, 1) := by decide +kernel
theorem dX1_module_68 : decode cX1_module 68 = .ok (.getfield 158, 3) := by decide +kernel
theorem dX1_module_71 : decode cX1_module 71 = .ok (.lload_n 2, 1) := by decide +kernel
theorem dX1_module_72 : decode cX1_module 72 = .ok (.invokestatic 185, 3) := by decide +kernel
theorem dX1_module_75 : decode cX1_module 75 = .ok (.dastore, 1) := by decide +kernel
theorem dX1_module_76 : decode cX1_module 76 = .ok (.aload_n 0, 1) := by decide +kernel
theorem dX1_module_77 : decode cX1_module 77 = .ok (.dup, 1) := by decide +kernel
theorem dX1_module_78 : decode cX1_module 78 = .ok (.getfield 158, 3) := by decide +kernel
theorem dX1_module_81 : decode cX1_module 81 = .ok (.iconst 1, 1) := by decide +kernel
theorem dX1_module_82 : decode cX1_module 82 = .ok (.iadd, 1) := by decide +kernel
theorem dX1_module_83 : decode cX1_module 83 = .ok (.putfield 158, 3) := by decide +kernel
theorem dX1_module_86 : decode cX1_module 86 = .ok (.aload_n 0, 1) := by decide +kernel
theorem dX1_module_87 : decode cX1_module 87 = .ok (.getfield 158, 3) := by decide +kernel
theorem dX1_module_90 : decode cX1_module 90 = .ok (.iconst 1, 1) := by decide +kernel
theorem dX1_module_91 : decode cX1_module 91 = .ok (.isub, 1) := by decide +kernel
theorem dX1_module_92 : decode cX1_module 92 = .ok (.ireturn, 1) := by decide +kernel
theorem dX1_cord_0 : decode cX1_cord 0 = .ok (.aload_n 0, 1) := by decide +kernel
theorem dX1_cord_1 : decode cX1_cord 1 = .ok (.iload_n 1, 1) := by decide +kernel
theorem dX1_cord_2 : decode cX1_cord 2 = .ok (.invokevirtual 198, 3) := by decide +kernel
theorem dX1_cord_5 : decode cX1_cord 5 = .ok (.ifCond .eq 16, 3) := by decide +kernel
theorem dX1_cord_8 : decode cX1_cord 8 = .ok (.iload_n 3, 1) := by decide +kernel
theorem dX1_cord_9 : decode cX1_cord 9 = .ok (.iconst (-1), 1) := by decide +kernel
theorem dX1_cord_10 : decode cX1_cord 10 = .ok (.if_icmp .eq 14, 3) := by decide +kernel
theorem dX1_cord_13 : decode cX1_cord 13 = .ok (.aload_n 0, 1) := by decide +kernel
theorem dX1_cord_14 : decode cX1_cord 14 = .ok (.iload_n 3, 1) := by decide +kernel
theorem dX1_cord_15 : decode cX1_cord 15 = .ok (.invokevirtual 198, 3) := by decide +kernel
theorem dX1_cord_18 : decode cX1_cord 18 = .ok (.ifCond .ne 6, 3) := by decide +kernel
theorem dX1_cord_21 : decode cX1_cord 21 = .ok (.bipush (-101), 2) := by decide +kernel
theorem dX1_cord_23 : decode cX1_cord 23 = .ok (.ireturn, 1) := by decide +kernel
theorem dX1_cord_24 : decode cX1_cord 24 = .ok (.iload_n 2, 1) := by decide +kernel
theorem dX1_cord_25 : decode cX1_cord 25 = .ok (.iconst 0, 1) := by decide +kernel
theorem dX1_cord_26 : decode cX1_cord 26 = .ok (.iconst 5, 1) := by decide +kernel
theorem dX1_cord_27 : decode cX1_cord 27 = .ok (.invokestatic 161, 3) := by decide +kernel
theorem dX1_cord_30 : decode cX1_cord 30 = .ok (.ifCond .ne 6, 3) := by decide +kernel
theorem dX1_cord_33 : decode cX1_cord 33 = .ok (.bipush (-102), 2) := by decide +kernel
theorem dX1_cord_35 : decode cX1_cord 35 = .ok (.ireturn, 1) := by decide +kernel
theorem dX1_cord_36 : decode cX1_cord 36 = .ok (.aload_n 0, 1) := by decide +kernel
theorem dX1_cord_37 : decode cX1_cord 37 = .ok (.getfield 195, 3) := by decide +kernel
theorem dX1_cord_40 : decode cX1_cord 40 = .ok (.ifCond .eq 6, 3) := by decide +kernel
theorem dX1_cord_43 : decode cX1_cord 43 = .ok (.bipush (-103), 2) := by decide +kernel
theorem dX1_cord_45 : decode cX1_cord 45 = .ok (.ireturn, 1) := by decide +kernel
theorem dX1_cord_46 : decode cX1_cord 46 = .ok (.aload_n 0, 1) := by decide +kernel
theorem dX1_cord_47 : decode cX1_cord 47 = .ok (.getfield 17, 3) := by decide +kernel
theorem dX1_cord_50 : decode cX1_cord 50 = .ok (.bipush 6, 2) := by decide +kernel
theorem dX1_cord_52 : decode cX1_cord 52 = .ok (.iload_n 1, 1) := by decide +kernel
theorem dX1_cord_53 : decode cX1_cord 53 = .ok (.imul, 1) := by decide +kernel
theorem dX1_cord_54 : decode cX1_cord 54 = .ok (.iload_n 2, 1) := by decide +kernel
theorem dX1_cord_55 : decode cX1_cord 55 = .ok (.iadd, 1) := by decide +kernel
theorem dX1_cord_56 : decode cX1_cord 56 = .ok (.iload_n 3, 1) := by decide +kernel
theorem dX1_cord_57 : decode cX1_cord 57 = .ok (.iastore, 1) := by decide +kernel
theorem dX1_cord_58 : decode cX1_cord 58 = .ok (.aload_n 0, 1) := by decide +kernel
theorem dX1_cord_59 : decode cX1_cord 59 = .ok (.getfield 20, 3) := by decide +kernel
theorem dX1_cord_62 : decode cX1_cord 62 = .ok (.bipush 6, 2) := by decide +kernel
theorem dX1_cord_64 : decode cX1_cord 64 = .ok (.iload_n 1, 1) := by decide +kernel
theorem dX1_cord_65 : decode cX1_cord 65 = .ok (.imul, 1) := by decide +kernel
theorem dX1_cord_66 : decode cX1_cord 66 = .ok (.iload_n 2, 1) := by decide +kernel
theorem dX1_cord_67 : decode cX1_cord 67 = .ok (.iadd, 1) := by decide +kernel
theorem dX1_cord_68 : decode cX1_cord 68 = .ok (.iload 4, 2) := by decide +kernel
theorem dX1_cord_70 : decode cX1_cord 70 = .ok (.ifCond .eq 12, 3) := by decide +kernel
theorem dX1_cord_73 : decode cX1_cord 73 = .ok (.iload_n 3, 1) := by decide +kernel
theorem dX1_cord_74 : decode cX1_cord 74 = .ok (.iconst (-1), 1) := by decide +kernel
theorem dX1_cord_75 : decode cX1_cord 75 = .ok (.if_icmp .eq 7, 3) := by decide +kernel
theorem dX1_cord_78 : decode cX1_cord 78 = .ok (.iconst 1, 1) := by decide +kernel
theorem dX1_cord_79 : decode cX1_cord 79 = .ok (.goto 4, 3) := by decide +kernel
theorem dX1_cord_82 : decode cX1_cord 82 = .ok (.iconst 0, 1) := by decide +kernel
theorem dX1_cord_83 : decode cX1_cord 83 = .ok (.bastore, 1) := by decide +kernel
theorem dX1_cord_84 : decode cX1_cord 84 = .ok (.iconst 1, 1) := by decide +kernel
theorem dX1_cord_85 : decode cX1_cord 85 = .ok (.ireturn, 1) := by decide +kernel
theorem dX1_point_0 : decode cX1_point 0 = .ok (.aload_n 0, 1) := by decide +kernel
theorem dX1_point_1 : decode cX1_point 1 = .ok (.iload_n 1, 1) := by decide +kernel
theorem dX1_point_2 : decode cX1_point 2 = .ok (.invokevirtual 198, 3) := by decide +kernel
theorem dX1_point_5 : decode cX1_point 5 = .ok (.ifCond .ne 6, 3) := by decide +kernel
theorem dX1_point_8 : decode cX1_point 8 = .ok (.bipush (-101), 2) := by decide +kernel
theorem dX1_point_10 : decode cX1_point 10 = .ok (.ireturn, 1) := by decide +kernel
theorem dX1_point_11 : decode cX1_point 11 = .ok (.aload_n 0, 1) := by decide +kernel
theorem dX1_point_12 : decode cX1_point 12 = .ok (.getfield 7, 3) := by decide +kernel
theorem dX1_point_15 : decode cX1_point 15 = .ok (.iload_n 1, 1) := by decide +kernel
theorem dX1_point_16 : decode cX1_point 16 = .ok (.iaload, 1) := by decide +kernel
theorem dX1_point_17 : decode cX1_point 17 = .ok (.bipush 7, 2) := by decide +kernel
theorem dX1_point_19 : decode cX1_point 19 = .ok (.if_icmp .ne 18, 3) := by decide +kernel
theorem dX1_point_22 : decode cX1_point 22 = .ok (.lload_n 2, 1) := by decide +kernel
theorem dX1_point_23 : decode cX1_point 23 = .ok (.invokestatic 204, 3) := by decide +kernel
theorem dX1_point_26 : decode cX1_point 26 = .ok (.ifCond .eq 11, 3) := by decide +kernel
theorem dX1_point_29 : decode cX1_point 29 = .ok (.lload 4, 2) := by decide +kernel
theorem dX1_point_31 : decode cX1_point 31 = .ok (.invokestatic 204, 3) := by decide +kernel
theorem dX1_point_34 : decode cX1_point 34 = .ok (.ifCond .ne 6, 3) := by decide +kernel
theorem dX1_point_37 : decode cX1_point 37 = .ok (.bipush (-102), 2) := by decide +kernel
theorem dX1_point_39 : decode cX1_point 39 = .ok (.ireturn, 1) := by decide +kernel
theorem dX1_point_40 : decode cX1_point 40 = .ok (.lload_n 2, 1) := by decide +kernel
theorem dX1_point_41 : decode cX1_point 41 = .ok (.invokestatic 185, 3) := by decide +kernel
theorem dX1_point_44 : decode cX1_point 44 = .ok (.dstore 6, 2) := by decide +kernel
theorem dX1_point_46 : decode cX1_point 46 = .ok (.bipush 8, 2) := by decide +kernel
theorem dX1_point_48 : decode cX1_point 48 = .ok (.iload_n 1, 1) := by decide +kernel
theorem dX1_point_49 : decode cX1_point 49 = .ok (.imul, 1) := by decide +kernel
theorem dX1_point_50 : decode cX1_point 50 = .ok (.aload_n 0, 1) := by decide +kernel
theorem dX1_point_51 : decode cX1_point 51 = .ok (.getfield 27, 3) := by decide +kernel
theorem dX1_point_54 : decode cX1_point 54 = .ok (.iload_n 1, 1) := by decide +kernel
theorem dX1_point_55 : decode cX1_point 55 = .ok (.iaload, 1) := by decide +kernel
theorem dX1_point_56 : decode cX1_point 56 = .ok (.iadd, 1) := by decide +kernel
theorem dX1_point_57 : decode cX1_point 57 = .ok (.iconst 1, 1) := by decide +kernel
theorem dX1_point_58 : decode cX1_point 58 = .ok (.isub, 1) := by decide +kernel
theorem dX1_point_59 : decode cX1_point 59 = .ok (.istore 8, 2) := by decide +kernel
theorem dX1_point_61 : decode cX1_point 61 = .ok (.aload_n 0, 1) := by decide +kernel
theorem dX1_point_62 : decode cX1_point 62 = .ok (.getfield 27, 3) := by decide +kernel
theorem dX1_point_65 : decode cX1_point 65 = .ok (.iload_n 1, 1) := by decide +kernel
theorem dX1_point_66 : decode cX1_point 66 = .ok (.iaload, 1) := by decide +kernel
theorem dX1_point_67 : decode cX1_point 67 = .ok (.ifCond .le 34, 3) := by decide +kernel
theorem dX1_point_70 : decode cX1_point 70 = .ok (.dload 6, 2) := by decide +kernel
theorem dX1_point_72 : decode cX1_point 72 = .ok (.aload_n 0, 1) := by decide +kernel
theorem dX1_point_73 : decode cX1_point 73 = .ok (.getfield 30, 3) := by decide +kernel
theorem dX1_point_76 : decode cX1_point 76 = .ok (.iload 8, 2) := by decide +kernel
theorem dX1_point_78 : decode cX1_point 78 = .ok (.daload, 1) := by decide +kernel
theorem dX1_point_79 : decode cX1_point 79 = .ok (.dcmp .l, 1) := by decide +kernel
theorem dX1_point_80 : decode cX1_point 80 = .ok (.ifCond .le 18, 3) := by decide +kernel
theorem dX1_point_83 : decode cX1_point 83 = .ok (.dload 6, 2) := by decide +kernel
theorem dX1_point_85 : decode cX1_point 85 = .ok (.d2f, 1) := by decide +kernel
theorem dX1_point_86 : decode cX1_point 86 = .ok (.aload_n 0, 1) := by decide +kernel
theorem dX1_point_87 : decode cX1_point 87 = .ok (.getfield 30, 3) := by decide +kernel
theorem dX1_point_90 : decode cX1_point 90 = .ok (.iload 8, 2) := by decide +kernel
theorem dX1_point_92 : decode cX1_point 92 = .ok (.daload, 1) := by decide +kernel
theorem dX1_point_93 : decode cX1_point 93 = .ok (.d2f, 1) := by decide +kernel
theorem dX1_point_94 : decode cX1_point 94 = .ok (.fcmp .l, 1) := by decide +kernel
theorem dX1_point_95 : decode cX1_point 95 = .ok (.ifCond .gt 6, 3) := by decide +kernel
theorem dX1_point_98 : decode cX1_point 98 = .ok (.bipush (-102), 2) := by decide +kernel
theorem dX1_point_100 : decode cX1_point 100 = .ok (.ireturn, 1) := by decide +kernel
theorem dX1_point_101 : decode cX1_point 101 = .ok (.aload_n 0, 1) := by decide +kernel
theorem dX1_point_102 : decode cX1_point 102 = .ok (.getfield 195, 3) := by decide +kernel
theorem dX1_point_105 : decode cX1_point 105 = .ok (.ifCond .eq 6, 3) := by decide +kernel
theorem dX1_point_108 : decode cX1_point 108 = .ok (.bipush (-103), 2) := by decide +kernel
theorem dX1_point_110 : decode cX1_point 110 = .ok (.ireturn, 1) := by decide +kernel
theorem dX1_point_111 : decode cX1_point 111 = .ok (.aload_n 0, 1) := by decide +kernel
theorem dX1_point_112 : decode cX1_point 112 = .ok (.getfield 27, 3) := by decide +kernel
theorem dX1_point_115 : decode cX1_point 115 = .ok (.iload_n 1, 1) := by decide +kernel
theorem dX1_point_116 : decode cX1_point 116 = .ok (.iaload, 1) := by decide +kernel
theorem dX1_point_117 : decode cX1_point 117 = .ok (.bipush 8, 2) := by decide +kernel
theorem dX1_point_119 : decode cX1_point 119 = .ok (.if_icmp .ne 6, 3) := by decide +kernel
theorem dX1_point_122 : decode cX1_point 122 = .ok (.bipush (-104), 2) := by decide +kernel
theorem dX1_point_124 : decode cX1_point 124 = .ok (.ireturn, 1) := by decide +kernel
theorem dX1_point_125 : decode cX1_point 125 = .ok (.aload_n 0, 1) := by decide +kernel
theorem dX1_point_126 : decode cX1_point 126 = .ok (.getfield 30, 3) := by decide +kernel
theorem dX1_point_129 : decode cX1_point 129 = .ok (.iload 8, 2) := by decide +kernel
theorem dX1_point_131 : decode cX1_point 131 = .ok (.iconst 1, 1) := by decide +kernel
theorem dX1_point_132 : decode cX1_point 132 = .ok (.iadd, 1) := by decide +kernel
theorem dX1_point_133 : decode cX1_point 133 = .ok (.dload 6, 2) := by decide +kernel
theorem dX1_point_135 : decode cX1_point 135 = .ok (.dastore, 1) := by decide +kernel
theorem dX1_point_136 : decode cX1_point 136 = .ok (.aload_n 0, 1) := by decide +kernel
theorem dX1_point_137 : decode cX1_point 137 = .ok (.getfield 33, 3) := by decide +kernel
theorem dX1_point_140 : decode cX1_point 140 = .ok (.iload 8, 2) := by decide +kernel
theorem dX1_point_142 : decode cX1_point 142 = .ok (.iconst 1, 1) := by decide +kernel
theorem dX1_point_143 : decode cX1_point 143 = .ok (.iadd, 1) := by decide +kernel
theorem dX1_point_144 : decode cX1_point 144 = .ok (.lload 4, 2) := by decide +kernel
theorem dX1_point_146 : decode cX1_point 146 = .ok (.invokestatic 185, 3) := by decide +kernel
theorem dX1_point_149 : decode cX1_point 149 = .ok (.dastore, 1) := by decide +kernel
theorem dX1_point_150 : decode cX1_point 150 = .ok (.aload_n 0, 1) := by decide +kernel
theorem dX1_point_151 : decode cX1_point 151 = .ok (.getfield 27, 3) := by decide +kernel
theorem dX1_point_154 : decode cX1_point 154 = .ok (.iload_n 1, 1) := by decide +kernel
theorem dX1_point_155 : decode cX1_point 155 = .ok (.dup2, 1) := by decide +kernel
theorem dX1_point_156 : decode cX1_point 156 = .ok (.iaload, 1) := by decide +kernel
theorem dX1_point_157 : decode cX1_point 157 = .ok (.iconst 1, 1) := by decide +kernel
theorem dX1_point_158 : decode cX1_point 158 = .ok (.iadd, 1) := by decide +kernel
theorem dX1_point_159 : decode cX1_point 159 = .ok (.iastore, 1) := by decide +kernel
theorem dX1_point_160 : decode cX1_point 160 = .ok (.aload_n 0, 1) := by decide +kernel
theorem dX1_point_161 : decode cX1_point 161 = .ok (.getfield 27, 3) := by decide +kernel
theorem dX1_point_164 : decode cX1_point 164 = .ok (.iload_n 1, 1) := by decide +kernel
theorem dX1_point_165 : decode cX1_point 165 = .ok (.iaload, 1) := by decide +kernel
theorem dX1_point_166 : decode cX1_point 166 = .ok (.ireturn, 1) := by decide +kernel
theorem dX1_begin_0 : decode cX1_begin 0 = .ok (.aload_n 0, 1) := by decide +kernel
theorem dX1_begin_1 : decode cX1_begin 1 = .ok (.iload_n 1, 1) := by decide +kernel
theorem dX1_begin_2 : decode cX1_begin 2 = .ok (.invokevirtual 198, 3) := by decide +kernel
theorem dX1_begin_5 : decode cX1_begin 5 = .ok (.ifCond .ne 6, 3) := by decide +kernel
theorem dX1_begin_8 : decode cX1_begin 8 = .ok (.bipush (-101), 2) := by decide +kernel
theorem dX1_begin_10 : decode cX1_begin 10 = .ok (.ireturn, 1) := by decide +kernel
theorem dX1_begin_11 : decode cX1_begin 11 = .ok (.lload_n 2, 1) := by decide +kernel
theorem dX1_begin_12 : decode cX1_begin 12 = .ok (.invokestatic 204, 3) := by decide +kernel
theorem dX1_begin_15 : decode cX1_begin 15 = .ok (.ifCond .eq 15, 3) := by decide +kernel
theorem dX1_begin_18 : decode cX1_begin 18 = .ok (.aload_n 0, 1) := by decide +kernel
theorem dX1_begin_19 : decode cX1_begin 19 = .ok (.getfield 7, 3) := by decide +kernel
theorem dX1_begin_22 : decode cX1_begin 22 = .ok (.iload_n 1, 1) := by decide +kernel
theorem dX1_begin_23 : decode cX1_begin 23 = .ok (.iaload, 1) := by decide +kernel
theorem dX1_begin_24 : decode cX1_begin 24 = .ok (.invokestatic 207, 3) := by decide +kernel
theorem dX1_begin_27 : decode cX1_begin 27 = .ok (.ifCond .ne 6, 3) := by decide +kernel
theorem dX1_begin_30 : decode cX1_begin 30 = .ok (.bipush (-102), 2) := by decide +kernel
theorem dX1_begin_32 : decode cX1_begin 32 = .ok (.ireturn, 1) := by decide +kernel
theorem dX1_begin_33 : decode cX1_begin 33 = .ok (.aload_n 0, 1) := by decide +kernel
theorem dX1_begin_34 : decode cX1_begin 34 = .ok (.getfield 195, 3) := by decide +kernel
theorem dX1_begin_37 : decode cX1_begin 37 = .ok (.ifCond .eq 6, 3) := by decide +kernel
theorem dX1_begin_40 : decode cX1_begin 40 = .ok (.bipush (-103), 2) := by decide +kernel
theorem dX1_begin_42 : decode cX1_begin 42 = .ok (.ireturn, 1) := by decide +kernel
theorem dX1_begin_43 : decode cX1_begin 43 = .ok (.aload_n 0, 1) := by decide +kernel
theorem dX1_begin_44 : decode cX1_begin 44 = .ok (.getfield 24, 3) := by decide +kernel
theorem dX1_begin_47 : decode cX1_begin 47 = .ok (.iload_n 1, 1) := by decide +kernel
theorem dX1_begin_48 : decode cX1_begin 48 = .ok (.lload_n 2, 1) := by decide +kernel
theorem dX1_begin_49 : decode cX1_begin 49 = .ok (.invokestatic 185, 3) := by decide +kernel
theorem dX1_begin_52 : decode cX1_begin 52 = .ok (.dastore, 1) := by decide +kernel
theorem dX1_begin_53 : decode cX1_begin 53 = .ok (.iconst 1, 1) := by decide +kernel
theorem dX1_begin_54 : decode cX1_begin 54 = .ok (.ireturn, 1) := by decide +kernel
theorem dX1_setting_0 : decode cX1_setting 0 = .ok (.aload_n 0, 1) := by decide +kernel
theorem dX1_setting_1 : decode cX1_setting 1 = .ok (.iload_n 1, 1) := by decide +kernel
theorem dX1_setting_2 : decode cX1_setting 2 = .ok (.invokevirtual 198, 3) := by decide +kernel
theorem dX1_setting_5 : decode cX1_setting 5 = .ok (.ifCond .ne 6, 3) := by decide +kernel
theorem dX1_setting_8 : decode cX1_setting 8 = .ok (.bipush (-101), 2) := by decide +kernel
theorem dX1_setting_10 : decode cX1_setting 10 = .ok (.ireturn, 1) := by decide +kernel
theorem dX1_setting_11 : decode cX1_setting 11 = .ok (.lload_n 2, 1) := by decide +kernel
theorem dX1_setting_12 : decode cX1_setting 12 = .ok (.invokestatic 181, 3) := by decide +kernel
theorem dX1_setting_15 : decode cX1_setting 15 = .ok (.ifCond .eq 19, 3) := by decide +kernel
theorem dX1_setting_18 : decode cX1_setting 18 = .ok (.aload_n 0, 1) := by decide +kernel
theorem dX1_setting_19 : decode cX1_setting 19 = .ok (.getfield 7, 3) := by decide +kernel
theorem dX1_setting_22 : decode cX1_setting 22 = .ok (.iload_n 1, 1) := by decide +kernel
theorem dX1_setting_23 : decode cX1_setting 23 = .ok (.iaload, 1) := by decide +kernel
theorem dX1_setting_24 : decode cX1_setting 24 = .ok (.lload_n 2, 1) := by decide +kernel
theorem dX1_setting_25 : decode cX1_setting 25 = .ok (.invokestatic 185, 3) := by decide +kernel
theorem dX1_setting_28 : decode cX1_setting 28 = .ok (.invokestatic 191, 3) := by decide +kernel
theorem dX1_setting_31 : decode cX1_setting 31 = .ok (.ifCond .ne 6, 3) := by decide +kernel
theorem dX1_setting_34 : decode cX1_setting 34 = .ok (.bipush (-102), 2) := by decide +kernel
theorem dX1_setting_36 : decode cX1_setting 36 = .ok (.ireturn, 1) := by decide +kernel
theorem dX1_setting_37 : decode cX1_setting 37 = .ok (.aload_n 0, 1) := by decide +kernel
theorem dX1_setting_38 : decode cX1_setting 38 = .ok (.getfield 195, 3) := by decide +kernel
theorem dX1_setting_41 : decode cX1_setting 41 = .ok (.ifCond .eq 6, 3) := by decide +kernel
theorem dX1_setting_44 : decode cX1_setting 44 = .ok (.bipush (-103), 2) := by decide +kernel
theorem dX1_setting_46 : decode cX1_setting 46 = .ok (.ireturn, 1) := by decide +kernel
theorem dX1_setting_47 : decode cX1_setting 47 = .ok (.aload_n 0, 1) := by decide +kernel
theorem dX1_setting_48 : decode cX1_setting 48 = .ok (.getfield 13, 3) := by decide +kernel
theorem dX1_setting_51 : decode cX1_setting 51 = .ok (.iload_n 1, 1) := by decide +kernel
theorem dX1_setting_52 : decode cX1_setting 52 = .ok (.lload_n 2, 1) := by decide +kernel
theorem dX1_setting_53 : decode cX1_setting 53 = .ok (.invokestatic 185, 3) := by decide +kernel
theorem dX1_setting_56 : decode cX1_setting 56 = .ok (.dastore, 1) := by decide +kernel
theorem dX1_setting_57 : decode cX1_setting 57 = .ok (.iconst 1, 1) := by decide +kernel
theorem dX1_setting_58 : decode cX1_setting 58 = .ok (.ireturn, 1) := by decide +kernel
theorem dX1_rule_0 : decode cX1_rule 0 = .ok (.iload_n 1, 1) := by decide +kernel
theorem dX1_rule_1 : decode cX1_rule 1 = .ok (.iconst 0, 1) := by decide +kernel
theorem dX1_rule_2 : decode cX1_rule 2 = .ok (.iconst 2, 1) := by decide +kernel
theorem dX1_rule_3 : decode cX1_rule 3 = .ok (.invokestatic 161, 3) := by decide +kernel
theorem dX1_rule_6 : decode cX1_rule 6 = .ok (.ifCond .eq 13, 3) := by decide +kernel
theorem dX1_rule_9 : decode cX1_rule 9 = .ok (.iload_n 2, 1) := by decide +kernel
theorem dX1_rule_10 : decode cX1_rule 10 = .ok (.iconst 1, 1) := by decide +kernel
theorem dX1_rule_11 : decode cX1_rule 11 = .ok (.bipush 20, 2) := by decide +kernel
theorem dX1_rule_13 : decode cX1_rule 13 = .ok (.invokestatic 161, 3) := by decide +kernel
theorem dX1_rule_16 : decode cX1_rule 16 = .ok (.ifCond .ne 6, 3) := by decide +kernel
theorem dX1_rule_19 : decode cX1_rule 19 = .ok (.bipush (-102), 2) := by decide +kernel
theorem dX1_rule_21 : decode cX1_rule 21 = .ok (.ireturn, 1) := by decide +kernel
theorem dX1_rule_22 : decode cX1_rule 22 = .ok (.aload_n 0, 1) := by decide +kernel
theorem dX1_rule_23 : decode cX1_rule 23 = .ok (.getfield 195, 3) := by decide +kernel
theorem dX1_rule_26 : decode cX1_rule 26 = .ok (.ifCond .eq 6, 3) := by decide +kernel
theorem dX1_rule_29 : decode cX1_rule 29 = .ok (.bipush (-103), 2) := by decide +kernel
theorem dX1_rule_31 : decode cX1_rule 31 = .ok (.ireturn, 1) := by decide +kernel
theorem dX1_rule_32 : decode cX1_rule 32 = .ok (.aload_n 0, 1) := by decide +kernel
theorem dX1_rule_33 : decode cX1_rule 33 = .ok (.iload_n 1, 1) := by decide +kernel
theorem dX1_rule_34 : decode cX1_rule 34 = .ok (.putfield 210, 3) := by decide +kernel
theorem dX1_rule_37 : decode cX1_rule 37 = .ok (.aload_n 0, 1) := by decide +kernel
theorem dX1_rule_38 : decode cX1_rule 38 = .ok (.iload_n 2, 1) := by decide +kernel
theorem dX1_rule_39 : decode cX1_rule 39 = .ok (.putfield 42, 3) := by decide +kernel
theorem dX1_rule_42 : decode cX1_rule 42 = .ok (.iconst 1, 1) := by decide +kernel
theorem dX1_rule_43 : decode cX1_rule 43 = .ok (.ireturn, 1) := by decide +kernel
theorem dX1_fail_0 : decode cX1_fail 0 = .ok (.aload_n 0, 1) := by decide +kernel
theorem dX1_fail_1 : decode cX1_fail 1 = .ok (.iload_n 1, 1) := by decide +kernel
theorem dX1_fail_2 : decode cX1_fail 2 = .ok (.invokevirtual 198, 3) := by decide +kernel
theorem dX1_fail_5 : decode cX1_fail 5 = .ok (.ifCond .ne 6, 3) := by decide +kernel
theorem dX1_fail_8 : decode cX1_fail 8 = .ok (.bipush (-101), 2) := by decide +kernel
theorem dX1_fail_10 : decode cX1_fail 10 = .ok (.ireturn, 1) := by decide +kernel
theorem dX1_fail_11 : decode cX1_fail 11 = .ok (.iload_n 2, 1) := by decide +kernel
theorem dX1_fail_12 : decode cX1_fail 12 = .ok (.iconst 0, 1) := by decide +kernel
theorem dX1_fail_13 : decode cX1_fail 13 = .ok (.sipush 300, 3) := by decide +kernel
theorem dX1_fail_16 : decode cX1_fail 16 = .ok (.invokestatic 161, 3) := by decide +kernel
theorem dX1_fail_19 : decode cX1_fail 19 = .ok (.ifCond .ne 6, 3) := by decide +kernel
theorem dX1_fail_22 : decode cX1_fail 22 = .ok (.bipush (-102), 2) := by decide +kernel
theorem dX1_fail_24 : decode cX1_fail 24 = .ok (.ireturn, 1) := by decide +kernel
theorem dX1_fail_25 : decode cX1_fail 25 = .ok (.aload_n 0, 1) := by decide +kernel
theorem dX1_fail_26 : decode cX1_fail 26 = .ok (.getfield 36, 3) := by decide +kernel
theorem dX1_fail_29 : decode cX1_fail 29 = .ok (.iload_n 1, 1) := by decide +kernel
theorem dX1_fail_30 : decode cX1_fail 30 = .ok (.iload_n 2, 1) := by decide +kernel
theorem dX1_fail_31 : decode cX1_fail 31 = .ok (.iastore, 1) := by decide +kernel
theorem dX1_fail_32 : decode cX1_fail 32 = .ok (.iconst 1, 1) := by decide +kernel
theorem dX1_fail_33 : decode cX1_fail 33 = .ok (.ireturn, 1) := by decide +kernel
theorem dX1_strip_0 : decode cX1_strip 0 = .ok (.aload_n 0, 1) := by decide +kernel
theorem dX1_strip_1 : decode cX1_strip 1 = .ok (.iload_n 1, 1) := by decide +kernel
theorem dX1_strip_2 : decode cX1_strip 2 = .ok (.invokevirtual 198, 3) := by decide +kernel
theorem dX1_strip_5 : decode cX1_strip 5 = .ok (.ifCond .ne 6, 3) := by decide +kernel
theorem dX1_strip_8 : decode cX1_strip 8 = .ok (.bipush (-101), 2) := by decide +kernel
theorem dX1_strip_10 : decode cX1_strip 10 = .ok (.ireturn, 1) := by decide +kernel
theorem dX1_strip_11 : decode cX1_strip 11 = .ok (.aload_n 0, 1) := by decide +kernel
theorem dX1_strip_12 : decode cX1_strip 12 = .ok (.getfield 195, 3) := by decide +kernel
theorem dX1_strip_15 : decode cX1_strip 15 = .ok (.ifCond .eq 6, 3) := by decide +kernel
theorem dX1_strip_18 : decode cX1_strip 18 = .ok (.bipush (-103), 2) := by decide +kernel
theorem dX1_strip_20 : decode cX1_strip 20 = .ok (.ireturn, 1) := by decide +kernel
theorem dX1_strip_21 : decode cX1_strip 21 = .ok (.aload_n 0, 1) := by decide +kernel
theorem dX1_strip_22 : decode cX1_strip 22 = .ok (.getfield 332, 3) := by decide +kernel
theorem dX1_strip_25 : decode cX1_strip 25 = .ok (.bipush 6, 2) := by decide +kernel
theorem dX1_strip_27 : decode cX1_strip 27 = .ok (.if_icmp .ne 6, 3) := by decide +kernel
theorem dX1_strip_30 : decode cX1_strip 30 = .ok (.bipush (-104), 2) := by decide +kernel
theorem dX1_strip_32 : decode cX1_strip 32 = .ok (.ireturn, 1) := by decide +kernel
theorem dX1_strip_33 : decode cX1_strip 33 = .ok (.aload_n 0, 1) := by decide +kernel
theorem dX1_strip_34 : decode cX1_strip 34 = .ok (.getfield 107, 3) := by decide +kernel
theorem dX1_strip_37 : decode cX1_strip 37 = .ok (.aload_n 0, 1) := by decide +kernel
theorem dX1_strip_38 : decode cX1_strip 38 = .ok (.getfield 332, 3) := by decide +kernel
theorem dX1_strip_41 : decode cX1_strip 41 = .ok (.iload_n 1, 1) := by decide +kernel
theorem dX1_strip_42 : decode cX1_strip 42 = .ok (.iastore, 1) := by decide +kernel
theorem dX1_strip_43 : decode cX1_strip 43 = .ok (.aload_n 0, 1) := by decide +kernel
theorem dX1_strip_44 : decode cX1_strip 44 = .ok (.getfield 110, 3) := by decide +kernel
theorem dX1_strip_47 : decode cX1_strip 47 = .ok (.aload_n 0, 1) := by decide +kernel
theorem dX1_strip_48 : decode cX1_strip 48 = .ok (.getfield 332, 3) := by decide +kernel
theorem dX1_strip_51 : decode cX1_strip 51 = .ok (.iconst 0, 1) := by decide +kernel
theorem dX1_strip_52 : decode cX1_strip 52 = .ok (.iastore, 1) := by decide +kernel
theorem dX1_strip_53 : decode cX1_strip 53 = .ok (.aload_n 0, 1) := by decide +kernel
theorem dX1_strip_54 : decode cX1_strip 54 = .ok (.dup, 1) := by decide +kernel
theorem dX1_strip_55 : decode cX1_strip 55 = .ok (.getfield 332, 3) := by decide +kernel
theorem dX1_strip_58 : decode cX1_strip 58 = .ok (.iconst 1, 1) := by decide +kernel
theorem dX1_strip_59 : decode cX1_strip 59 = .ok (.iadd, 1) := by decide +kernel
theorem dX1_strip_60 : decode cX1_strip 60 = .ok (.putfield 332, 3) := by decide +kernel
theorem dX1_strip_63 : decode cX1_strip 63 = .ok (.aload_n 0, 1) := by decide +kernel
theorem dX1_strip_64 : decode cX1_strip 64 = .ok (.getfield 332, 3) := by decide +kernel
theorem dX1_strip_67 : decode cX1_strip 67 = .ok (.iconst 1, 1) := by decide +kernel
theorem dX1_strip_68 : decode cX1_strip 68 = .ok (.isub, 1) := by decide +kernel
theorem dX1_strip_69 : decode cX1_strip 69 = .ok (.ireturn, 1) := by decide +kernel
theorem dX1_isStrip_0 : decode cX1_isStrip 0 = .ok (.iload_n 1, 1) := by decide +kernel
theorem dX1_isStrip_1 : decode cX1_isStrip 1 = .ok (.iconst 0, 1) := by decide +kernel
theorem dX1_isStrip_2 : decode cX1_isStrip 2 = .ok (.aload_n 0, 1) := by decide +kernel
theorem dX1_isStrip_3 : decode cX1_isStrip 3 = .ok (.getfield 332, 3) := by decide +kernel
theorem dX1_isStrip_6 : decode cX1_isStrip 6 = .ok (.iconst 1, 1) := by decide +kernel
theorem dX1_isStrip_7 : decode cX1_isStrip 7 = .ok (.isub, 1) := by decide +kernel
theorem dX1_isStrip_8 : decode cX1_isStrip 8 = .ok (.invokestatic 161, 3) := by decide +kernel
theorem dX1_isStrip_11 : decode cX1_isStrip 11 = .ok (.ireturn, 1) := by decide +kernel
theorem dX1_samples_0 : decode cX1_samples 0 = .ok (.aload_n 0, 1) := by decide +kernel
theorem dX1_samples_1 : decode cX1_samples 1 = .ok (.iload_n 1, 1) := by decide +kernel
theorem dX1_samples_2 : decode cX1_samples 2 = .ok (.invokevirtual 359, 3) := by decide +kernel
theorem dX1_samples_5 : decode cX1_samples 5 = .ok (.ifCond .eq 12, 3) := by decide +kernel
theorem dX1_samples_8 : decode cX1_samples 8 = .ok (.aload_n 0, 1) := by decide +kernel
theorem dX1_samples_9 : decode cX1_samples 9 = .ok (.getfield 110, 3) := by decide +kernel
theorem dX1_samples_12 : decode cX1_samples 12 = .ok (.iload_n 1, 1) := by decide +kernel
theorem dX1_samples_13 : decode cX1_samples 13 = .ok (.iaload, 1) := by decide +kernel
theorem dX1_samples_14 : decode cX1_samples 14 = .ok (.goto 5, 3) := by decide +kernel
theorem dX1_samples_17 : decode cX1_samples 17 = .ok (.bipush (-101), 2) := by decide +kernel
theorem dX1_samples_19 : decode cX1_samples 19 = .ok (.ireturn, 1) := by decide +kernel
theorem dX1_sample_0 : decode cX1_sample 0 = .ok (.aload_n 0, 1) := by decide +kernel
theorem dX1_sample_1 : decode cX1_sample 1 = .ok (.iload_n 1, 1) := by decide +kernel
theorem dX1_sample_2 : decode cX1_sample 2 = .ok (.invokevirtual 359, 3) := by decide +kernel
theorem dX1_sample_5 : decode cX1_sample 5 = .ok (.ifCond .eq 36, 3) := by decide +kernel
theorem dX1_sample_8 : decode cX1_sample 8 = .ok (.iload_n 2, 1) := by decide +kernel
theorem dX1_sample_9 : decode cX1_sample 9 = .ok (.iconst 0, 1) := by decide +kernel
theorem dX1_sample_10 : decode cX1_sample 10 = .ok (.aload_n 0, 1) := by decide +kernel
theorem dX1_sample_11 : decode cX1_sample 11 = .ok (.getfield 110, 3) := by decide +kernel
theorem dX1_sample_14 : decode cX1_sample 14 = .ok (.iload_n 1, 1) := by decide +kernel
theorem dX1_sample_15 : decode cX1_sample 15 = .ok (.iaload, 1) := by decide +kernel
theorem dX1_sample_16 : decode cX1_sample 16 = .ok (.iconst 1, 1) := by decide +kernel
theorem dX1_sample_17 : decode cX1_sample 17 = .ok (.isub, 1) := by decide +kernel
theorem dX1_sample_18 : decode cX1_sample 18 = .ok (.invokestatic 161, 3) := by decide +kernel
theorem dX1_sample_21 : decode cX1_sample 21 = .ok (.ifCond .eq 20, 3) := by decide +kernel
theorem dX1_sample_24 : decode cX1_sample 24 = .ok (.aload_n 0, 1) := by decide +kernel
theorem dX1_sample_25 : decode cX1_sample 25 = .ok (.getfield 113, 3) := by decide +kernel
theorem dX1_sample_28 : decode cX1_sample 28 = .ok (.bipush 120, 2) := by decide +kernel
theorem dX1_sample_30 : decode cX1_sample 30 = .ok (.iload_n 1, 1) := by decide +kernel
theorem dX1_sample_31 : decode cX1_sample 31 = .ok (.imul, 1) := by decide +kernel
theorem dX1_sample_32 : decode cX1_sample 32 = .ok (.iload_n 2, 1) := by decide +kernel
theorem dX1_sample_33 : decode cX1_sample 33 = .ok (.iadd, 1) := by decide +kernel
theorem dX1_sample_34 : decode cX1_sample 34 = .ok (.daload, 1) := by decide +kernel
theorem dX1_sample_35 : decode cX1_sample 35 = .ok (.invokestatic 250, 3) := by decide +kernel
theorem dX1_sample_38 : decode cX1_sample 38 = .ok (.goto 4, 3) := by decide +kernel
theorem dX1_sample_41 : decode cX1_sample 41 = .ok (.lconst 0, 1) := by decide +kernel
theorem dX1_sample_42 : decode cX1_sample 42 = .ok (.lreturn, 1) := by decide +kernel
theorem dX1_now_0 : decode cX1_now 0 = .ok (.aload_n 0, 1) := by decide +kernel
theorem dX1_now_1 : decode cX1_now 1 = .ok (.getfield 195, 3) := by decide +kernel
theorem dX1_now_4 : decode cX1_now 4 = .ok (.ireturn, 1) := by decide +kernel
theorem dX1_time_0 : decode cX1_time 0 = .ok (.aload_n 0, 1) := by decide +kernel
theorem dX1_time_1 : decode cX1_time 1 = .ok (.getfield 322, 3) := by decide +kernel
theorem dX1_time_4 : decode cX1_time 4 = .ok (.ireturn, 1) := by decide +kernel
theorem dX1_reading_0 : decode cX1_reading 0 = .ok (.aload_n 0, 1) := by decide +kernel
theorem dX1_reading_1 : decode cX1_reading 1 = .ok (.iload_n 1, 1) := by decide +kernel
theorem dX1_reading_2 : decode cX1_reading 2 = .ok (.invokevirtual 198, 3) := by decide +kernel
theorem dX1_reading_5 : decode cX1_reading 5 = .ok (.ifCond .eq 22, 3) := by decide +kernel
theorem dX1_reading_8 : decode cX1_reading 8 = .ok (.aload_n 0, 1) := by decide +kernel
theorem dX1_reading_9 : decode cX1_reading 9 = .ok (.getfield 195, 3) := by decide +kernel
theorem dX1_reading_12 : decode cX1_reading 12 = .ok (.ifCond .eq 15, 3) := by decide +kernel
theorem dX1_reading_15 : decode cX1_reading 15 = .ok (.aload_n 0, 1) := by decide +kernel
theorem dX1_reading_16 : decode cX1_reading 16 = .ok (.getfield 53, 3) := by decide +kernel
theorem dX1_reading_19 : decode cX1_reading 19 = .ok (.iload_n 1, 1) := by decide +kernel
theorem dX1_reading_20 : decode cX1_reading 20 = .ok (.daload, 1) := by decide +kernel
theorem dX1_reading_21 : decode cX1_reading 21 = .ok (.invokestatic 250, 3) := by decide +kernel
theorem dX1_reading_24 : decode cX1_reading 24 = .ok (.goto 4, 3) := by decide +kernel
theorem dX1_reading_27 : decode cX1_reading 27 = .ok (.lconst 0, 1) := by decide +kernel
theorem dX1_reading_28 : decode cX1_reading 28 = .ok (.lreturn, 1) := by decide +kernel
theorem dX1_single_0 : decode cX1_single 0 = .ok (.aload_n 0, 1) := by decide +kernel
theorem dX1_single_1 : decode cX1_single 1 = .ok (.iload_n 1, 1) := by decide +kernel
theorem dX1_single_2 : decode cX1_single 2 = .ok (.invokevirtual 198, 3) := by decide +kernel
theorem dX1_single_5 : decode cX1_single 5 = .ok (.ifCond .eq 22, 3) := by decide +kernel
theorem dX1_single_8 : decode cX1_single 8 = .ok (.aload_n 0, 1) := by decide +kernel
theorem dX1_single_9 : decode cX1_single 9 = .ok (.getfield 195, 3) := by decide +kernel
theorem dX1_single_12 : decode cX1_single 12 = .ok (.ifCond .eq 15, 3) := by decide +kernel
theorem dX1_single_15 : decode cX1_single 15 = .ok (.aload_n 0, 1) := by decide +kernel
theorem dX1_single_16 : decode cX1_single 16 = .ok (.getfield 56, 3) := by decide +kernel
theorem dX1_single_19 : decode cX1_single 19 = .ok (.iload_n 1, 1) := by decide +kernel
theorem dX1_single_20 : decode cX1_single 20 = .ok (.faload, 1) := by decide +kernel
theorem dX1_single_21 : decode cX1_single 21 = .ok (.invokestatic 353, 3) := by decide +kernel
theorem dX1_single_24 : decode cX1_single 24 = .ok (.goto 4, 3) := by decide +kernel
theorem dX1_single_27 : decode cX1_single 27 = .ok (.iconst 0, 1) := by decide +kernel
theorem dX1_single_28 : decode cX1_single 28 = .ok (.ireturn, 1) := by decide +kernel
theorem dX1_lamp_0 : decode cX1_lamp 0 = .ok (.aload_n 0, 1) := by decide +kernel
theorem dX1_lamp_1 : decode cX1_lamp 1 = .ok (.iload_n 1, 1) := by decide +kernel
theorem dX1_lamp_2 : decode cX1_lamp 2 = .ok (.invokevirtual 198, 3) := by decide +kernel
theorem dX1_lamp_5 : decode cX1_lamp 5 = .ok (.ifCond .eq 12, 3) := by decide +kernel
theorem dX1_lamp_8 : decode cX1_lamp 8 = .ok (.aload_n 0, 1) := by decide +kernel
theorem dX1_lamp_9 : decode cX1_lamp 9 = .ok (.getfield 68, 3) := by decide +kernel
theorem dX1_lamp_12 : decode cX1_lamp 12 = .ok (.iload_n 1, 1) := by decide +kernel
theorem dX1_lamp_13 : decode cX1_lamp 13 = .ok (.iaload, 1) := by decide +kernel
theorem dX1_lamp_14 : decode cX1_lamp 14 = .ok (.goto 5, 3) := by decide +kernel
theorem dX1_lamp_17 : decode cX1_lamp 17 = .ok (.bipush (-101), 2) := by decide +kernel
theorem dX1_lamp_19 : decode cX1_lamp 19 = .ok (.ireturn, 1) := by decide +kernel
theorem dX1_apart_0 : decode cX1_apart 0 = .ok (.aload_n 0, 1) := by decide +kernel
theorem dX1_apart_1 : decode cX1_apart 1 = .ok (.iload_n 1, 1) := by decide +kernel
theorem dX1_apart_2 : decode cX1_apart 2 = .ok (.invokevirtual 198, 3) := by decide +kernel
theorem dX1_apart_5 : decode cX1_apart 5 = .ok (.ifCond .eq 22, 3) := by decide +kernel
theorem dX1_apart_8 : decode cX1_apart 8 = .ok (.aload_n 0, 1) := by decide +kernel
theorem dX1_apart_9 : decode cX1_apart 9 = .ok (.getfield 195, 3) := by decide +kernel
theorem dX1_apart_12 : decode cX1_apart 12 = .ok (.ifCond .eq 15, 3) := by decide +kernel
theorem dX1_apart_15 : decode cX1_apart 15 = .ok (.aload_n 0, 1) := by decide +kernel
theorem dX1_apart_16 : decode cX1_apart 16 = .ok (.getfield 71, 3) := by decide +kernel
theorem dX1_apart_19 : decode cX1_apart 19 = .ok (.iload_n 1, 1) := by decide +kernel
theorem dX1_apart_20 : decode cX1_apart 20 = .ok (.daload, 1) := by decide +kernel
theorem dX1_apart_21 : decode cX1_apart 21 = .ok (.invokestatic 250, 3) := by decide +kernel
theorem dX1_apart_24 : decode cX1_apart 24 = .ok (.goto 4, 3) := by decide +kernel
theorem dX1_apart_27 : decode cX1_apart 27 = .ok (.lconst 0, 1) := by decide +kernel
theorem dX1_apart_28 : decode cX1_apart 28 = .ok (.lreturn, 1) := by decide +kernel
theorem dX1_rate_0 : decode cX1_rate 0 = .ok (.aload_n 0, 1) := by decide +kernel
theorem dX1_rate_1 : decode cX1_rate 1 = .ok (.iload_n 1, 1) := by decide +kernel
theorem dX1_rate_2 : decode cX1_rate 2 = .ok (.invokevirtual 198, 3) := by decide +kernel
theorem dX1_rate_5 : decode cX1_rate 5 = .ok (.ifCond .eq 32, 3) := by decide +kernel
theorem dX1_rate_8 : decode cX1_rate 8 = .ok (.aload_n 0, 1) := by decide +kernel
theorem dX1_rate_9 : decode cX1_rate 9 = .ok (.getfield 195, 3) := by decide +kernel
theorem dX1_rate_12 : decode cX1_rate 12 = .ok (.ifCond .eq 25, 3) := by decide +kernel
theorem dX1_rate_15 : decode cX1_rate 15 = .ok (.aload_n 0, 1) := by decide +kernel
theorem dX1_rate_16 : decode cX1_rate 16 = .ok (.getfield 7, 3) := by decide +kernel
theorem dX1_rate_19 : decode cX1_rate 19 = .ok (.iload_n 1, 1) := by decide +kernel
theorem dX1_rate_20 : decode cX1_rate 20 = .ok (.iaload, 1) := by decide +kernel
theorem dX1_rate_21 : decode cX1_rate 21 = .ok (.iconst 2, 1) := by decide +kernel
theorem dX1_rate_22 : decode cX1_rate 22 = .ok (.if_icmp .ne 15, 3) := by decide +kernel
theorem dX1_rate_25 : decode cX1_rate 25 = .ok (.aload_n 0, 1) := by decide +kernel
theorem dX1_rate_26 : decode cX1_rate 26 = .ok (.getfield 74, 3) := by decide +kernel
theorem dX1_rate_29 : decode cX1_rate 29 = .ok (.iload_n 1, 1) := by decide +kernel
theorem dX1_rate_30 : decode cX1_rate 30 = .ok (.daload, 1) := by decide +kernel
theorem dX1_rate_31 : decode cX1_rate 31 = .ok (.invokestatic 250, 3) := by decide +kernel
theorem dX1_rate_34 : decode cX1_rate 34 = .ok (.goto 4, 3) := by decide +kernel
theorem dX1_rate_37 : decode cX1_rate 37 = .ok (.lconst 0, 1) := by decide +kernel
theorem dX1_rate_38 : decode cX1_rate 38 = .ok (.lreturn, 1) := by decide +kernel
theorem dX1_swept_0 : decode cX1_swept 0 = .ok (.iload_n 1, 1) := by decide +kernel
theorem dX1_swept_1 : decode cX1_swept 1 = .ok (.iconst 0, 1) := by decide +kernel
theorem dX1_swept_2 : decode cX1_swept 2 = .ok (.aload_n 0, 1) := by decide +kernel
theorem dX1_swept_3 : decode cX1_swept 3 = .ok (.getfield 378, 3) := by decide +kernel
theorem dX1_swept_6 : decode cX1_swept 6 = .ok (.iconst 1, 1) := by decide +kernel
theorem dX1_swept_7 : decode cX1_swept 7 = .ok (.isub, 1) := by decide +kernel
theorem dX1_swept_8 : decode cX1_swept 8 = .ok (.invokestatic 161, 3) := by decide +kernel
theorem dX1_swept_11 : decode cX1_swept 11 = .ok (.ifCond .eq 15, 3) := by decide +kernel
theorem dX1_swept_14 : decode cX1_swept 14 = .ok (.aload_n 0, 1) := by decide +kernel
theorem dX1_swept_15 : decode cX1_swept 15 = .ok (.getfield 116, 3) := by decide +kernel
theorem dX1_swept_18 : decode cX1_swept 18 = .ok (.iload_n 1, 1) := by decide +kernel
theorem dX1_swept_19 : decode cX1_swept 19 = .ok (.daload, 1) := by decide +kernel
theorem dX1_swept_20 : decode cX1_swept 20 = .ok (.invokestatic 250, 3) := by decide +kernel
theorem dX1_swept_23 : decode cX1_swept 23 = .ok (.goto 4, 3) := by decide +kernel
theorem dX1_swept_26 : decode cX1_swept 26 = .ok (.lconst 0, 1) := by decide +kernel
theorem dX1_swept_27 : decode cX1_swept 27 = .ok (.lreturn, 1) := by decide +kernel
theorem dX1_about_0 : decode cX1_about 0 = .ok (.aload_n 0, 1) := by decide +kernel
theorem dX1_about_1 : decode cX1_about 1 = .ok (.iload_n 1, 1) := by decide +kernel
theorem dX1_about_2 : decode cX1_about 2 = .ok (.invokevirtual 198, 3) := by decide +kernel
theorem dX1_about_5 : decode cX1_about 5 = .ok (.ifCond .ne 6, 3) := by decide +kernel
theorem dX1_about_8 : decode cX1_about 8 = .ok (.bipush (-101), 2) := by decide +kernel
theorem dX1_about_10 : decode cX1_about 10 = .ok (.ireturn, 1) := by decide +kernel
theorem dX1_about_11 : decode cX1_about 11 = .ok (.iload_n 2, 1) := by decide +kernel
theorem dX1_about_12 : decode cX1_about 12 = .ok (.iconst 0, 1) := by decide +kernel
theorem dX1_about_13 : decode cX1_about 13 = .ok (.bipush 14, 2) := by decide +kernel
theorem dX1_about_15 : decode cX1_about 15 = .ok (.invokestatic 161, 3) := by decide +kernel
theorem dX1_about_18 : decode cX1_about 18 = .ok (.ifCond .ne 6, 3) := by decide +kernel
theorem dX1_about_21 : decode cX1_about 21 = .ok (.bipush (-102), 2) := by decide +kernel
theorem dX1_about_23 : decode cX1_about 23 = .ok (.ireturn, 1) := by decide +kernel
theorem dX1_about_24 : decode cX1_about 24 = .ok (.iload_n 2, 1) := by decide +kernel
theorem dX1_about_25 : decode cX1_about 25 = .ok (.ifCond .ne 10, 3) := by decide +kernel
theorem dX1_about_28 : decode cX1_about 28 = .ok (.aload_n 0, 1) := by decide +kernel
theorem dX1_about_29 : decode cX1_about 29 = .ok (.getfield 7, 3) := by decide +kernel
theorem dX1_about_32 : decode cX1_about 32 = .ok (.iload_n 1, 1) := by decide +kernel
theorem dX1_about_33 : decode cX1_about 33 = .ok (.iaload, 1) := by decide +kernel
theorem dX1_about_34 : decode cX1_about 34 = .ok (.ireturn, 1) := by decide +kernel
theorem dX1_about_35 : decode cX1_about 35 = .ok (.iload_n 2, 1) := by decide +kernel
theorem dX1_about_36 : decode cX1_about 36 = .ok (.bipush 7, 2) := by decide +kernel
theorem dX1_about_38 : decode cX1_about 38 = .ok (.if_icmp .ge 17, 3) := by decide +kernel
theorem dX1_about_41 : decode cX1_about 41 = .ok (.aload_n 0, 1) := by decide +kernel
theorem dX1_about_42 : decode cX1_about 42 = .ok (.getfield 17, 3) := by decide +kernel
theorem dX1_about_45 : decode cX1_about 45 = .ok (.bipush 6, 2) := by decide +kernel
theorem dX1_about_47 : decode cX1_about 47 = .ok (.iload_n 1, 1) := by decide +kernel
theorem dX1_about_48 : decode cX1_about 48 = .ok (.imul, 1) := by decide +kernel
theorem dX1_about_49 : decode cX1_about 49 = .ok (.iload_n 2, 1) := by decide +kernel
theorem dX1_about_50 : decode cX1_about 50 = .ok (.iadd, 1) := by decide +kernel
theorem dX1_about_51 : decode cX1_about 51 = .ok (.iconst 1, 1) := by decide +kernel
theorem dX1_about_52 : decode cX1_about 52 = .ok (.isub, 1) := by decide +kernel
theorem dX1_about_53 : decode cX1_about 53 = .ok (.iaload, 1) := by decide +kernel
theorem dX1_about_54 : decode cX1_about 54 = .ok (.ireturn, 1) := by decide +kernel
theorem dX1_about_55 : decode cX1_about 55 = .ok (.iload_n 2, 1) := by decide +kernel
theorem dX1_about_56 : decode cX1_about 56 = .ok (.bipush 13, 2) := by decide +kernel
theorem dX1_about_58 : decode cX1_about 58 = .ok (.if_icmp .ge 28, 3) := by decide +kernel
theorem dX1_about_61 : decode cX1_about 61 = .ok (.aload_n 0, 1) := by decide +kernel
theorem dX1_about_62 : decode cX1_about 62 = .ok (.getfield 20, 3) := by decide +kernel
theorem dX1_about_65 : decode cX1_about 65 = .ok (.bipush 6, 2) := by decide +kernel
theorem dX1_about_67 : decode cX1_about 67 = .ok (.iload_n 1, 1) := by decide +kernel
theorem dX1_about_68 : decode cX1_about 68 = .ok (.imul, 1) := by decide +kernel
theorem dX1_about_69 : decode cX1_about 69 = .ok (.iload_n 2, 1) := by decide +kernel
theorem dX1_about_70 : decode cX1_about 70 = .ok (.iadd, 1) := by decide +kernel
theorem dX1_about_71 : decode cX1_about 71 = .ok (.bipush 7, 2) := by decide +kernel
theorem dX1_about_73 : decode cX1_about 73 = .ok (.isub, 1) := by decide +kernel
theorem dX1_about_74 : decode cX1_about 74 = .ok (.baload, 1) := by decide +kernel
theorem dX1_about_75 : decode cX1_about 75 = .ok (.ifCond .eq 7, 3) := by decide +kernel
theorem dX1_about_78 : decode cX1_about 78 = .ok (.iconst 1, 1) := by decide +kernel
theorem dX1_about_79 : decode cX1_about 79 = .ok (.goto 28, 3) := by decide +kernel
theorem dX1_about_82 : decode cX1_about 82 = .ok (.iconst 0, 1) := by decide +kernel
theorem dX1_about_83 : decode cX1_about 83 = .ok (.goto 24, 3) := by decide +kernel
theorem dX1_about_86 : decode cX1_about 86 = .ok (.iload_n 2, 1) := by decide +kernel
theorem dX1_about_87 : decode cX1_about 87 = .ok (.bipush 13, 2) := by decide +kernel
theorem dX1_about_89 : decode cX1_about 89 = .ok (.if_icmp .ne 12, 3) := by decide +kernel
theorem dX1_about_92 : decode cX1_about 92 = .ok (.aload_n 0, 1) := by decide +kernel
theorem dX1_about_93 : decode cX1_about 93 = .ok (.getfield 27, 3) := by decide +kernel
theorem dX1_about_96 : decode cX1_about 96 = .ok (.iload_n 1, 1) := by decide +kernel
theorem dX1_about_97 : decode cX1_about 97 = .ok (.iaload, 1) := by decide +kernel
theorem dX1_about_98 : decode cX1_about 98 = .ok (.goto 9, 3) := by decide +kernel
theorem dX1_about_101 : decode cX1_about 101 = .ok (.aload_n 0, 1) := by decide +kernel
theorem dX1_about_102 : decode cX1_about 102 = .ok (.getfield 36, 3) := by decide +kernel
theorem dX1_about_105 : decode cX1_about 105 = .ok (.iload_n 1, 1) := by decide +kernel
theorem dX1_about_106 : decode cX1_about 106 = .ok (.iaload, 1) := by decide +kernel
theorem dX1_about_107 : decode cX1_about 107 = .ok (.ireturn, 1) := by decide +kernel
theorem hd_J0_doubleToLongBits : yJ0_doubleToLongBits.cls ≠ "java/lang/invoke/MethodHandle" ∧ yJ0_doubleToLongBits.cls ≠ "java/lang/invoke/VarHandle" ∧ (parseMethodDescriptor yJ0_doubleToLongBits.desc).map (fun d => d.parameters.length) = some 1 := by decide +kernel
theorem hd_J6_floatToIntBits : yJ6_floatToIntBits.cls ≠ "java/lang/invoke/MethodHandle" ∧ yJ6_floatToIntBits.cls ≠ "java/lang/invoke/VarHandle" ∧ (parseMethodDescriptor yJ6_floatToIntBits.desc).map (fun d => d.parameters.length) = some 1 := by decide +kernel
theorem hd_X1_isNumber : yX1_isNumber.cls ≠ "java/lang/invoke/MethodHandle" ∧ yX1_isNumber.cls ≠ "java/lang/invoke/VarHandle" ∧ (parseMethodDescriptor yX1_isNumber.desc).map (fun d => d.parameters.length) = some 1 := by decide +kernel
theorem hd_X1_isSetting : yX1_isSetting.cls ≠ "java/lang/invoke/MethodHandle" ∧ yX1_isSetting.cls ≠ "java/lang/invoke/VarHandle" ∧ (parseMethodDescriptor yX1_isSetting.desc).map (fun d => d.parameters.length) = some 2 := by decide +kernel
theorem hd_X1_isSmall : yX1_isSmall.cls ≠ "java/lang/invoke/MethodHandle" ∧ yX1_isSmall.cls ≠ "java/lang/invoke/VarHandle" ∧ (parseMethodDescriptor yX1_isSmall.desc).map (fun d => d.parameters.length) = some 1 := by decide +kernel
theorem hd_X1_isStrip : yX1_isStrip.cls = RX1 ∧ yX1_isStrip.cls ≠ "java/lang/invoke/MethodHandle" ∧ yX1_isStrip.cls ≠ "java/lang/invoke/VarHandle" ∧ (parseMethodDescriptor yX1_isStrip.desc).map (fun d => d.parameters.length) = some 1 := by decide +kernel
theorem st_X1_isSmall (l : Launch) (b : Int64) : sC l yX1_isSmall cX1_isSmall 2 (some .boolean) 1 [.long b] (some (.int (bI (smB b)))) := by
  refine ss_start (own := RX1) (by decide) rfl (Nat.le_of_ble_eq_true rfl) ?_
  intro p0 e0 s0 mid bl0 me0 co0 ls S hr hlk hl
  have hx := S.1; have hb := S.2.1; have hml := S.2.2.1; have hown := S.2.2.2.1; have hts := S.2.2.2.2
  have hl : lv_has ls 2 [(0, .long b)] := hl
  refine lv_lload_n hx hb dX1_isSmall_0 rfl (lv_at hl 0 rfl) ?_
  refine sC_call (As := [.long b]) (rest := []) S (st_X1_isNumber l b) q1458 q1459 q53 q1460 hd_X1_isNumber ⟨Nat.le_of_ble_eq_true rfl, Nat.le_of_ble_eq_true rfl⟩ rfl hl.1 rfl (Nat.le_of_ble_eq_true rfl) dX1_isSmall_1 ⟨Nat.zero_le _, Nat.zero_le _⟩ ?_
  refine W.eq (g2 := F0 mid 4 ls [.int (bI (nbB b))]) rfl ?_
  refine bb_eq (tgt := 27) hx hb dX1_isSmall_4 (by decide) (fun c_4 => ?_) (fun c_4 => ?_)
  · refine lv_iconst (v := nI 0) hx hb dX1_isSmall_27 (by decide) ?_
    exact ss_zret S hr hlk (by first | rfl | exact bb_nar _) (bI_f (by simp [smB, c_4])) dX1_isSmall_28
  · refine lv_lload_n hx hb dX1_isSmall_7 rfl (lv_at hl 0 rfl) ?_
    refine vn_l2d hx hb (hml.trans hl.1.symm) hown (hts _ q1463) (hts _ q166) (hts _ q165) (hts _ q55) (nb_sn (nb_n c_4)) (Nat.le_of_ble_eq_true rfl) (Nat.le_of_ble_eq_true rfl) dX1_isSmall_8 ?_
    refine lv_ldc2d hx hb hown (hts _ q1489) dX1_isSmall_11 ?_
    refine lv_ldc2d hx hb hown (hts _ q1472) dX1_isSmall_14 ?_
    refine sC_call (As := [.double ((b).toUInt64), .double 13832806255468478464, .double 4609434218613702656]) (rest := []) S (st_X1_isWithin l ((b).toUInt64) 13832806255468478464 4609434218613702656) q1468 q1469 q53 q1470 hd_X1_isWithin ⟨Nat.le_of_ble_eq_true rfl, Nat.le_of_ble_eq_true rfl⟩ rfl hl.1 rfl (Nat.le_of_ble_eq_true rfl) dX1_isSmall_17 ⟨Nat.zero_le _, Nat.zero_le _⟩ ?_
    refine W.eq (g2 := F0 mid 20 ls [.int (bI (wiB ((b).toUInt64) 13832806255468478464 4609434218613702656))]) rfl ?_
    refine bb_eq (tgt := 27) hx hb dX1_isSmall_20 (by decide) (fun c_20 => ?_) (fun c_20 => ?_)
    · refine lv_iconst (v := nI 0) hx hb dX1_isSmall_27 (by decide) ?_
      exact ss_zret S hr hlk (by first | rfl | exact bb_nar _) (bI_f (by simp [smB, c_4, c_20])) dX1_isSmall_28
    · refine lv_iconst (v := nI 1) hx hb dX1_isSmall_23 (by decide) ?_
      refine lv_goto (tgt := 28) hx hb dX1_isSmall_24 (by decide) ?_
      exact ss_zret S hr hlk (by first | rfl | exact bb_nar _) (bI_t (by simp [smB, c_4, c_20])) dX1_isSmall_28
theorem mt_X1_module (l : Launch) (D : va_G) (dA : Nat → ClassId) (ad : Nat → Nat) (C : tp_C) (d : md_T) (k : Int32) (s : Int64) (hC : mOK C) : mC l D dA ad yX1_module cX1_module 4 (some .int) 2 [.int k, .long s] C d (some (.int (mdR C k s))) (mdC C k s) d := by
  refine mm_start (by decide) rfl (Nat.le_of_ble_eq_true rfl) ?_
  intro p0 e0 s0 mid bl0 me0 co0 ls S hr hlk G hl
  have hx := S.1; have hb := S.2.1; have hml := S.2.2.1; have hown := S.2.2.2.1; have hts := S.2.2.2.2
  have hl : lv_has ls 4 [(0, .ref (ad 0)), (1, .int k), (2, .long s)] := hl
  have hN := hC.n
  have hMo := hC.mo
  have hZ := hC.z
  refine lv_iload_n hx hb dX1_module_0 rfl (lv_at hl 1 rfl) ?_
  refine lv_iconst (v := nI 0) hx hb dX1_module_1 (by decide) ?_
  refine lv_bipush (v := nI 13) hx hb dX1_module_2 (by decide) ?_
  refine sC_call (As := [.int k, .int (nI 0), .int (nI 13)]) (rest := []) S (st_X1_in l k (nI 0) (nI 13)) q1455 q1456 q53 q1457 hd_X1_in ⟨Nat.le_of_ble_eq_true rfl, Nat.le_of_ble_eq_true rfl⟩ rfl hl.1 rfl (Nat.le_of_ble_eq_true rfl) dX1_module_4 ⟨Nat.zero_le _, Nat.zero_le _⟩ ?_
  refine W.eq (g2 := F0 mid 7 ls [.int (bI (inB k (nI 0) (nI 13)))]) rfl ?_
  refine bb_eq (tgt := 28) hx hb dX1_module_7 (by decide) (fun c_7 => ?_) (fun c_7 => ?_)
  · refine lv_bipush (v := (-102)) hx hb dX1_module_28 (by decide) ?_
    exact mm_iret S hr hlk G (by simp [mdR, mdC, mdB, c_7] <;> rfl) (by simp [mdR, mdC, mdB, c_7] <;> rfl) rfl dX1_module_30
  · obtain ⟨j, -, hj, rfl⟩ := in_nat c_7 (by decide) (by decide)
    have ij_j : ixN (nI j) = j := ixN_nI (by omega)
    refine lv_lload_n hx hb dX1_module_10 rfl (lv_at hl 2 rfl) ?_
    refine sC_call (As := [.long s]) (rest := []) S (st_X1_isNumber l s) q1458 q1459 q53 q1460 hd_X1_isNumber ⟨Nat.le_of_ble_eq_true rfl, Nat.le_of_ble_eq_true rfl⟩ rfl hl.1 rfl (Nat.le_of_ble_eq_true rfl) dX1_module_11 ⟨Nat.zero_le _, Nat.zero_le _⟩ ?_
    refine W.eq (g2 := F0 mid 14 ls [.int (bI (nbB s))]) rfl ?_
    refine bb_eq (tgt := 28) hx hb dX1_module_14 (by decide) (fun c_14 => ?_) (fun c_14 => ?_)
    · refine lv_bipush (v := (-102)) hx hb dX1_module_28 (by decide) ?_
      exact mm_iret S hr hlk G (by simp [mdR, mdC, mdB, c_7, ij_j, c_14] <;> rfl) (by simp [mdR, mdC, mdB, c_7, ij_j, c_14] <;> rfl) rfl dX1_module_30
    · refine lv_iload_n hx hb dX1_module_17 rfl (lv_at hl 1 rfl) ?_
      refine lv_lload_n hx hb dX1_module_18 rfl (lv_at hl 2 rfl) ?_
      refine vn_l2d hx hb (hml.trans hl.1.symm) hown (hts _ q1463) (hts _ q166) (hts _ q165) (hts _ q55) (nb_sn (nb_n c_14)) (Nat.le_of_ble_eq_true rfl) (Nat.le_of_ble_eq_true rfl) dX1_module_19 ?_
      refine sC_call (As := [.int (nI j), .double ((s).toUInt64)]) (rest := []) S (st_X1_isSetting l j ((s).toUInt64) (by omega)) q1464 q1465 q53 q1466 hd_X1_isSetting ⟨Nat.le_of_ble_eq_true rfl, Nat.le_of_ble_eq_true rfl⟩ rfl hl.1 rfl (Nat.le_of_ble_eq_true rfl) dX1_module_22 ⟨Nat.zero_le _, Nat.zero_le _⟩ ?_
      refine W.eq (g2 := F0 mid 25 ls [.int (bI (stB j ((s).toUInt64)))]) rfl ?_
      refine bb_ne (tgt := 31) hx hb dX1_module_25 (by decide) (fun c_25 => ?_) (fun c_25 => ?_)
      · refine lv_aload_n hx hb dX1_module_31 rfl (lv_at hl 0 rfl) ?_
        refine mm_get S G 11 (by decide) q1278 rfl (v := .int (nI (cM C))) rfl dX1_module_32 ?_
        refine nz_eq (tgt := 41) hx hb (by omega) dX1_module_35 (by decide) (fun c_35 => ?_) (fun c_35 => ?_)
        · refine lv_aload_n hx hb dX1_module_41 rfl (lv_at hl 0 rfl) ?_
          refine mm_get S G 0 (by decide) q1267 rfl (v := .int (nI (cN C))) rfl dX1_module_42 ?_
          refine lv_bipush (v := nI 20) hx hb dX1_module_45 (by decide) ?_
          refine nn_cne (tgt := 53) hx hb (by omega) (by omega) dX1_module_47 (by decide) (fun c_47 => ?_) (fun c_47 => ?_)
          · refine lv_aload_n hx hb dX1_module_53 rfl (lv_at hl 0 rfl) ?_
            refine mm_get S G 1 (by decide) q1268 rfl (v := .ref (ad 2)) rfl dX1_module_54 ?_
            refine lv_aload_n hx hb dX1_module_57 rfl (lv_at hl 0 rfl) ?_
            refine mm_get S G 0 (by decide) q1267 rfl (v := .int (nI (cN C))) rfl dX1_module_58 ?_
            refine lv_iload_n hx hb dX1_module_61 rfl (lv_at hl 1 rfl) ?_
            refine mm_astK (v := j) S G (by omega) dX1_module_62 (fun H locs G => ?_)
            refine lv_aload_n hx hb dX1_module_63 rfl (lv_at hl 0 rfl) ?_
            refine mm_get S G 2 (by decide) q1269 rfl (v := .ref (ad 3)) rfl dX1_module_64 ?_
            refine lv_aload_n hx hb dX1_module_67 rfl (lv_at hl 0 rfl) ?_
            refine mm_get S G 0 (by decide) q1267 rfl (v := .int (nI (cN C))) rfl dX1_module_68 ?_
            refine lv_lload_n hx hb dX1_module_71 rfl (lv_at hl 2 rfl) ?_
            refine vn_l2d hx hb (hml.trans hl.1.symm) hown (hts _ q1463) (hts _ q166) (hts _ q165) (hts _ q55) (nb_sn (nb_n c_14)) (Nat.le_of_ble_eq_true rfl) (Nat.le_of_ble_eq_true rfl) dX1_module_72 ?_
            refine mm_astS (v := (s).toUInt64) S G (by omega) dX1_module_75 (fun H locs G => ?_)
            refine lv_aload_n hx hb dX1_module_76 rfl (lv_at hl 0 rfl) ?_
            refine lv_dup hx hb dX1_module_77 rfl ?_
            refine mm_get S G 0 (by decide) q1267 rfl (v := .int (nI (cN C))) rfl dX1_module_78 ?_
            refine lv_iconst (v := nI 1) hx hb dX1_module_81 (by decide) ?_
            refine nn_add hx hb dX1_module_82 ?_
            refine mm_putN S G q1267 dX1_module_83 (fun H locs G => ?_)
            refine lv_aload_n hx hb dX1_module_86 rfl (lv_at hl 0 rfl) ?_
            refine mm_get S G 0 (by decide) q1267 rfl (v := .int (nI (cN C + 1))) rfl dX1_module_87 ?_
            refine lv_iconst (v := nI 1) hx hb dX1_module_90 (by decide) ?_
            refine nn_sub hx hb (by omega) dX1_module_91 ?_
            exact mm_iret S hr hlk G (by simp [mdR, mdC, mdB, c_7, ij_j, c_14, c_25, c_35, c_47] <;> rfl) (by simp [mdR, mdC, mdB, c_7, ij_j, c_14, c_25, c_35, c_47] <;> rfl) rfl dX1_module_92
          · refine lv_bipush (v := (-104)) hx hb dX1_module_50 (by decide) ?_
            exact mm_iret S hr hlk G (by simp [mdR, mdC, mdB, c_7, ij_j, c_14, c_25, c_35, c_47] <;> rfl) (by simp [mdR, mdC, mdB, c_7, ij_j, c_14, c_25, c_35, c_47] <;> rfl) rfl dX1_module_52
        · refine lv_bipush (v := (-103)) hx hb dX1_module_38 (by decide) ?_
          exact mm_iret S hr hlk G (by simp [mdR, mdC, mdB, c_7, ij_j, c_14, c_25, c_35] <;> rfl) (by simp [mdR, mdC, mdB, c_7, ij_j, c_14, c_25, c_35] <;> rfl) rfl dX1_module_40
      · refine lv_bipush (v := (-102)) hx hb dX1_module_28 (by decide) ?_
        exact mm_iret S hr hlk G (by simp [mdR, mdC, mdB, c_7, ij_j, c_14, c_25] <;> rfl) (by simp [mdR, mdC, mdB, c_7, ij_j, c_14, c_25] <;> rfl) rfl dX1_module_30
theorem mt_X1_cord (l : Launch) (D : va_G) (dA : Nat → ClassId) (ad : Nat → Nat) (C : tp_C) (d : md_T) (m : Int32) (i : Int32) (o : Int32) (t : Bool) (hC : mOK C) : mC l D dA ad yX1_cord cX1_cord 5 (some .int) 2 [.int m, .int i, .int o, .int (bI t)] C d (some (.int (cdR C m i o))) (cdC C m i o t) d := by
  refine mm_start (by decide) rfl (Nat.le_of_ble_eq_true rfl) ?_
  intro p0 e0 s0 mid bl0 me0 co0 ls S hr hlk G hl
  have hx := S.1; have hb := S.2.1; have hml := S.2.2.1; have hown := S.2.2.2.1; have hts := S.2.2.2.2
  have hl : lv_has ls 5 [(0, .ref (ad 0)), (1, .int m), (2, .int i), (3, .int o), (4, .int (bI t))] := hl
  have hN := hC.n
  have hMo := hC.mo
  have hZ := hC.z
  refine lv_aload_n hx hb dX1_cord_0 rfl (lv_at hl 0 rfl) ?_
  refine lv_iload_n hx hb dX1_cord_1 rfl (lv_at hl 1 rfl) ?_
  refine mm_call (As := [.int m]) (rest := []) S G (mt_X1_isModule l D dA ad C d m) q1478 q1480 qs19 q1481 hd_X1_isModule ⟨Nat.le_of_ble_eq_true rfl, Nat.le_of_ble_eq_true rfl⟩ rfl hl.1 rfl (Nat.le_of_ble_eq_true rfl) dX1_cord_2 ⟨Nat.zero_le _, Nat.zero_le _⟩ (fun H locs G => ?_)
  refine W.eq (g2 := F0 mid 5 ls [.int (bI (inB m (nI 0) (nI (cN C) - nI 1)))]) rfl ?_
  refine bb_eq (tgt := 21) hx hb dX1_cord_5 (by decide) (fun c_5 => ?_) (fun c_5 => ?_)
  · refine lv_bipush (v := (-101)) hx hb dX1_cord_21 (by decide) ?_
    exact mm_iret S hr hlk G (by first | exact absurd rfl c_75 | exact absurd c_75 c_10 | (simp [cdR, cdC, cdB, imB, oN, c_5] <;> rfl)) (by first | exact absurd rfl c_75 | exact absurd c_75 c_10 | (simp [cdR, cdC, cdB, imB, oN, c_5] <;> rfl)) rfl dX1_cord_23
  · obtain ⟨j, hj, rfl⟩ := im_nat c_5 hN
    have ij_j : ixN (nI j) = j := ixN_nI (by omega)
    refine lv_iload_n hx hb dX1_cord_8 rfl (lv_at hl 3 rfl) ?_
    refine lv_iconst (v := (-1)) hx hb dX1_cord_9 (by decide) ?_
    refine lv_icmp_eq (tgt := 24) hx hb dX1_cord_10 (by decide) (fun c_10 => ?_) (fun c_10 => ?_)
    · subst c_10
      refine lv_iload_n hx hb dX1_cord_24 rfl (lv_at hl 2 rfl) ?_
      refine lv_iconst (v := nI 0) hx hb dX1_cord_25 (by decide) ?_
      refine lv_iconst (v := nI 5) hx hb dX1_cord_26 (by decide) ?_
      refine sC_call (As := [.int i, .int (nI 0), .int (nI 5)]) (rest := []) S (st_X1_in l i (nI 0) (nI 5)) q1455 q1456 q53 q1457 hd_X1_in ⟨Nat.le_of_ble_eq_true rfl, Nat.le_of_ble_eq_true rfl⟩ rfl hl.1 rfl (Nat.le_of_ble_eq_true rfl) dX1_cord_27 ⟨Nat.zero_le _, Nat.zero_le _⟩ ?_
      refine W.eq (g2 := F0 mid 30 ls [.int (bI (inB i (nI 0) (nI 5)))]) rfl ?_
      refine bb_ne (tgt := 36) hx hb dX1_cord_30 (by decide) (fun c_30 => ?_) (fun c_30 => ?_)
      · obtain ⟨i1, -, hi1, rfl⟩ := in_nat c_30 (by decide) (by decide)
        have ij_i1 : ixN (nI i1) = i1 := ixN_nI (by omega)
        refine lv_aload_n hx hb dX1_cord_36 rfl (lv_at hl 0 rfl) ?_
        refine mm_get S G 11 (by decide) q1278 rfl (v := .int (nI (cM C))) rfl dX1_cord_37 ?_
        refine nz_eq (tgt := 46) hx hb (by omega) dX1_cord_40 (by decide) (fun c_40 => ?_) (fun c_40 => ?_)
        · refine lv_aload_n hx hb dX1_cord_46 rfl (lv_at hl 0 rfl) ?_
          refine mm_get S G 3 (by decide) q1270 rfl (v := .ref (ad 4)) rfl dX1_cord_47 ?_
          refine lv_bipush (v := nI 6) hx hb dX1_cord_50 (by decide) ?_
          refine lv_iload_n hx hb dX1_cord_52 rfl (lv_at hl 1 rfl) ?_
          refine nn_mul hx hb dX1_cord_53 ?_
          refine lv_iload_n hx hb dX1_cord_54 rfl (lv_at hl 2 rfl) ?_
          refine nn_add hx hb dX1_cord_55 ?_
          refine lv_iload_n hx hb dX1_cord_56 rfl (lv_at hl 3 rfl) ?_
          refine mm_astF (v := none) S G (by omega) (by omega) dX1_cord_57 (fun H locs G => ?_)
          refine lv_aload_n hx hb dX1_cord_58 rfl (lv_at hl 0 rfl) ?_
          refine mm_get S G 4 (by decide) q1271 rfl (v := .ref (ad 5)) rfl dX1_cord_59 ?_
          refine lv_bipush (v := nI 6) hx hb dX1_cord_62 (by decide) ?_
          refine lv_iload_n hx hb dX1_cord_64 rfl (lv_at hl 1 rfl) ?_
          refine nn_mul hx hb dX1_cord_65 ?_
          refine lv_iload_n hx hb dX1_cord_66 rfl (lv_at hl 2 rfl) ?_
          refine nn_add hx hb dX1_cord_67 ?_
          refine lv_iload hx hb dX1_cord_68 (lv_at hl 4 rfl) ?_
          refine bb_eq (tgt := 82) hx hb dX1_cord_70 (by decide) (fun c_70 => ?_) (fun c_70 => ?_)
          · refine lv_iconst (v := nI 0) hx hb dX1_cord_82 (by decide) ?_
            refine mm_astT (v := false) S G (by omega) (by omega) dX1_cord_83 (fun H locs G => ?_)
            refine lv_iconst (v := nI 1) hx hb dX1_cord_84 (by decide) ?_
            exact mm_iret S hr hlk G (by first | exact absurd rfl c_75 | exact absurd c_75 c_10 | (simp [cdR, cdC, cdB, imB, oN, c_5, ij_j, c_30, ij_i1, c_40, c_70] <;> rfl)) (by first | exact absurd rfl c_75 | exact absurd c_75 c_10 | (simp [cdR, cdC, cdB, imB, oN, c_5, ij_j, c_30, ij_i1, c_40, c_70] <;> rfl)) rfl dX1_cord_85
          · refine lv_iload_n hx hb dX1_cord_73 rfl (lv_at hl 3 rfl) ?_
            refine lv_iconst (v := (-1)) hx hb dX1_cord_74 (by decide) ?_
            refine lv_icmp_eq (tgt := 82) hx hb dX1_cord_75 (by decide) (fun c_75 => ?_) (fun c_75 => ?_)
            · refine lv_iconst (v := nI 0) hx hb dX1_cord_82 (by decide) ?_
              refine mm_astT (v := false) S G (by omega) (by omega) dX1_cord_83 (fun H locs G => ?_)
              refine lv_iconst (v := nI 1) hx hb dX1_cord_84 (by decide) ?_
              exact mm_iret S hr hlk G (by first | exact absurd rfl c_75 | exact absurd c_75 c_10 | (simp [cdR, cdC, cdB, imB, oN, c_5, ij_j, c_30, ij_i1, c_40, c_70, c_75] <;> rfl)) (by first | exact absurd rfl c_75 | exact absurd c_75 c_10 | (simp [cdR, cdC, cdB, imB, oN, c_5, ij_j, c_30, ij_i1, c_40, c_70, c_75] <;> rfl)) rfl dX1_cord_85
            · refine lv_iconst (v := nI 1) hx hb dX1_cord_78 (by decide) ?_
              refine lv_goto (tgt := 83) hx hb dX1_cord_79 (by decide) ?_
              refine mm_astT (v := true) S G (by omega) (by omega) dX1_cord_83 (fun H locs G => ?_)
              refine lv_iconst (v := nI 1) hx hb dX1_cord_84 (by decide) ?_
              exact mm_iret S hr hlk G (by first | exact absurd rfl c_75 | exact absurd c_75 c_10 | (simp [cdR, cdC, cdB, imB, oN, c_5, ij_j, c_30, ij_i1, c_40, c_70, c_75] <;> rfl)) (by first | exact absurd rfl c_75 | exact absurd c_75 c_10 | (simp [cdR, cdC, cdB, imB, oN, c_5, ij_j, c_30, ij_i1, c_40, c_70, c_75] <;> rfl)) rfl dX1_cord_85
        · refine lv_bipush (v := (-103)) hx hb dX1_cord_43 (by decide) ?_
          exact mm_iret S hr hlk G (by first | exact absurd rfl c_75 | exact absurd c_75 c_10 | (simp [cdR, cdC, cdB, imB, oN, c_5, ij_j, c_30, ij_i1, c_40] <;> rfl)) (by first | exact absurd rfl c_75 | exact absurd c_75 c_10 | (simp [cdR, cdC, cdB, imB, oN, c_5, ij_j, c_30, ij_i1, c_40] <;> rfl)) rfl dX1_cord_45
      · refine lv_bipush (v := (-102)) hx hb dX1_cord_33 (by decide) ?_
        exact mm_iret S hr hlk G (by first | exact absurd rfl c_75 | exact absurd c_75 c_10 | (simp [cdR, cdC, cdB, imB, oN, c_5, ij_j, c_30] <;> rfl)) (by first | exact absurd rfl c_75 | exact absurd c_75 c_10 | (simp [cdR, cdC, cdB, imB, oN, c_5, ij_j, c_30] <;> rfl)) rfl dX1_cord_35
    · refine lv_aload_n hx hb dX1_cord_13 rfl (lv_at hl 0 rfl) ?_
      refine lv_iload_n hx hb dX1_cord_14 rfl (lv_at hl 3 rfl) ?_
      refine mm_call (As := [.int o]) (rest := []) S G (mt_X1_isModule l D dA ad C d o) q1478 q1480 qs19 q1481 hd_X1_isModule ⟨Nat.le_of_ble_eq_true rfl, Nat.le_of_ble_eq_true rfl⟩ rfl hl.1 rfl (Nat.le_of_ble_eq_true rfl) dX1_cord_15 ⟨Nat.zero_le _, Nat.zero_le _⟩ (fun H locs G => ?_)
      refine W.eq (g2 := F0 mid 18 ls [.int (bI (inB o (nI 0) (nI (cN C) - nI 1)))]) rfl ?_
      refine bb_ne (tgt := 24) hx hb dX1_cord_18 (by decide) (fun c_18 => ?_) (fun c_18 => ?_)
      · obtain ⟨q, hq, rfl⟩ := im_nat c_18 hN
        have ij_q : ixN (nI q) = q := ixN_nI (by omega)
        refine lv_iload_n hx hb dX1_cord_24 rfl (lv_at hl 2 rfl) ?_
        refine lv_iconst (v := nI 0) hx hb dX1_cord_25 (by decide) ?_
        refine lv_iconst (v := nI 5) hx hb dX1_cord_26 (by decide) ?_
        refine sC_call (As := [.int i, .int (nI 0), .int (nI 5)]) (rest := []) S (st_X1_in l i (nI 0) (nI 5)) q1455 q1456 q53 q1457 hd_X1_in ⟨Nat.le_of_ble_eq_true rfl, Nat.le_of_ble_eq_true rfl⟩ rfl hl.1 rfl (Nat.le_of_ble_eq_true rfl) dX1_cord_27 ⟨Nat.zero_le _, Nat.zero_le _⟩ ?_
        refine W.eq (g2 := F0 mid 30 ls [.int (bI (inB i (nI 0) (nI 5)))]) rfl ?_
        refine bb_ne (tgt := 36) hx hb dX1_cord_30 (by decide) (fun c_30 => ?_) (fun c_30 => ?_)
        · obtain ⟨i1, -, hi1, rfl⟩ := in_nat c_30 (by decide) (by decide)
          have ij_i1 : ixN (nI i1) = i1 := ixN_nI (by omega)
          refine lv_aload_n hx hb dX1_cord_36 rfl (lv_at hl 0 rfl) ?_
          refine mm_get S G 11 (by decide) q1278 rfl (v := .int (nI (cM C))) rfl dX1_cord_37 ?_
          refine nz_eq (tgt := 46) hx hb (by omega) dX1_cord_40 (by decide) (fun c_40 => ?_) (fun c_40 => ?_)
          · refine lv_aload_n hx hb dX1_cord_46 rfl (lv_at hl 0 rfl) ?_
            refine mm_get S G 3 (by decide) q1270 rfl (v := .ref (ad 4)) rfl dX1_cord_47 ?_
            refine lv_bipush (v := nI 6) hx hb dX1_cord_50 (by decide) ?_
            refine lv_iload_n hx hb dX1_cord_52 rfl (lv_at hl 1 rfl) ?_
            refine nn_mul hx hb dX1_cord_53 ?_
            refine lv_iload_n hx hb dX1_cord_54 rfl (lv_at hl 2 rfl) ?_
            refine nn_add hx hb dX1_cord_55 ?_
            refine lv_iload_n hx hb dX1_cord_56 rfl (lv_at hl 3 rfl) ?_
            refine mm_astF (v := (some q)) S G (by omega) (by omega) dX1_cord_57 (fun H locs G => ?_)
            refine lv_aload_n hx hb dX1_cord_58 rfl (lv_at hl 0 rfl) ?_
            refine mm_get S G 4 (by decide) q1271 rfl (v := .ref (ad 5)) rfl dX1_cord_59 ?_
            refine lv_bipush (v := nI 6) hx hb dX1_cord_62 (by decide) ?_
            refine lv_iload_n hx hb dX1_cord_64 rfl (lv_at hl 1 rfl) ?_
            refine nn_mul hx hb dX1_cord_65 ?_
            refine lv_iload_n hx hb dX1_cord_66 rfl (lv_at hl 2 rfl) ?_
            refine nn_add hx hb dX1_cord_67 ?_
            refine lv_iload hx hb dX1_cord_68 (lv_at hl 4 rfl) ?_
            refine bb_eq (tgt := 82) hx hb dX1_cord_70 (by decide) (fun c_70 => ?_) (fun c_70 => ?_)
            · refine lv_iconst (v := nI 0) hx hb dX1_cord_82 (by decide) ?_
              refine mm_astT (v := false) S G (by omega) (by omega) dX1_cord_83 (fun H locs G => ?_)
              refine lv_iconst (v := nI 1) hx hb dX1_cord_84 (by decide) ?_
              exact mm_iret S hr hlk G (by first | exact absurd rfl c_75 | exact absurd c_75 c_10 | (simp [cdR, cdC, cdB, imB, oN, c_5, ij_j, c_10, c_18, ij_q, c_30, ij_i1, c_40, c_70] <;> rfl)) (by first | exact absurd rfl c_75 | exact absurd c_75 c_10 | (simp [cdR, cdC, cdB, imB, oN, c_5, ij_j, c_10, c_18, ij_q, c_30, ij_i1, c_40, c_70] <;> rfl)) rfl dX1_cord_85
            · refine lv_iload_n hx hb dX1_cord_73 rfl (lv_at hl 3 rfl) ?_
              refine lv_iconst (v := (-1)) hx hb dX1_cord_74 (by decide) ?_
              refine lv_icmp_eq (tgt := 82) hx hb dX1_cord_75 (by decide) (fun c_75 => ?_) (fun c_75 => ?_)
              · refine lv_iconst (v := nI 0) hx hb dX1_cord_82 (by decide) ?_
                refine mm_astT (v := false) S G (by omega) (by omega) dX1_cord_83 (fun H locs G => ?_)
                refine lv_iconst (v := nI 1) hx hb dX1_cord_84 (by decide) ?_
                exact mm_iret S hr hlk G (by first | exact absurd rfl c_75 | exact absurd c_75 c_10 | (simp [cdR, cdC, cdB, imB, oN, c_5, ij_j, c_10, c_18, ij_q, c_30, ij_i1, c_40, c_70, c_75] <;> rfl)) (by first | exact absurd rfl c_75 | exact absurd c_75 c_10 | (simp [cdR, cdC, cdB, imB, oN, c_5, ij_j, c_10, c_18, ij_q, c_30, ij_i1, c_40, c_70, c_75] <;> rfl)) rfl dX1_cord_85
              · refine lv_iconst (v := nI 1) hx hb dX1_cord_78 (by decide) ?_
                refine lv_goto (tgt := 83) hx hb dX1_cord_79 (by decide) ?_
                refine mm_astT (v := true) S G (by omega) (by omega) dX1_cord_83 (fun H locs G => ?_)
                refine lv_iconst (v := nI 1) hx hb dX1_cord_84 (by decide) ?_
                exact mm_iret S hr hlk G (by first | exact absurd rfl c_75 | exact absurd c_75 c_10 | (simp [cdR, cdC, cdB, imB, oN, c_5, ij_j, c_10, c_18, ij_q, c_30, ij_i1, c_40, c_70, c_75] <;> rfl)) (by first | exact absurd rfl c_75 | exact absurd c_75 c_10 | (simp [cdR, cdC, cdB, imB, oN, c_5, ij_j, c_10, c_18, ij_q, c_30, ij_i1, c_40, c_70, c_75] <;> rfl)) rfl dX1_cord_85
          · refine lv_bipush (v := (-103)) hx hb dX1_cord_43 (by decide) ?_
            exact mm_iret S hr hlk G (by first | exact absurd rfl c_75 | exact absurd c_75 c_10 | (simp [cdR, cdC, cdB, imB, oN, c_5, ij_j, c_10, c_18, ij_q, c_30, ij_i1, c_40] <;> rfl)) (by first | exact absurd rfl c_75 | exact absurd c_75 c_10 | (simp [cdR, cdC, cdB, imB, oN, c_5, ij_j, c_10, c_18, ij_q, c_30, ij_i1, c_40] <;> rfl)) rfl dX1_cord_45
        · refine lv_bipush (v := (-102)) hx hb dX1_cord_33 (by decide) ?_
          exact mm_iret S hr hlk G (by first | exact absurd rfl c_75 | exact absurd c_75 c_10 | (simp [cdR, cdC, cdB, imB, oN, c_5, ij_j, c_10, c_18, ij_q, c_30] <;> rfl)) (by first | exact absurd rfl c_75 | exact absurd c_75 c_10 | (simp [cdR, cdC, cdB, imB, oN, c_5, ij_j, c_10, c_18, ij_q, c_30] <;> rfl)) rfl dX1_cord_35
      · refine lv_bipush (v := (-101)) hx hb dX1_cord_21 (by decide) ?_
        exact mm_iret S hr hlk G (by first | exact absurd rfl c_75 | exact absurd c_75 c_10 | (simp [cdR, cdC, cdB, imB, oN, c_5, ij_j, c_10, c_18] <;> rfl)) (by first | exact absurd rfl c_75 | exact absurd c_75 c_10 | (simp [cdR, cdC, cdB, imB, oN, c_5, ij_j, c_10, c_18] <;> rfl)) rfl dX1_cord_23
theorem mt_X1_point (l : Launch) (D : va_G) (dA : Nat → ClassId) (ad : Nat → Nat) (C : tp_C) (d : md_T) (m : Int32) (x : Int64) (y : Int64) (hC : mOK C) (hV : vOK C) : mC l D dA ad yX1_point cX1_point 9 (some .int) 2 [.int m, .long x, .long y] C d (some (.int (ptR C m x y))) (ptC C m x y) d := by
  refine mm_start (by decide) rfl (Nat.le_of_ble_eq_true rfl) ?_
  intro p0 e0 s0 mid bl0 me0 co0 ls S hr hlk G hl
  have hx := S.1; have hb := S.2.1; have hml := S.2.2.1; have hown := S.2.2.2.1; have hts := S.2.2.2.2
  have hl : lv_has ls 9 [(0, .ref (ad 0)), (1, .int m), (2, .long x), (4, .long y)] := hl
  have hN := hC.n
  have hMo := hC.mo
  have hZ := hC.z
  refine lv_aload_n hx hb dX1_point_0 rfl (lv_at hl 0 rfl) ?_
  refine lv_iload_n hx hb dX1_point_1 rfl (lv_at hl 1 rfl) ?_
  refine mm_call (As := [.int m]) (rest := []) S G (mt_X1_isModule l D dA ad C d m) q1478 q1480 qs19 q1481 hd_X1_isModule ⟨Nat.le_of_ble_eq_true rfl, Nat.le_of_ble_eq_true rfl⟩ rfl hl.1 rfl (Nat.le_of_ble_eq_true rfl) dX1_point_2 ⟨Nat.zero_le _, Nat.zero_le _⟩ (fun H locs G => ?_)
  refine W.eq (g2 := F0 mid 5 ls [.int (bI (inB m (nI 0) (nI (cN C) - nI 1)))]) rfl ?_
  refine bb_ne (tgt := 11) hx hb dX1_point_5 (by decide) (fun c_5 => ?_) (fun c_5 => ?_)
  · obtain ⟨j, hj, rfl⟩ := im_nat c_5 hN
    have ij_j : ixN (nI j) = j := ixN_nI (by omega)
    have hp8 := hC.p j
    have hk14 := hC.k j
    refine lv_aload_n hx hb dX1_point_11 rfl (lv_at hl 0 rfl) ?_
    refine mm_get S G 1 (by decide) q1268 rfl (v := .ref (ad 2)) rfl dX1_point_12 ?_
    refine lv_iload_n hx hb dX1_point_15 rfl (lv_at hl 1 rfl) ?_
    refine mm_iald S G 1 0 (by decide) (n := 20) rfl rfl (by omega) (by decide) (v := nI (cK C j)) rfl dX1_point_16 ?_
    refine lv_bipush (v := nI 7) hx hb dX1_point_17 (by decide) ?_
    refine nn_cne (tgt := 37) hx hb (by omega) (by omega) dX1_point_19 (by decide) (fun c_19 => ?_) (fun c_19 => ?_)
    · refine lv_bipush (v := (-102)) hx hb dX1_point_37 (by decide) ?_
      exact mm_iret S hr hlk G (by first | (exfalso; omega) | (simp [ptR, ptC, ptB, ptU, imB, c_5, ij_j, c_19] <;> rfl)) (by first | (exfalso; omega) | (simp [ptR, ptC, ptB, ptU, imB, c_5, ij_j, c_19] <;> rfl)) rfl dX1_point_39
    · refine lv_lload_n hx hb dX1_point_22 rfl (lv_at hl 2 rfl) ?_
      refine sC_call (As := [.long x]) (rest := []) S (st_X1_isSmall l x) q1486 q1487 q53 q1488 hd_X1_isSmall ⟨Nat.le_of_ble_eq_true rfl, Nat.le_of_ble_eq_true rfl⟩ rfl hl.1 rfl (Nat.le_of_ble_eq_true rfl) dX1_point_23 ⟨Nat.zero_le _, Nat.zero_le _⟩ ?_
      refine W.eq (g2 := F0 mid 26 ls [.int (bI (smB x))]) rfl ?_
      refine bb_eq (tgt := 37) hx hb dX1_point_26 (by decide) (fun c_26 => ?_) (fun c_26 => ?_)
      · refine lv_bipush (v := (-102)) hx hb dX1_point_37 (by decide) ?_
        exact mm_iret S hr hlk G (by first | (exfalso; omega) | (simp [ptR, ptC, ptB, ptU, imB, c_5, ij_j, c_19, c_26] <;> rfl)) (by first | (exfalso; omega) | (simp [ptR, ptC, ptB, ptU, imB, c_5, ij_j, c_19, c_26] <;> rfl)) rfl dX1_point_39
      · refine lv_lload hx hb dX1_point_29 (lv_at hl 3 rfl) ?_
        refine sC_call (As := [.long y]) (rest := []) S (st_X1_isSmall l y) q1486 q1487 q53 q1488 hd_X1_isSmall ⟨Nat.le_of_ble_eq_true rfl, Nat.le_of_ble_eq_true rfl⟩ rfl hl.1 rfl (Nat.le_of_ble_eq_true rfl) dX1_point_31 ⟨Nat.zero_le _, Nat.zero_le _⟩ ?_
        refine W.eq (g2 := F0 mid 34 ls [.int (bI (smB y))]) rfl ?_
        refine bb_ne (tgt := 40) hx hb dX1_point_34 (by decide) (fun c_34 => ?_) (fun c_34 => ?_)
        · refine lv_lload_n hx hb dX1_point_40 rfl (lv_at hl 2 rfl) ?_
          refine vn_l2d hx hb (hml.trans hl.1.symm) hown (hts _ q1463) (hts _ q166) (hts _ q165) (hts _ q55) (nb_sn (nb_n (smB_nb c_26))) (Nat.le_of_ble_eq_true rfl) (Nat.le_of_ble_eq_true rfl) dX1_point_41 ?_
          refine lv_dstore (lv' := [(6, .double ((x).toUInt64)), (0, .ref (ad 0)), (1, .int (nI j)), (2, .long x), (4, .long y)]) hx hb dX1_point_44 hl (by decide) rfl (fun ls hl => ?_)
          refine lv_bipush (v := nI 8) hx hb dX1_point_46 (by decide) ?_
          refine lv_iload_n hx hb dX1_point_48 rfl (lv_at hl 2 rfl) ?_
          refine nn_mul hx hb dX1_point_49 ?_
          refine lv_aload_n hx hb dX1_point_50 rfl (lv_at hl 1 rfl) ?_
          refine mm_get S G 6 (by decide) q1273 rfl (v := .ref (ad 7)) rfl dX1_point_51 ?_
          refine lv_iload_n hx hb dX1_point_54 rfl (lv_at hl 2 rfl) ?_
          refine mm_iald S G 6 0 (by decide) (n := 20) rfl rfl (by omega) (by decide) (v := nI (cP C j)) rfl dX1_point_55 ?_
          refine nn_add hx hb dX1_point_56 ?_
          refine lv_iconst (v := nI 1) hx hb dX1_point_57 (by decide) ?_
          refine lv_isub hx hb dX1_point_58 ?_
          refine lv_istore (lv' := [(8, .int ((nI (8 * j + cP C j)) - (nI 1))), (6, .double ((x).toUInt64)), (0, .ref (ad 0)), (1, .int (nI j)), (2, .long x), (4, .long y)]) hx hb dX1_point_59 hl (by decide) rfl (fun ls hl => ?_)
          refine lv_aload_n hx hb dX1_point_61 rfl (lv_at hl 2 rfl) ?_
          refine mm_get S G 6 (by decide) q1273 rfl (v := .ref (ad 7)) rfl dX1_point_62 ?_
          refine lv_iload_n hx hb dX1_point_65 rfl (lv_at hl 3 rfl) ?_
          refine mm_iald S G 6 0 (by decide) (n := 20) rfl rfl (by omega) (by decide) (v := nI (cP C j)) rfl dX1_point_66 ?_
          refine nz_le (tgt := 101) hx hb (by omega) dX1_point_67 (by decide) (fun c_67 => ?_) (fun c_67 => ?_)
          · refine lv_aload_n hx hb dX1_point_101 rfl (lv_at hl 2 rfl) ?_
            refine mm_get S G 11 (by decide) q1278 rfl (v := .int (nI (cM C))) rfl dX1_point_102 ?_
            refine nz_eq (tgt := 111) hx hb (by omega) dX1_point_105 (by decide) (fun c_105 => ?_) (fun c_105 => ?_)
            · refine lv_aload_n hx hb dX1_point_111 rfl (lv_at hl 2 rfl) ?_
              refine mm_get S G 6 (by decide) q1273 rfl (v := .ref (ad 7)) rfl dX1_point_112 ?_
              refine lv_iload_n hx hb dX1_point_115 rfl (lv_at hl 3 rfl) ?_
              refine mm_iald S G 6 0 (by decide) (n := 20) rfl rfl (by omega) (by decide) (v := nI (cP C j)) rfl dX1_point_116 ?_
              refine lv_bipush (v := nI 8) hx hb dX1_point_117 (by decide) ?_
              refine nn_cne (tgt := 125) hx hb (by omega) (by omega) dX1_point_119 (by decide) (fun c_119 => ?_) (fun c_119 => ?_)
              · refine lv_aload_n hx hb dX1_point_125 rfl (lv_at hl 2 rfl) ?_
                refine mm_get S G 7 (by decide) q1274 rfl (v := .ref (ad 8)) rfl dX1_point_126 ?_
                refine lv_iload hx hb dX1_point_129 (lv_at hl 0 rfl) ?_
                refine lv_iconst (v := nI 1) hx hb dX1_point_131 (by decide) ?_
                refine lv_iadd hx hb dX1_point_132 ?_
                refine w_st (st' := [.int (nI (8 * j + (cP C j))), .ref (ad 8)]) (by first | rw [Int32.sub_add_cancel] | rw [show 8 * j + (cP C j - 1) + 1 = 8 * j + cP C j from by omega]) ?_
                refine lv_dload hx hb dX1_point_133 (lv_at hl 1 rfl) ?_
                refine mm_astX (v := (x).toUInt64) S G (by omega) (by omega) dX1_point_135 (fun H locs G => ?_)
                refine lv_aload_n hx hb dX1_point_136 rfl (lv_at hl 2 rfl) ?_
                refine mm_get S G 8 (by decide) q1275 rfl (v := .ref (ad 9)) rfl dX1_point_137 ?_
                refine lv_iload hx hb dX1_point_140 (lv_at hl 0 rfl) ?_
                refine lv_iconst (v := nI 1) hx hb dX1_point_142 (by decide) ?_
                refine lv_iadd hx hb dX1_point_143 ?_
                refine w_st (st' := [.int (nI (8 * j + (cP C j))), .ref (ad 9)]) (by first | rw [Int32.sub_add_cancel] | rw [show 8 * j + (cP C j - 1) + 1 = 8 * j + cP C j from by omega]) ?_
                refine lv_lload hx hb dX1_point_144 (lv_at hl 5 rfl) ?_
                refine vn_l2d hx hb (hml.trans hl.1.symm) hown (hts _ q1463) (hts _ q166) (hts _ q165) (hts _ q55) (nb_sn (nb_n (smB_nb c_34))) (Nat.le_of_ble_eq_true rfl) (Nat.le_of_ble_eq_true rfl) dX1_point_146 ?_
                refine mm_astY (v := (y).toUInt64) S G (by omega) (by omega) dX1_point_149 (fun H locs G => ?_)
                refine lv_aload_n hx hb dX1_point_150 rfl (lv_at hl 2 rfl) ?_
                refine mm_get S G 6 (by decide) q1273 rfl (v := .ref (ad 7)) rfl dX1_point_151 ?_
                refine lv_iload_n hx hb dX1_point_154 rfl (lv_at hl 3 rfl) ?_
                refine lv_dup2_11 hx hb dX1_point_155 rfl rfl ?_
                refine mm_iald S G 6 0 (by decide) (n := 20) rfl rfl (by omega) (by decide) (v := nI (cP C j)) rfl dX1_point_156 ?_
                refine lv_iconst (v := nI 1) hx hb dX1_point_157 (by decide) ?_
                refine nn_add hx hb dX1_point_158 ?_
                refine mm_astP (v := cP C j + 1) S G (by omega) dX1_point_159 (fun H locs G => ?_)
                refine lv_aload_n hx hb dX1_point_160 rfl (lv_at hl 2 rfl) ?_
                refine mm_get S G 6 (by decide) q1273 rfl (v := .ref (ad 7)) rfl dX1_point_161 ?_
                refine lv_iload_n hx hb dX1_point_164 rfl (lv_at hl 3 rfl) ?_
                refine mm_iald S G 6 0 (by decide) (n := 20) rfl rfl (by omega) (by decide) (v := nI (cP C j + 1)) (by show nI (vf_upd _ j (cP C j + 1) j) = _; simp [vf_upd]) dX1_point_165 ?_
                exact mm_iret S hr hlk G (by first | (exfalso; omega) | (simp [ptR, ptC, ptB, ptU, imB, c_5, ij_j, c_19, c_26, c_34, c_67, c_105, c_119] <;> rfl)) (by first | (exfalso; omega) | (simp [ptR, ptC, ptB, ptU, imB, c_5, ij_j, c_19, c_26, c_34, c_67, c_105, c_119] <;> rfl)) rfl dX1_point_166
              · refine lv_bipush (v := (-104)) hx hb dX1_point_122 (by decide) ?_
                exact mm_iret S hr hlk G (by first | (exfalso; omega) | (simp [ptR, ptC, ptB, ptU, imB, c_5, ij_j, c_19, c_26, c_34, c_67, c_105, eq_true c_119] <;> rfl)) (by first | (exfalso; omega) | (simp [ptR, ptC, ptB, ptU, imB, c_5, ij_j, c_19, c_26, c_34, c_67, c_105, eq_true c_119] <;> rfl)) rfl dX1_point_124
            · refine lv_bipush (v := (-103)) hx hb dX1_point_108 (by decide) ?_
              exact mm_iret S hr hlk G (by first | (exfalso; omega) | (simp [ptR, ptC, ptB, ptU, imB, c_5, ij_j, c_19, c_26, c_34, c_67, c_105] <;> rfl)) (by first | (exfalso; omega) | (simp [ptR, ptC, ptB, ptU, imB, c_5, ij_j, c_19, c_26, c_34, c_67, c_105] <;> rfl)) rfl dX1_point_110
          · rw [show nI (8 * j + cP C j) - nI 1 = nI (8 * j + (cP C j - 1)) from by rw [pk_sub (by omega)]; congr 1; omega] at hl
            have n67 : ¬ cP C j = 0 := by omega
            refine lv_dload hx hb dX1_point_70 (lv_at hl 1 rfl) ?_
            refine lv_aload_n hx hb dX1_point_72 rfl (lv_at hl 2 rfl) ?_
            refine mm_get S G 7 (by decide) q1274 rfl (v := .ref (ad 8)) rfl dX1_point_73 ?_
            refine lv_iload hx hb dX1_point_76 (lv_at hl 0 rfl) ?_
            refine mm_dald S G 7 2 (by decide) (n := 160) rfl rfl (by omega) (by decide) (v := cX C j (cP C j - 1)) (tp_x (by omega)) dX1_point_78 ?_
            refine fx_jlle (tgt := 98) hx hb dX1_point_79 dX1_point_80 (by decide) (fun c_80 => ?_) (fun c_80 => ?_)
            · refine lv_bipush (v := (-102)) hx hb dX1_point_98 (by decide) ?_
              exact mm_iret S hr hlk G (by first | (exfalso; omega) | (simp [ptR, ptC, ptB, ptU, imB, c_5, ij_j, c_19, c_26, c_34, c_67, n67, c_80] <;> rfl)) (by first | (exfalso; omega) | (simp [ptR, ptC, ptB, ptU, imB, c_5, ij_j, c_19, c_26, c_34, c_67, n67, c_80] <;> rfl)) rfl dX1_point_100
            · refine lv_dload hx hb dX1_point_83 (lv_at hl 1 rfl) ?_
              refine lv_d2f hx hb dX1_point_85 (nF_d2f (nb_n (smB_nb c_26))) ?_
              refine lv_aload_n hx hb dX1_point_86 rfl (lv_at hl 2 rfl) ?_
              refine mm_get S G 7 (by decide) q1274 rfl (v := .ref (ad 8)) rfl dX1_point_87 ?_
              refine lv_iload hx hb dX1_point_90 (lv_at hl 0 rfl) ?_
              refine mm_dald S G 7 2 (by decide) (n := 160) rfl rfl (by omega) (by decide) (v := cX C j (cP C j - 1)) (tp_x (by omega)) dX1_point_92 ?_
              refine lv_d2f hx hb dX1_point_93 (nF_d2f (bD_n (hV.x _ _))) ?_
              refine fy_jlgt (tgt := 101) hx hb dX1_point_94 dX1_point_95 (by decide) (fun c_95 => ?_) (fun c_95 => ?_)
              · refine lv_aload_n hx hb dX1_point_101 rfl (lv_at hl 2 rfl) ?_
                refine mm_get S G 11 (by decide) q1278 rfl (v := .int (nI (cM C))) rfl dX1_point_102 ?_
                refine nz_eq (tgt := 111) hx hb (by omega) dX1_point_105 (by decide) (fun c_105 => ?_) (fun c_105 => ?_)
                · refine lv_aload_n hx hb dX1_point_111 rfl (lv_at hl 2 rfl) ?_
                  refine mm_get S G 6 (by decide) q1273 rfl (v := .ref (ad 7)) rfl dX1_point_112 ?_
                  refine lv_iload_n hx hb dX1_point_115 rfl (lv_at hl 3 rfl) ?_
                  refine mm_iald S G 6 0 (by decide) (n := 20) rfl rfl (by omega) (by decide) (v := nI (cP C j)) rfl dX1_point_116 ?_
                  refine lv_bipush (v := nI 8) hx hb dX1_point_117 (by decide) ?_
                  refine nn_cne (tgt := 125) hx hb (by omega) (by omega) dX1_point_119 (by decide) (fun c_119 => ?_) (fun c_119 => ?_)
                  · refine lv_aload_n hx hb dX1_point_125 rfl (lv_at hl 2 rfl) ?_
                    refine mm_get S G 7 (by decide) q1274 rfl (v := .ref (ad 8)) rfl dX1_point_126 ?_
                    refine lv_iload hx hb dX1_point_129 (lv_at hl 0 rfl) ?_
                    refine lv_iconst (v := nI 1) hx hb dX1_point_131 (by decide) ?_
                    refine nn_add hx hb dX1_point_132 ?_
                    refine w_st (st' := [.int (nI (8 * j + (cP C j))), .ref (ad 8)]) (by first | rw [Int32.sub_add_cancel] | rw [show 8 * j + (cP C j - 1) + 1 = 8 * j + cP C j from by omega]) ?_
                    refine lv_dload hx hb dX1_point_133 (lv_at hl 1 rfl) ?_
                    refine mm_astX (v := (x).toUInt64) S G (by omega) (by omega) dX1_point_135 (fun H locs G => ?_)
                    refine lv_aload_n hx hb dX1_point_136 rfl (lv_at hl 2 rfl) ?_
                    refine mm_get S G 8 (by decide) q1275 rfl (v := .ref (ad 9)) rfl dX1_point_137 ?_
                    refine lv_iload hx hb dX1_point_140 (lv_at hl 0 rfl) ?_
                    refine lv_iconst (v := nI 1) hx hb dX1_point_142 (by decide) ?_
                    refine nn_add hx hb dX1_point_143 ?_
                    refine w_st (st' := [.int (nI (8 * j + (cP C j))), .ref (ad 9)]) (by first | rw [Int32.sub_add_cancel] | rw [show 8 * j + (cP C j - 1) + 1 = 8 * j + cP C j from by omega]) ?_
                    refine lv_lload hx hb dX1_point_144 (lv_at hl 5 rfl) ?_
                    refine vn_l2d hx hb (hml.trans hl.1.symm) hown (hts _ q1463) (hts _ q166) (hts _ q165) (hts _ q55) (nb_sn (nb_n (smB_nb c_34))) (Nat.le_of_ble_eq_true rfl) (Nat.le_of_ble_eq_true rfl) dX1_point_146 ?_
                    refine mm_astY (v := (y).toUInt64) S G (by omega) (by omega) dX1_point_149 (fun H locs G => ?_)
                    refine lv_aload_n hx hb dX1_point_150 rfl (lv_at hl 2 rfl) ?_
                    refine mm_get S G 6 (by decide) q1273 rfl (v := .ref (ad 7)) rfl dX1_point_151 ?_
                    refine lv_iload_n hx hb dX1_point_154 rfl (lv_at hl 3 rfl) ?_
                    refine lv_dup2_11 hx hb dX1_point_155 rfl rfl ?_
                    refine mm_iald S G 6 0 (by decide) (n := 20) rfl rfl (by omega) (by decide) (v := nI (cP C j)) rfl dX1_point_156 ?_
                    refine lv_iconst (v := nI 1) hx hb dX1_point_157 (by decide) ?_
                    refine nn_add hx hb dX1_point_158 ?_
                    refine mm_astP (v := cP C j + 1) S G (by omega) dX1_point_159 (fun H locs G => ?_)
                    refine lv_aload_n hx hb dX1_point_160 rfl (lv_at hl 2 rfl) ?_
                    refine mm_get S G 6 (by decide) q1273 rfl (v := .ref (ad 7)) rfl dX1_point_161 ?_
                    refine lv_iload_n hx hb dX1_point_164 rfl (lv_at hl 3 rfl) ?_
                    refine mm_iald S G 6 0 (by decide) (n := 20) rfl rfl (by omega) (by decide) (v := nI (cP C j + 1)) (by show nI (vf_upd _ j (cP C j + 1) j) = _; simp [vf_upd]) dX1_point_165 ?_
                    exact mm_iret S hr hlk G (by first | (exfalso; omega) | (simp [ptR, ptC, ptB, ptU, imB, c_5, ij_j, c_19, c_26, c_34, c_67, n67, c_80, c_95, c_105, c_119] <;> rfl)) (by first | (exfalso; omega) | (simp [ptR, ptC, ptB, ptU, imB, c_5, ij_j, c_19, c_26, c_34, c_67, n67, c_80, c_95, c_105, c_119] <;> rfl)) rfl dX1_point_166
                  · refine lv_bipush (v := (-104)) hx hb dX1_point_122 (by decide) ?_
                    exact mm_iret S hr hlk G (by first | (exfalso; omega) | (simp [ptR, ptC, ptB, ptU, imB, c_5, ij_j, c_19, c_26, c_34, c_67, n67, c_80, c_95, c_105, eq_true c_119] <;> rfl)) (by first | (exfalso; omega) | (simp [ptR, ptC, ptB, ptU, imB, c_5, ij_j, c_19, c_26, c_34, c_67, n67, c_80, c_95, c_105, eq_true c_119] <;> rfl)) rfl dX1_point_124
                · refine lv_bipush (v := (-103)) hx hb dX1_point_108 (by decide) ?_
                  exact mm_iret S hr hlk G (by first | (exfalso; omega) | (simp [ptR, ptC, ptB, ptU, imB, c_5, ij_j, c_19, c_26, c_34, c_67, n67, c_80, c_95, c_105] <;> rfl)) (by first | (exfalso; omega) | (simp [ptR, ptC, ptB, ptU, imB, c_5, ij_j, c_19, c_26, c_34, c_67, n67, c_80, c_95, c_105] <;> rfl)) rfl dX1_point_110
              · refine lv_bipush (v := (-102)) hx hb dX1_point_98 (by decide) ?_
                exact mm_iret S hr hlk G (by first | (exfalso; omega) | (simp [ptR, ptC, ptB, ptU, imB, c_5, ij_j, c_19, c_26, c_34, c_67, n67, c_80, c_95] <;> rfl)) (by first | (exfalso; omega) | (simp [ptR, ptC, ptB, ptU, imB, c_5, ij_j, c_19, c_26, c_34, c_67, n67, c_80, c_95] <;> rfl)) rfl dX1_point_100
        · refine lv_bipush (v := (-102)) hx hb dX1_point_37 (by decide) ?_
          exact mm_iret S hr hlk G (by first | (exfalso; omega) | (simp [ptR, ptC, ptB, ptU, imB, c_5, ij_j, c_19, c_26, c_34] <;> rfl)) (by first | (exfalso; omega) | (simp [ptR, ptC, ptB, ptU, imB, c_5, ij_j, c_19, c_26, c_34] <;> rfl)) rfl dX1_point_39
  · refine lv_bipush (v := (-101)) hx hb dX1_point_8 (by decide) ?_
    exact mm_iret S hr hlk G (by first | (exfalso; omega) | (simp [ptR, ptC, ptB, ptU, imB, c_5] <;> rfl)) (by first | (exfalso; omega) | (simp [ptR, ptC, ptB, ptU, imB, c_5] <;> rfl)) rfl dX1_point_10
theorem mt_X1_begin (l : Launch) (D : va_G) (dA : Nat → ClassId) (ad : Nat → Nat) (C : tp_C) (d : md_T) (m : Int32) (v : Int64) (hC : mOK C) : mC l D dA ad yX1_begin cX1_begin 4 (some .int) 2 [.int m, .long v] C d (some (.int (bgR C m v))) (bgC C m v) d := by
  refine mm_start (by decide) rfl (Nat.le_of_ble_eq_true rfl) ?_
  intro p0 e0 s0 mid bl0 me0 co0 ls S hr hlk G hl
  have hx := S.1; have hb := S.2.1; have hml := S.2.2.1; have hown := S.2.2.2.1; have hts := S.2.2.2.2
  have hl : lv_has ls 4 [(0, .ref (ad 0)), (1, .int m), (2, .long v)] := hl
  have hN := hC.n
  have hMo := hC.mo
  have hZ := hC.z
  refine lv_aload_n hx hb dX1_begin_0 rfl (lv_at hl 0 rfl) ?_
  refine lv_iload_n hx hb dX1_begin_1 rfl (lv_at hl 1 rfl) ?_
  refine mm_call (As := [.int m]) (rest := []) S G (mt_X1_isModule l D dA ad C d m) q1478 q1480 qs19 q1481 hd_X1_isModule ⟨Nat.le_of_ble_eq_true rfl, Nat.le_of_ble_eq_true rfl⟩ rfl hl.1 rfl (Nat.le_of_ble_eq_true rfl) dX1_begin_2 ⟨Nat.zero_le _, Nat.zero_le _⟩ (fun H locs G => ?_)
  refine W.eq (g2 := F0 mid 5 ls [.int (bI (inB m (nI 0) (nI (cN C) - nI 1)))]) rfl ?_
  refine bb_ne (tgt := 11) hx hb dX1_begin_5 (by decide) (fun c_5 => ?_) (fun c_5 => ?_)
  · obtain ⟨j, hj, rfl⟩ := im_nat c_5 hN
    have ij_j : ixN (nI j) = j := ixN_nI (by omega)
    refine lv_lload_n hx hb dX1_begin_11 rfl (lv_at hl 2 rfl) ?_
    refine sC_call (As := [.long v]) (rest := []) S (st_X1_isSmall l v) q1486 q1487 q53 q1488 hd_X1_isSmall ⟨Nat.le_of_ble_eq_true rfl, Nat.le_of_ble_eq_true rfl⟩ rfl hl.1 rfl (Nat.le_of_ble_eq_true rfl) dX1_begin_12 ⟨Nat.zero_le _, Nat.zero_le _⟩ ?_
    refine W.eq (g2 := F0 mid 15 ls [.int (bI (smB v))]) rfl ?_
    refine bb_eq (tgt := 30) hx hb dX1_begin_15 (by decide) (fun c_15 => ?_) (fun c_15 => ?_)
    · refine lv_bipush (v := (-102)) hx hb dX1_begin_30 (by decide) ?_
      exact mm_iret S hr hlk G (by simp [bgR, bgC, bgB, imB, c_5, ij_j, c_15] <;> rfl) (by simp [bgR, bgC, bgB, imB, c_5, ij_j, c_15] <;> rfl) rfl dX1_begin_32
    · refine lv_aload_n hx hb dX1_begin_18 rfl (lv_at hl 0 rfl) ?_
      refine mm_get S G 1 (by decide) q1268 rfl (v := .ref (ad 2)) rfl dX1_begin_19 ?_
      refine lv_iload_n hx hb dX1_begin_22 rfl (lv_at hl 1 rfl) ?_
      refine mm_iald S G 1 0 (by decide) (n := 20) rfl rfl (by omega) (by decide) (v := nI (cK C j)) rfl dX1_begin_23 ?_
      refine sC_call (As := [.int (nI (cK C j))]) (rest := []) S (st_X1_remembers l (cK C j) (hC.k _)) q1494 q1495 q53 q1496 hd_X1_remembers ⟨Nat.le_of_ble_eq_true rfl, Nat.le_of_ble_eq_true rfl⟩ rfl hl.1 rfl (Nat.le_of_ble_eq_true rfl) dX1_begin_24 ⟨Nat.zero_le _, Nat.zero_le _⟩ ?_
      refine W.eq (g2 := F0 mid 27 ls [.int (bI (rmB (cK C j)))]) rfl ?_
      refine bb_ne (tgt := 33) hx hb dX1_begin_27 (by decide) (fun c_27 => ?_) (fun c_27 => ?_)
      · refine lv_aload_n hx hb dX1_begin_33 rfl (lv_at hl 0 rfl) ?_
        refine mm_get S G 11 (by decide) q1278 rfl (v := .int (nI (cM C))) rfl dX1_begin_34 ?_
        refine nz_eq (tgt := 43) hx hb (by omega) dX1_begin_37 (by decide) (fun c_37 => ?_) (fun c_37 => ?_)
        · refine lv_aload_n hx hb dX1_begin_43 rfl (lv_at hl 0 rfl) ?_
          refine mm_get S G 5 (by decide) q1272 rfl (v := .ref (ad 6)) rfl dX1_begin_44 ?_
          refine lv_iload_n hx hb dX1_begin_47 rfl (lv_at hl 1 rfl) ?_
          refine lv_lload_n hx hb dX1_begin_48 rfl (lv_at hl 2 rfl) ?_
          refine vn_l2d hx hb (hml.trans hl.1.symm) hown (hts _ q1463) (hts _ q166) (hts _ q165) (hts _ q55) (nb_sn (nb_n (smB_nb c_15))) (Nat.le_of_ble_eq_true rfl) (Nat.le_of_ble_eq_true rfl) dX1_begin_49 ?_
          refine mm_astB (v := (v).toUInt64) S G (by omega) dX1_begin_52 (fun H locs G => ?_)
          refine lv_iconst (v := nI 1) hx hb dX1_begin_53 (by decide) ?_
          exact mm_iret S hr hlk G (by simp [bgR, bgC, bgB, imB, c_5, ij_j, c_15, c_27, c_37] <;> rfl) (by simp [bgR, bgC, bgB, imB, c_5, ij_j, c_15, c_27, c_37] <;> rfl) rfl dX1_begin_54
        · refine lv_bipush (v := (-103)) hx hb dX1_begin_40 (by decide) ?_
          exact mm_iret S hr hlk G (by simp [bgR, bgC, bgB, imB, c_5, ij_j, c_15, c_27, c_37] <;> rfl) (by simp [bgR, bgC, bgB, imB, c_5, ij_j, c_15, c_27, c_37] <;> rfl) rfl dX1_begin_42
      · refine lv_bipush (v := (-102)) hx hb dX1_begin_30 (by decide) ?_
        exact mm_iret S hr hlk G (by simp [bgR, bgC, bgB, imB, c_5, ij_j, c_15, c_27] <;> rfl) (by simp [bgR, bgC, bgB, imB, c_5, ij_j, c_15, c_27] <;> rfl) rfl dX1_begin_32
  · refine lv_bipush (v := (-101)) hx hb dX1_begin_8 (by decide) ?_
    exact mm_iret S hr hlk G (by simp [bgR, bgC, bgB, imB, c_5] <;> rfl) (by simp [bgR, bgC, bgB, imB, c_5] <;> rfl) rfl dX1_begin_10
theorem mt_X1_setting (l : Launch) (D : va_G) (dA : Nat → ClassId) (ad : Nat → Nat) (C : tp_C) (d : md_T) (m : Int32) (v : Int64) (hC : mOK C) : mC l D dA ad yX1_setting cX1_setting 4 (some .int) 2 [.int m, .long v] C d (some (.int (seR C m v))) (seC C m v) d := by
  refine mm_start (by decide) rfl (Nat.le_of_ble_eq_true rfl) ?_
  intro p0 e0 s0 mid bl0 me0 co0 ls S hr hlk G hl
  have hx := S.1; have hb := S.2.1; have hml := S.2.2.1; have hown := S.2.2.2.1; have hts := S.2.2.2.2
  have hl : lv_has ls 4 [(0, .ref (ad 0)), (1, .int m), (2, .long v)] := hl
  have hN := hC.n
  have hMo := hC.mo
  have hZ := hC.z
  refine lv_aload_n hx hb dX1_setting_0 rfl (lv_at hl 0 rfl) ?_
  refine lv_iload_n hx hb dX1_setting_1 rfl (lv_at hl 1 rfl) ?_
  refine mm_call (As := [.int m]) (rest := []) S G (mt_X1_isModule l D dA ad C d m) q1478 q1480 qs19 q1481 hd_X1_isModule ⟨Nat.le_of_ble_eq_true rfl, Nat.le_of_ble_eq_true rfl⟩ rfl hl.1 rfl (Nat.le_of_ble_eq_true rfl) dX1_setting_2 ⟨Nat.zero_le _, Nat.zero_le _⟩ (fun H locs G => ?_)
  refine W.eq (g2 := F0 mid 5 ls [.int (bI (inB m (nI 0) (nI (cN C) - nI 1)))]) rfl ?_
  refine bb_ne (tgt := 11) hx hb dX1_setting_5 (by decide) (fun c_5 => ?_) (fun c_5 => ?_)
  · obtain ⟨j, hj, rfl⟩ := im_nat c_5 hN
    have ij_j : ixN (nI j) = j := ixN_nI (by omega)
    refine lv_lload_n hx hb dX1_setting_11 rfl (lv_at hl 2 rfl) ?_
    refine sC_call (As := [.long v]) (rest := []) S (st_X1_isNumber l v) q1458 q1459 q53 q1460 hd_X1_isNumber ⟨Nat.le_of_ble_eq_true rfl, Nat.le_of_ble_eq_true rfl⟩ rfl hl.1 rfl (Nat.le_of_ble_eq_true rfl) dX1_setting_12 ⟨Nat.zero_le _, Nat.zero_le _⟩ ?_
    refine W.eq (g2 := F0 mid 15 ls [.int (bI (nbB v))]) rfl ?_
    refine bb_eq (tgt := 34) hx hb dX1_setting_15 (by decide) (fun c_15 => ?_) (fun c_15 => ?_)
    · refine lv_bipush (v := (-102)) hx hb dX1_setting_34 (by decide) ?_
      exact mm_iret S hr hlk G (by simp [seR, seC, seB, imB, c_5, ij_j, c_15] <;> rfl) (by simp [seR, seC, seB, imB, c_5, ij_j, c_15] <;> rfl) rfl dX1_setting_36
    · refine lv_aload_n hx hb dX1_setting_18 rfl (lv_at hl 0 rfl) ?_
      refine mm_get S G 1 (by decide) q1268 rfl (v := .ref (ad 2)) rfl dX1_setting_19 ?_
      refine lv_iload_n hx hb dX1_setting_22 rfl (lv_at hl 1 rfl) ?_
      refine mm_iald S G 1 0 (by decide) (n := 20) rfl rfl (by omega) (by decide) (v := nI (cK C j)) rfl dX1_setting_23 ?_
      refine lv_lload_n hx hb dX1_setting_24 rfl (lv_at hl 2 rfl) ?_
      refine vn_l2d hx hb (hml.trans hl.1.symm) hown (hts _ q1463) (hts _ q166) (hts _ q165) (hts _ q55) (nb_sn (nb_n c_15)) (Nat.le_of_ble_eq_true rfl) (Nat.le_of_ble_eq_true rfl) dX1_setting_25 ?_
      refine sC_call (As := [.int (nI (cK C j)), .double ((v).toUInt64)]) (rest := []) S (st_X1_isSetting l (cK C j) ((v).toUInt64) (hC.k _)) q1464 q1465 q53 q1466 hd_X1_isSetting ⟨Nat.le_of_ble_eq_true rfl, Nat.le_of_ble_eq_true rfl⟩ rfl hl.1 rfl (Nat.le_of_ble_eq_true rfl) dX1_setting_28 ⟨Nat.zero_le _, Nat.zero_le _⟩ ?_
      refine W.eq (g2 := F0 mid 31 ls [.int (bI (stB (cK C j) ((v).toUInt64)))]) rfl ?_
      refine bb_ne (tgt := 37) hx hb dX1_setting_31 (by decide) (fun c_31 => ?_) (fun c_31 => ?_)
      · refine lv_aload_n hx hb dX1_setting_37 rfl (lv_at hl 0 rfl) ?_
        refine mm_get S G 11 (by decide) q1278 rfl (v := .int (nI (cM C))) rfl dX1_setting_38 ?_
        refine nz_eq (tgt := 47) hx hb (by omega) dX1_setting_41 (by decide) (fun c_41 => ?_) (fun c_41 => ?_)
        · refine lv_aload_n hx hb dX1_setting_47 rfl (lv_at hl 0 rfl) ?_
          refine mm_get S G 2 (by decide) q1269 rfl (v := .ref (ad 3)) rfl dX1_setting_48 ?_
          refine lv_iload_n hx hb dX1_setting_51 rfl (lv_at hl 1 rfl) ?_
          refine lv_lload_n hx hb dX1_setting_52 rfl (lv_at hl 2 rfl) ?_
          refine vn_l2d hx hb (hml.trans hl.1.symm) hown (hts _ q1463) (hts _ q166) (hts _ q165) (hts _ q55) (nb_sn (nb_n c_15)) (Nat.le_of_ble_eq_true rfl) (Nat.le_of_ble_eq_true rfl) dX1_setting_53 ?_
          refine mm_astS (v := (v).toUInt64) S G (by omega) dX1_setting_56 (fun H locs G => ?_)
          refine lv_iconst (v := nI 1) hx hb dX1_setting_57 (by decide) ?_
          exact mm_iret S hr hlk G (by simp [seR, seC, seB, imB, c_5, ij_j, c_15, c_31, c_41] <;> rfl) (by simp [seR, seC, seB, imB, c_5, ij_j, c_15, c_31, c_41] <;> rfl) rfl dX1_setting_58
        · refine lv_bipush (v := (-103)) hx hb dX1_setting_44 (by decide) ?_
          exact mm_iret S hr hlk G (by simp [seR, seC, seB, imB, c_5, ij_j, c_15, c_31, c_41] <;> rfl) (by simp [seR, seC, seB, imB, c_5, ij_j, c_15, c_31, c_41] <;> rfl) rfl dX1_setting_46
      · refine lv_bipush (v := (-102)) hx hb dX1_setting_34 (by decide) ?_
        exact mm_iret S hr hlk G (by simp [seR, seC, seB, imB, c_5, ij_j, c_15, c_31] <;> rfl) (by simp [seR, seC, seB, imB, c_5, ij_j, c_15, c_31] <;> rfl) rfl dX1_setting_36
  · refine lv_bipush (v := (-101)) hx hb dX1_setting_8 (by decide) ?_
    exact mm_iret S hr hlk G (by simp [seR, seC, seB, imB, c_5] <;> rfl) (by simp [seR, seC, seB, imB, c_5] <;> rfl) rfl dX1_setting_10
theorem mt_X1_rule (l : Launch) (D : va_G) (dA : Nat → ClassId) (ad : Nat → Nat) (C : tp_C) (d : md_T) (a : Int32) (k : Int32) (hC : mOK C) : mC l D dA ad yX1_rule cX1_rule 3 (some .int) 1 [.int a, .int k] C d (some (.int (ruR C a k))) (ruC C a k) d := by
  refine mm_start (by decide) rfl (Nat.le_of_ble_eq_true rfl) ?_
  intro p0 e0 s0 mid bl0 me0 co0 ls S hr hlk G hl
  have hx := S.1; have hb := S.2.1; have hml := S.2.2.1; have hown := S.2.2.2.1; have hts := S.2.2.2.2
  have hl : lv_has ls 3 [(0, .ref (ad 0)), (1, .int a), (2, .int k)] := hl
  have hN := hC.n
  have hMo := hC.mo
  have hZ := hC.z
  refine lv_iload_n hx hb dX1_rule_0 rfl (lv_at hl 1 rfl) ?_
  refine lv_iconst (v := nI 0) hx hb dX1_rule_1 (by decide) ?_
  refine lv_iconst (v := nI 2) hx hb dX1_rule_2 (by decide) ?_
  refine sC_call (As := [.int a, .int (nI 0), .int (nI 2)]) (rest := []) S (st_X1_in l a (nI 0) (nI 2)) q1455 q1456 q53 q1457 hd_X1_in ⟨Nat.le_of_ble_eq_true rfl, Nat.le_of_ble_eq_true rfl⟩ rfl hl.1 rfl (Nat.le_of_ble_eq_true rfl) dX1_rule_3 ⟨Nat.zero_le _, Nat.zero_le _⟩ ?_
  refine W.eq (g2 := F0 mid 6 ls [.int (bI (inB a (nI 0) (nI 2)))]) rfl ?_
  refine bb_eq (tgt := 19) hx hb dX1_rule_6 (by decide) (fun c_6 => ?_) (fun c_6 => ?_)
  · refine lv_bipush (v := (-102)) hx hb dX1_rule_19 (by decide) ?_
    exact mm_iret S hr hlk G (by simp [ruR, ruC, ruB, c_6] <;> rfl) (by simp [ruR, ruC, ruB, c_6] <;> rfl) rfl dX1_rule_21
  · obtain ⟨a1, -, ha1, rfl⟩ := in_nat c_6 (by decide) (by decide)
    have ij_a1 : ixN (nI a1) = a1 := ixN_nI (by omega)
    refine lv_iload_n hx hb dX1_rule_9 rfl (lv_at hl 2 rfl) ?_
    refine lv_iconst (v := nI 1) hx hb dX1_rule_10 (by decide) ?_
    refine lv_bipush (v := nI 20) hx hb dX1_rule_11 (by decide) ?_
    refine sC_call (As := [.int k, .int (nI 1), .int (nI 20)]) (rest := []) S (st_X1_in l k (nI 1) (nI 20)) q1455 q1456 q53 q1457 hd_X1_in ⟨Nat.le_of_ble_eq_true rfl, Nat.le_of_ble_eq_true rfl⟩ rfl hl.1 rfl (Nat.le_of_ble_eq_true rfl) dX1_rule_13 ⟨Nat.zero_le _, Nat.zero_le _⟩ ?_
    refine W.eq (g2 := F0 mid 16 ls [.int (bI (inB k (nI 1) (nI 20)))]) rfl ?_
    refine bb_ne (tgt := 22) hx hb dX1_rule_16 (by decide) (fun c_16 => ?_) (fun c_16 => ?_)
    · obtain ⟨k1, -, hk1, rfl⟩ := in_nat c_16 (by decide) (by decide)
      have ij_k1 : ixN (nI k1) = k1 := ixN_nI (by omega)
      refine lv_aload_n hx hb dX1_rule_22 rfl (lv_at hl 0 rfl) ?_
      refine mm_get S G 11 (by decide) q1278 rfl (v := .int (nI (cM C))) rfl dX1_rule_23 ?_
      refine nz_eq (tgt := 32) hx hb (by omega) dX1_rule_26 (by decide) (fun c_26 => ?_) (fun c_26 => ?_)
      · refine lv_aload_n hx hb dX1_rule_32 rfl (lv_at hl 0 rfl) ?_
        refine lv_iload_n hx hb dX1_rule_33 rfl (lv_at hl 1 rfl) ?_
        refine mm_putR S G q1280 dX1_rule_34 (fun H locs G => ?_)
        refine lv_aload_n hx hb dX1_rule_37 rfl (lv_at hl 0 rfl) ?_
        refine lv_iload_n hx hb dX1_rule_38 rfl (lv_at hl 2 rfl) ?_
        refine mm_putH S G q1281 dX1_rule_39 (fun H locs G => ?_)
        refine lv_iconst (v := nI 1) hx hb dX1_rule_42 (by decide) ?_
        exact mm_iret S hr hlk G (by simp [ruR, ruC, ruB, c_6, ij_a1, c_16, ij_k1, c_26] <;> rfl) (by simp [ruR, ruC, ruB, c_6, ij_a1, c_16, ij_k1, c_26] <;> rfl) rfl dX1_rule_43
      · refine lv_bipush (v := (-103)) hx hb dX1_rule_29 (by decide) ?_
        exact mm_iret S hr hlk G (by simp [ruR, ruC, ruB, c_6, ij_a1, c_16, ij_k1, c_26] <;> rfl) (by simp [ruR, ruC, ruB, c_6, ij_a1, c_16, ij_k1, c_26] <;> rfl) rfl dX1_rule_31
    · refine lv_bipush (v := (-102)) hx hb dX1_rule_19 (by decide) ?_
      exact mm_iret S hr hlk G (by simp [ruR, ruC, ruB, c_6, ij_a1, c_16] <;> rfl) (by simp [ruR, ruC, ruB, c_6, ij_a1, c_16] <;> rfl) rfl dX1_rule_21
theorem mt_X1_fail (l : Launch) (D : va_G) (dA : Nat → ClassId) (ad : Nat → Nat) (C : tp_C) (d : md_T) (m : Int32) (a : Int32) (hC : mOK C) : mC l D dA ad yX1_fail cX1_fail 3 (some .int) 2 [.int m, .int a] C d (some (.int (flR C m a))) (flC C m a) d := by
  refine mm_start (by decide) rfl (Nat.le_of_ble_eq_true rfl) ?_
  intro p0 e0 s0 mid bl0 me0 co0 ls S hr hlk G hl
  have hx := S.1; have hb := S.2.1; have hml := S.2.2.1; have hown := S.2.2.2.1; have hts := S.2.2.2.2
  have hl : lv_has ls 3 [(0, .ref (ad 0)), (1, .int m), (2, .int a)] := hl
  have hN := hC.n
  have hMo := hC.mo
  have hZ := hC.z
  refine lv_aload_n hx hb dX1_fail_0 rfl (lv_at hl 0 rfl) ?_
  refine lv_iload_n hx hb dX1_fail_1 rfl (lv_at hl 1 rfl) ?_
  refine mm_call (As := [.int m]) (rest := []) S G (mt_X1_isModule l D dA ad C d m) q1478 q1480 qs19 q1481 hd_X1_isModule ⟨Nat.le_of_ble_eq_true rfl, Nat.le_of_ble_eq_true rfl⟩ rfl hl.1 rfl (Nat.le_of_ble_eq_true rfl) dX1_fail_2 ⟨Nat.zero_le _, Nat.zero_le _⟩ (fun H locs G => ?_)
  refine W.eq (g2 := F0 mid 5 ls [.int (bI (inB m (nI 0) (nI (cN C) - nI 1)))]) rfl ?_
  refine bb_ne (tgt := 11) hx hb dX1_fail_5 (by decide) (fun c_5 => ?_) (fun c_5 => ?_)
  · obtain ⟨j, hj, rfl⟩ := im_nat c_5 hN
    have ij_j : ixN (nI j) = j := ixN_nI (by omega)
    refine lv_iload_n hx hb dX1_fail_11 rfl (lv_at hl 2 rfl) ?_
    refine lv_iconst (v := nI 0) hx hb dX1_fail_12 (by decide) ?_
    refine lv_sipush (v := nI 300) hx hb dX1_fail_13 (by decide) ?_
    refine sC_call (As := [.int a, .int (nI 0), .int (nI 300)]) (rest := []) S (st_X1_in l a (nI 0) (nI 300)) q1455 q1456 q53 q1457 hd_X1_in ⟨Nat.le_of_ble_eq_true rfl, Nat.le_of_ble_eq_true rfl⟩ rfl hl.1 rfl (Nat.le_of_ble_eq_true rfl) dX1_fail_16 ⟨Nat.zero_le _, Nat.zero_le _⟩ ?_
    refine W.eq (g2 := F0 mid 19 ls [.int (bI (inB a (nI 0) (nI 300)))]) rfl ?_
    refine bb_ne (tgt := 25) hx hb dX1_fail_19 (by decide) (fun c_19 => ?_) (fun c_19 => ?_)
    · obtain ⟨a1, -, ha1, rfl⟩ := in_nat c_19 (by decide) (by decide)
      have ij_a1 : ixN (nI a1) = a1 := ixN_nI (by omega)
      refine lv_aload_n hx hb dX1_fail_25 rfl (lv_at hl 0 rfl) ?_
      refine mm_get S G 9 (by decide) q1276 rfl (v := .ref (ad 10)) rfl dX1_fail_26 ?_
      refine lv_iload_n hx hb dX1_fail_29 rfl (lv_at hl 1 rfl) ?_
      refine lv_iload_n hx hb dX1_fail_30 rfl (lv_at hl 2 rfl) ?_
      refine mm_astA (v := a1) S G (by omega) dX1_fail_31 (fun H locs G => ?_)
      refine lv_iconst (v := nI 1) hx hb dX1_fail_32 (by decide) ?_
      exact mm_iret S hr hlk G (by simp [flR, flC, imB, c_5, ij_j, c_19, ij_a1] <;> rfl) (by simp [flR, flC, imB, c_5, ij_j, c_19, ij_a1] <;> rfl) rfl dX1_fail_33
    · refine lv_bipush (v := (-102)) hx hb dX1_fail_22 (by decide) ?_
      exact mm_iret S hr hlk G (by simp [flR, flC, imB, c_5, ij_j, c_19] <;> rfl) (by simp [flR, flC, imB, c_5, ij_j, c_19] <;> rfl) rfl dX1_fail_24
  · refine lv_bipush (v := (-101)) hx hb dX1_fail_8 (by decide) ?_
    exact mm_iret S hr hlk G (by simp [flR, flC, imB, c_5] <;> rfl) (by simp [flR, flC, imB, c_5] <;> rfl) rfl dX1_fail_10
theorem mt_X1_strip (l : Launch) (D : va_G) (dA : Nat → ClassId) (ad : Nat → Nat) (C : tp_C) (d : md_T) (m : Int32) (hC : mOK C) : mC l D dA ad yX1_strip cX1_strip 2 (some .int) 2 [.int m] C d (some (.int (spR C m))) (spC C m) (spD C m d) := by
  refine mm_start (by decide) rfl (Nat.le_of_ble_eq_true rfl) ?_
  intro p0 e0 s0 mid bl0 me0 co0 ls S hr hlk G hl
  have hx := S.1; have hb := S.2.1; have hml := S.2.2.1; have hown := S.2.2.2.1; have hts := S.2.2.2.2
  have hl : lv_has ls 2 [(0, .ref (ad 0)), (1, .int m)] := hl
  have hN := hC.n
  have hMo := hC.mo
  have hZ := hC.z
  refine lv_aload_n hx hb dX1_strip_0 rfl (lv_at hl 0 rfl) ?_
  refine lv_iload_n hx hb dX1_strip_1 rfl (lv_at hl 1 rfl) ?_
  refine mm_call (As := [.int m]) (rest := []) S G (mt_X1_isModule l D dA ad C d m) q1478 q1480 qs19 q1481 hd_X1_isModule ⟨Nat.le_of_ble_eq_true rfl, Nat.le_of_ble_eq_true rfl⟩ rfl hl.1 rfl (Nat.le_of_ble_eq_true rfl) dX1_strip_2 ⟨Nat.zero_le _, Nat.zero_le _⟩ (fun H locs G => ?_)
  refine W.eq (g2 := F0 mid 5 ls [.int (bI (inB m (nI 0) (nI (cN C) - nI 1)))]) rfl ?_
  refine bb_ne (tgt := 11) hx hb dX1_strip_5 (by decide) (fun c_5 => ?_) (fun c_5 => ?_)
  · obtain ⟨j, hj, rfl⟩ := im_nat c_5 hN
    have ij_j : ixN (nI j) = j := ixN_nI (by omega)
    refine lv_aload_n hx hb dX1_strip_11 rfl (lv_at hl 0 rfl) ?_
    refine mm_get S G 11 (by decide) q1278 rfl (v := .int (nI (cM C))) rfl dX1_strip_12 ?_
    refine nz_eq (tgt := 21) hx hb (by omega) dX1_strip_15 (by decide) (fun c_15 => ?_) (fun c_15 => ?_)
    · refine lv_aload_n hx hb dX1_strip_21 rfl (lv_at hl 0 rfl) ?_
      refine mm_get S G 37 (by decide) q1304 rfl (v := .int (nI (cZ C))) rfl dX1_strip_22 ?_
      refine lv_bipush (v := nI 6) hx hb dX1_strip_25 (by decide) ?_
      refine nn_cne (tgt := 33) hx hb (by omega) (by omega) dX1_strip_27 (by decide) (fun c_27 => ?_) (fun c_27 => ?_)
      · refine lv_aload_n hx hb dX1_strip_33 rfl (lv_at hl 0 rfl) ?_
        refine mm_get S G 38 (by decide) q1305 rfl (v := .ref (ad 39)) rfl dX1_strip_34 ?_
        refine lv_aload_n hx hb dX1_strip_37 rfl (lv_at hl 0 rfl) ?_
        refine mm_get S G 37 (by decide) q1304 rfl (v := .int (nI (cZ C))) rfl dX1_strip_38 ?_
        refine lv_iload_n hx hb dX1_strip_41 rfl (lv_at hl 1 rfl) ?_
        refine mm_astO (v := j) S G (by omega) dX1_strip_42 (fun H locs G => ?_)
        refine lv_aload_n hx hb dX1_strip_43 rfl (lv_at hl 0 rfl) ?_
        refine mm_get S G 39 (by decide) q1306 rfl (v := .ref (ad 40)) rfl dX1_strip_44 ?_
        refine lv_aload_n hx hb dX1_strip_47 rfl (lv_at hl 0 rfl) ?_
        refine mm_get S G 37 (by decide) q1304 rfl (v := .int (nI (cZ C))) rfl dX1_strip_48 ?_
        refine lv_iconst (v := nI 0) hx hb dX1_strip_51 (by decide) ?_
        refine mm_iast S G 39 rfl (by decide) (n := 6) rfl (by omega) dX1_strip_52 (fun H locs G => ?_)
        refine lv_aload_n hx hb dX1_strip_53 rfl (lv_at hl 0 rfl) ?_
        refine lv_dup hx hb dX1_strip_54 rfl ?_
        refine mm_get S G 37 (by decide) q1304 rfl (v := .int (nI (cZ C))) rfl dX1_strip_55 ?_
        refine lv_iconst (v := nI 1) hx hb dX1_strip_58 (by decide) ?_
        refine nn_add hx hb dX1_strip_59 ?_
        refine mm_putZ S G q1304 dX1_strip_60 (fun H locs G => ?_)
        refine lv_aload_n hx hb dX1_strip_63 rfl (lv_at hl 0 rfl) ?_
        refine mm_get S G 37 (by decide) q1304 rfl (v := .int (nI (cZ C + 1))) rfl dX1_strip_64 ?_
        refine lv_iconst (v := nI 1) hx hb dX1_strip_67 (by decide) ?_
        refine nn_sub hx hb (by omega) dX1_strip_68 ?_
        exact mm_iret S hr hlk G (by simp [spR, spC, spD, imB, c_5, ij_j, c_15, c_27] <;> rfl) (by simp [spR, spC, spD, imB, c_5, ij_j, c_15, c_27] <;> rfl) (by simp [spR, spC, spD, imB, c_5, ij_j, c_15, c_27] <;> rfl) dX1_strip_69
      · refine lv_bipush (v := (-104)) hx hb dX1_strip_30 (by decide) ?_
        exact mm_iret S hr hlk G (by simp [spR, spC, spD, imB, c_5, ij_j, c_15, c_27] <;> rfl) (by simp [spR, spC, spD, imB, c_5, ij_j, c_15, c_27] <;> rfl) (by simp [spR, spC, spD, imB, c_5, ij_j, c_15, c_27] <;> rfl) dX1_strip_32
    · refine lv_bipush (v := (-103)) hx hb dX1_strip_18 (by decide) ?_
      exact mm_iret S hr hlk G (by simp [spR, spC, spD, imB, c_5, ij_j, c_15] <;> rfl) (by simp [spR, spC, spD, imB, c_5, ij_j, c_15] <;> rfl) (by simp [spR, spC, spD, imB, c_5, ij_j, c_15] <;> rfl) dX1_strip_20
  · refine lv_bipush (v := (-101)) hx hb dX1_strip_8 (by decide) ?_
    exact mm_iret S hr hlk G (by simp [spR, spC, spD, imB, c_5] <;> rfl) (by simp [spR, spC, spD, imB, c_5] <;> rfl) (by simp [spR, spC, spD, imB, c_5] <;> rfl) dX1_strip_10
theorem mt_X1_isStrip (l : Launch) (D : va_G) (dA : Nat → ClassId) (ad : Nat → Nat) (C : tp_C) (d : md_T) (s : Int32) : mC l D dA ad yX1_isStrip cX1_isStrip 2 (some .boolean) 1 [.int s] C d (some (.int (bI (inB s (nI 0) (nI (cZ C) - nI 1))))) C d := by
  refine mm_start (by decide) rfl (Nat.le_of_ble_eq_true rfl) ?_
  intro p0 e0 s0 mid bl0 me0 co0 ls S hr hlk G hl
  have hx := S.1; have hb := S.2.1; have hml := S.2.2.1; have hown := S.2.2.2.1; have hts := S.2.2.2.2
  have hl : lv_has ls 2 [(0, .ref (ad 0)), (1, .int s)] := hl
  refine lv_iload_n hx hb dX1_isStrip_0 rfl (lv_at hl 1 rfl) ?_
  refine lv_iconst (v := nI 0) hx hb dX1_isStrip_1 (by decide) ?_
  refine lv_aload_n hx hb dX1_isStrip_2 rfl (lv_at hl 0 rfl) ?_
  refine mm_get S G 37 (by decide) q1304 rfl (v := .int (nI (cZ C))) rfl dX1_isStrip_3 ?_
  refine lv_iconst (v := nI 1) hx hb dX1_isStrip_6 (by decide) ?_
  refine lv_isub hx hb dX1_isStrip_7 ?_
  refine sC_call (As := [.int s, .int (nI 0), .int ((nI (cZ C)) - (nI 1))]) (rest := []) S (st_X1_in l s (nI 0) ((nI (cZ C)) - (nI 1))) q1455 q1456 q53 q1457 hd_X1_in ⟨Nat.le_of_ble_eq_true rfl, Nat.le_of_ble_eq_true rfl⟩ rfl hl.1 rfl (Nat.le_of_ble_eq_true rfl) dX1_isStrip_8 ⟨Nat.zero_le _, Nat.zero_le _⟩ ?_
  refine W.eq (g2 := F0 mid 11 ls [.int (bI (inB s (nI 0) ((nI (cZ C)) - (nI 1))))]) rfl ?_
  exact mm_zret S hr hlk G (by first | rfl | exact bb_nar _) (by rfl) rfl rfl dX1_isStrip_11
theorem mt_X1_samples (l : Launch) (D : va_G) (dA : Nat → ClassId) (ad : Nat → Nat) (C : tp_C) (d : md_T) (s : Int32) (hC : mOK C) : mC l D dA ad yX1_samples cX1_samples 2 (some .int) 2 [.int s] C d (some (.int (if isB C s then dAI d 39 (ixN s) else (-101)))) C d := by
  refine mm_start (by decide) rfl (Nat.le_of_ble_eq_true rfl) ?_
  intro p0 e0 s0 mid bl0 me0 co0 ls S hr hlk G hl
  have hx := S.1; have hb := S.2.1; have hml := S.2.2.1; have hown := S.2.2.2.1; have hts := S.2.2.2.2
  have hl : lv_has ls 2 [(0, .ref (ad 0)), (1, .int s)] := hl
  have hN := hC.n
  have hMo := hC.mo
  have hZ := hC.z
  refine lv_aload_n hx hb dX1_samples_0 rfl (lv_at hl 0 rfl) ?_
  refine lv_iload_n hx hb dX1_samples_1 rfl (lv_at hl 1 rfl) ?_
  refine mm_call (As := [.int s]) (rest := []) S G (mt_X1_isStrip l D dA ad C d s) q1690 q1692 qs46 q1693 hd_X1_isStrip ⟨Nat.le_of_ble_eq_true rfl, Nat.le_of_ble_eq_true rfl⟩ rfl hl.1 rfl (Nat.le_of_ble_eq_true rfl) dX1_samples_2 ⟨Nat.zero_le _, Nat.zero_le _⟩ (fun H locs G => ?_)
  refine W.eq (g2 := F0 mid 5 ls [.int (bI (inB s (nI 0) (nI (cZ C) - nI 1)))]) rfl ?_
  refine bb_eq (tgt := 17) hx hb dX1_samples_5 (by decide) (fun c_5 => ?_) (fun c_5 => ?_)
  · refine lv_bipush (v := (-101)) hx hb dX1_samples_17 (by decide) ?_
    exact mm_iret S hr hlk G (by simp [isB, c_5] <;> rfl) rfl rfl dX1_samples_19
  · obtain ⟨j, hj, rfl⟩ := is_nat c_5 hZ
    have ij_j : ixN (nI j) = j := ixN_nI (by omega)
    refine lv_aload_n hx hb dX1_samples_8 rfl (lv_at hl 0 rfl) ?_
    refine mm_get S G 39 (by decide) q1306 rfl (v := .ref (ad 40)) rfl dX1_samples_9 ?_
    refine lv_iload_n hx hb dX1_samples_12 rfl (lv_at hl 1 rfl) ?_
    refine mm_iald S G 39 0 (by decide) (n := 6) rfl rfl (by omega) (by decide) (v := dAI d 39 j) rfl dX1_samples_13 ?_
    refine lv_goto (tgt := 19) hx hb dX1_samples_14 (by decide) ?_
    exact mm_iret S hr hlk G (by simp [isB, c_5, ij_j] <;> rfl) rfl rfl dX1_samples_19
theorem mt_X1_sample (l : Launch) (D : va_G) (dA : Nat → ClassId) (ad : Nat → Nat) (C : tp_C) (d : md_T) (s : Int32) (i : Int32) (hC : mOK C) (hSm : smOK d) (hq : ∀ k, bD 1075 (dAD d 40 k)) : mC l D dA ad yX1_sample cX1_sample 3 (some .long) 2 [.int s, .int i] C d (some (.long (smpL C d s i))) C d := by
  refine mm_start (by decide) rfl (Nat.le_of_ble_eq_true rfl) ?_
  intro p0 e0 s0 mid bl0 me0 co0 ls S hr hlk G hl
  have hx := S.1; have hb := S.2.1; have hml := S.2.2.1; have hown := S.2.2.2.1; have hts := S.2.2.2.2
  have hl : lv_has ls 3 [(0, .ref (ad 0)), (1, .int s), (2, .int i)] := hl
  have hN := hC.n
  have hMo := hC.mo
  have hZ := hC.z
  refine lv_aload_n hx hb dX1_sample_0 rfl (lv_at hl 0 rfl) ?_
  refine lv_iload_n hx hb dX1_sample_1 rfl (lv_at hl 1 rfl) ?_
  refine mm_call (As := [.int s]) (rest := []) S G (mt_X1_isStrip l D dA ad C d s) q1690 q1692 qs46 q1693 hd_X1_isStrip ⟨Nat.le_of_ble_eq_true rfl, Nat.le_of_ble_eq_true rfl⟩ rfl hl.1 rfl (Nat.le_of_ble_eq_true rfl) dX1_sample_2 ⟨Nat.zero_le _, Nat.zero_le _⟩ (fun H locs G => ?_)
  refine W.eq (g2 := F0 mid 5 ls [.int (bI (inB s (nI 0) (nI (cZ C) - nI 1)))]) rfl ?_
  refine bb_eq (tgt := 41) hx hb dX1_sample_5 (by decide) (fun c_5 => ?_) (fun c_5 => ?_)
  · refine lv_lconst (v := 0) hx hb dX1_sample_41 (by decide) ?_
    exact mm_lret S hr hlk G (by simp [isB, smpL, c_5] <;> rfl) rfl rfl dX1_sample_42
  · obtain ⟨j, hj, rfl⟩ := is_nat c_5 hZ
    have ij_j : ixN (nI j) = j := ixN_nI (by omega)
    have hc := hSm.le j
    refine lv_iload_n hx hb dX1_sample_8 rfl (lv_at hl 2 rfl) ?_
    refine lv_iconst (v := nI 0) hx hb dX1_sample_9 (by decide) ?_
    refine lv_aload_n hx hb dX1_sample_10 rfl (lv_at hl 0 rfl) ?_
    refine mm_get S G 39 (by decide) q1306 rfl (v := .ref (ad 40)) rfl dX1_sample_11 ?_
    refine lv_iload_n hx hb dX1_sample_14 rfl (lv_at hl 1 rfl) ?_
    refine mm_iald S G 39 0 (by decide) (n := 6) rfl rfl (by omega) (by decide) (v := nI (cntN d j)) (hSm.eq j) dX1_sample_15 ?_
    refine lv_iconst (v := nI 1) hx hb dX1_sample_16 (by decide) ?_
    refine lv_isub hx hb dX1_sample_17 ?_
    refine sC_call (As := [.int i, .int (nI 0), .int ((nI (cntN d j)) - (nI 1))]) (rest := []) S (st_X1_in l i (nI 0) ((nI (cntN d j)) - (nI 1))) q1455 q1456 q53 q1457 hd_X1_in ⟨Nat.le_of_ble_eq_true rfl, Nat.le_of_ble_eq_true rfl⟩ rfl hl.1 rfl (Nat.le_of_ble_eq_true rfl) dX1_sample_18 ⟨Nat.zero_le _, Nat.zero_le _⟩ ?_
    refine W.eq (g2 := F0 mid 21 ls [.int (bI (inB i (nI 0) ((nI (cntN d j)) - (nI 1))))]) rfl ?_
    refine bb_eq (tgt := 41) hx hb dX1_sample_21 (by decide) (fun c_21 => ?_) (fun c_21 => ?_)
    · refine lv_lconst (v := 0) hx hb dX1_sample_41 (by decide) ?_
      exact mm_lret S hr hlk G (by simp [isB, smpL, c_5, ij_j, c_21] <;> rfl) rfl rfl dX1_sample_42
    · obtain ⟨i1, hi1, rfl⟩ := ib_nat c_21 (by omega)
      have ij_i1 : ixN (nI i1) = i1 := ixN_nI (by omega)
      refine lv_aload_n hx hb dX1_sample_24 rfl (lv_at hl 0 rfl) ?_
      refine mm_get S G 40 (by decide) q1307 rfl (v := .ref (ad 41)) rfl dX1_sample_25 ?_
      refine lv_bipush (v := nI 120) hx hb dX1_sample_28 (by decide) ?_
      refine lv_iload_n hx hb dX1_sample_30 rfl (lv_at hl 1 rfl) ?_
      refine nn_mul hx hb dX1_sample_31 ?_
      refine lv_iload_n hx hb dX1_sample_32 rfl (lv_at hl 2 rfl) ?_
      refine nn_add hx hb dX1_sample_33 ?_
      refine mm_dald S G 40 2 (by decide) (n := 720) rfl rfl (by omega) (by decide) (v := dAD d 40 (120 * j + i1)) rfl dX1_sample_34 ?_
      refine sC_call (As := [.double (dAD d 40 (120 * j + i1))]) (rest := []) S (st_J0_doubleToLongBits l (dAD d 40 (120 * j + i1)) (bD_n (hq _))) q1569 q1156 q55 q1157 hd_J0_doubleToLongBits ⟨Nat.le_of_ble_eq_true rfl, Nat.le_of_ble_eq_true rfl⟩ rfl hl.1 rfl (Nat.le_of_ble_eq_true rfl) dX1_sample_35 ⟨Nat.zero_le _, Nat.zero_le _⟩ ?_
      refine W.eq (g2 := F0 mid 38 ls [.long (((dAD d 40 (120 * j + i1))).toInt64)]) rfl ?_
      refine lv_goto (tgt := 42) hx hb dX1_sample_38 (by decide) ?_
      exact mm_lret S hr hlk G (by simp [isB, smpL, c_5, ij_j, c_21, ij_i1] <;> rfl) rfl rfl dX1_sample_42
theorem mt_X1_now (l : Launch) (D : va_G) (dA : Nat → ClassId) (ad : Nat → Nat) (C : tp_C) (d : md_T) : mC l D dA ad yX1_now cX1_now 1 (some .int) 0 [] C d (some (.int (nI (cM C)))) C d := by
  refine mm_start (by decide) rfl (Nat.le_of_ble_eq_true rfl) ?_
  intro p0 e0 s0 mid bl0 me0 co0 ls S hr hlk G hl
  have hx := S.1; have hb := S.2.1; have hml := S.2.2.1; have hown := S.2.2.2.1; have hts := S.2.2.2.2
  have hl : lv_has ls 1 [(0, .ref (ad 0))] := hl
  refine lv_aload_n hx hb dX1_now_0 rfl (lv_at hl 0 rfl) ?_
  refine mm_get S G 11 (by decide) q1278 rfl (v := .int (nI (cM C))) rfl dX1_now_1 ?_
  exact mm_iret S hr hlk G rfl rfl rfl dX1_now_4
theorem mt_X1_time (l : Launch) (D : va_G) (dA : Nat → ClassId) (ad : Nat → Nat) (C : tp_C) (d : md_T) : mC l D dA ad yX1_time cX1_time 1 (some .int) 0 [] C d (some (.int (dI d 12))) C d := by
  refine mm_start (by decide) rfl (Nat.le_of_ble_eq_true rfl) ?_
  intro p0 e0 s0 mid bl0 me0 co0 ls S hr hlk G hl
  have hx := S.1; have hb := S.2.1; have hml := S.2.2.1; have hown := S.2.2.2.1; have hts := S.2.2.2.2
  have hl : lv_has ls 1 [(0, .ref (ad 0))] := hl
  refine lv_aload_n hx hb dX1_time_0 rfl (lv_at hl 0 rfl) ?_
  refine mm_get S G 12 (by decide) q1279 rfl (v := .int (dI d 12)) rfl dX1_time_1 ?_
  exact mm_iret S hr hlk G rfl rfl rfl dX1_time_4
theorem mt_X1_reading (l : Launch) (D : va_G) (dA : Nat → ClassId) (ad : Nat → Nat) (C : tp_C) (d : md_T) (m : Int32) (hC : mOK C) (hR : rOK d) : mC l D dA ad yX1_reading cX1_reading 2 (some .long) 2 [.int m] C d (some (.long (rdL C d 19 m))) C d := by
  refine mm_start (by decide) rfl (Nat.le_of_ble_eq_true rfl) ?_
  intro p0 e0 s0 mid bl0 me0 co0 ls S hr hlk G hl
  have hx := S.1; have hb := S.2.1; have hml := S.2.2.1; have hown := S.2.2.2.1; have hts := S.2.2.2.2
  have hl : lv_has ls 2 [(0, .ref (ad 0)), (1, .int m)] := hl
  have hN := hC.n
  have hMo := hC.mo
  have hZ := hC.z
  refine lv_aload_n hx hb dX1_reading_0 rfl (lv_at hl 0 rfl) ?_
  refine lv_iload_n hx hb dX1_reading_1 rfl (lv_at hl 1 rfl) ?_
  refine mm_call (As := [.int m]) (rest := []) S G (mt_X1_isModule l D dA ad C d m) q1478 q1480 qs19 q1481 hd_X1_isModule ⟨Nat.le_of_ble_eq_true rfl, Nat.le_of_ble_eq_true rfl⟩ rfl hl.1 rfl (Nat.le_of_ble_eq_true rfl) dX1_reading_2 ⟨Nat.zero_le _, Nat.zero_le _⟩ (fun H locs G => ?_)
  refine W.eq (g2 := F0 mid 5 ls [.int (bI (inB m (nI 0) (nI (cN C) - nI 1)))]) rfl ?_
  refine bb_eq (tgt := 27) hx hb dX1_reading_5 (by decide) (fun c_5 => ?_) (fun c_5 => ?_)
  · refine lv_lconst (v := 0) hx hb dX1_reading_27 (by decide) ?_
    exact mm_lret S hr hlk G (by simp [rdL, imB, c_5] <;> rfl) rfl rfl dX1_reading_28
  · obtain ⟨j, hj, rfl⟩ := im_nat c_5 hN
    have ij_j : ixN (nI j) = j := ixN_nI (by omega)
    refine lv_aload_n hx hb dX1_reading_8 rfl (lv_at hl 0 rfl) ?_
    refine mm_get S G 11 (by decide) q1278 rfl (v := .int (nI (cM C))) rfl dX1_reading_9 ?_
    refine nz_eq (tgt := 27) hx hb (by omega) dX1_reading_12 (by decide) (fun c_12 => ?_) (fun c_12 => ?_)
    · refine lv_lconst (v := 0) hx hb dX1_reading_27 (by decide) ?_
      exact mm_lret S hr hlk G (by simp [rdL, imB, c_5, ij_j, c_12] <;> rfl) rfl rfl dX1_reading_28
    · refine lv_aload_n hx hb dX1_reading_15 rfl (lv_at hl 0 rfl) ?_
      refine mm_get S G 19 (by decide) q1286 rfl (v := .ref (ad 20)) rfl dX1_reading_16 ?_
      refine lv_iload_n hx hb dX1_reading_19 rfl (lv_at hl 1 rfl) ?_
      refine mm_dald S G 19 2 (by decide) (n := 20) rfl rfl (by omega) (by decide) (v := dAD d 19 j) rfl dX1_reading_20 ?_
      refine sC_call (As := [.double (dAD d 19 j)]) (rest := []) S (st_J0_doubleToLongBits l (dAD d 19 j) (bD_n (hR.rd _))) q1569 q1156 q55 q1157 hd_J0_doubleToLongBits ⟨Nat.le_of_ble_eq_true rfl, Nat.le_of_ble_eq_true rfl⟩ rfl hl.1 rfl (Nat.le_of_ble_eq_true rfl) dX1_reading_21 ⟨Nat.zero_le _, Nat.zero_le _⟩ ?_
      refine W.eq (g2 := F0 mid 24 ls [.long (((dAD d 19 j)).toInt64)]) rfl ?_
      refine lv_goto (tgt := 28) hx hb dX1_reading_24 (by decide) ?_
      exact mm_lret S hr hlk G (by simp [rdL, imB, c_5, ij_j, c_12] <;> rfl) rfl rfl dX1_reading_28
theorem mt_X1_single (l : Launch) (D : va_G) (dA : Nat → ClassId) (ad : Nat → Nat) (C : tp_C) (d : md_T) (m : Int32) (hC : mOK C) (hR : rOK d) : mC l D dA ad yX1_single cX1_single 2 (some .int) 2 [.int m] C d (some (.int (siI C d m))) C d := by
  refine mm_start (by decide) rfl (Nat.le_of_ble_eq_true rfl) ?_
  intro p0 e0 s0 mid bl0 me0 co0 ls S hr hlk G hl
  have hx := S.1; have hb := S.2.1; have hml := S.2.2.1; have hown := S.2.2.2.1; have hts := S.2.2.2.2
  have hl : lv_has ls 2 [(0, .ref (ad 0)), (1, .int m)] := hl
  have hN := hC.n
  have hMo := hC.mo
  have hZ := hC.z
  refine lv_aload_n hx hb dX1_single_0 rfl (lv_at hl 0 rfl) ?_
  refine lv_iload_n hx hb dX1_single_1 rfl (lv_at hl 1 rfl) ?_
  refine mm_call (As := [.int m]) (rest := []) S G (mt_X1_isModule l D dA ad C d m) q1478 q1480 qs19 q1481 hd_X1_isModule ⟨Nat.le_of_ble_eq_true rfl, Nat.le_of_ble_eq_true rfl⟩ rfl hl.1 rfl (Nat.le_of_ble_eq_true rfl) dX1_single_2 ⟨Nat.zero_le _, Nat.zero_le _⟩ (fun H locs G => ?_)
  refine W.eq (g2 := F0 mid 5 ls [.int (bI (inB m (nI 0) (nI (cN C) - nI 1)))]) rfl ?_
  refine bb_eq (tgt := 27) hx hb dX1_single_5 (by decide) (fun c_5 => ?_) (fun c_5 => ?_)
  · refine lv_iconst (v := nI 0) hx hb dX1_single_27 (by decide) ?_
    exact mm_iret S hr hlk G (by simp [siI, imB, c_5] <;> rfl) rfl rfl dX1_single_28
  · obtain ⟨j, hj, rfl⟩ := im_nat c_5 hN
    have ij_j : ixN (nI j) = j := ixN_nI (by omega)
    refine lv_aload_n hx hb dX1_single_8 rfl (lv_at hl 0 rfl) ?_
    refine mm_get S G 11 (by decide) q1278 rfl (v := .int (nI (cM C))) rfl dX1_single_9 ?_
    refine nz_eq (tgt := 27) hx hb (by omega) dX1_single_12 (by decide) (fun c_12 => ?_) (fun c_12 => ?_)
    · refine lv_iconst (v := nI 0) hx hb dX1_single_27 (by decide) ?_
      exact mm_iret S hr hlk G (by simp [siI, imB, c_5, ij_j, c_12] <;> rfl) rfl rfl dX1_single_28
    · refine lv_aload_n hx hb dX1_single_15 rfl (lv_at hl 0 rfl) ?_
      refine mm_get S G 20 (by decide) q1287 rfl (v := .ref (ad 21)) rfl dX1_single_16 ?_
      refine lv_iload_n hx hb dX1_single_19 rfl (lv_at hl 1 rfl) ?_
      refine mm_fald S G 20 3 (by decide) (n := 20) rfl rfl (by omega) (by decide) (v := dAF d 20 j) rfl dX1_single_20 ?_
      refine sC_call (As := [.float (dAF d 20 j)]) (rest := []) S (st_J6_floatToIntBits l (dAF d 20 j) (bF_n (hR.rf _))) q1669 q1168 q78 q1169 hd_J6_floatToIntBits ⟨Nat.le_of_ble_eq_true rfl, Nat.le_of_ble_eq_true rfl⟩ rfl hl.1 rfl (Nat.le_of_ble_eq_true rfl) dX1_single_21 ⟨Nat.zero_le _, Nat.zero_le _⟩ ?_
      refine W.eq (g2 := F0 mid 24 ls [.int (((dAF d 20 j)).toInt32)]) rfl ?_
      refine lv_goto (tgt := 28) hx hb dX1_single_24 (by decide) ?_
      exact mm_iret S hr hlk G (by simp [siI, imB, c_5, ij_j, c_12] <;> rfl) rfl rfl dX1_single_28
theorem mt_X1_lamp (l : Launch) (D : va_G) (dA : Nat → ClassId) (ad : Nat → Nat) (C : tp_C) (d : md_T) (m : Int32) (hC : mOK C) : mC l D dA ad yX1_lamp cX1_lamp 2 (some .int) 2 [.int m] C d (some (.int (if imB C m then dAI d 24 (ixN m) else (-101)))) C d := by
  refine mm_start (by decide) rfl (Nat.le_of_ble_eq_true rfl) ?_
  intro p0 e0 s0 mid bl0 me0 co0 ls S hr hlk G hl
  have hx := S.1; have hb := S.2.1; have hml := S.2.2.1; have hown := S.2.2.2.1; have hts := S.2.2.2.2
  have hl : lv_has ls 2 [(0, .ref (ad 0)), (1, .int m)] := hl
  have hN := hC.n
  have hMo := hC.mo
  have hZ := hC.z
  refine lv_aload_n hx hb dX1_lamp_0 rfl (lv_at hl 0 rfl) ?_
  refine lv_iload_n hx hb dX1_lamp_1 rfl (lv_at hl 1 rfl) ?_
  refine mm_call (As := [.int m]) (rest := []) S G (mt_X1_isModule l D dA ad C d m) q1478 q1480 qs19 q1481 hd_X1_isModule ⟨Nat.le_of_ble_eq_true rfl, Nat.le_of_ble_eq_true rfl⟩ rfl hl.1 rfl (Nat.le_of_ble_eq_true rfl) dX1_lamp_2 ⟨Nat.zero_le _, Nat.zero_le _⟩ (fun H locs G => ?_)
  refine W.eq (g2 := F0 mid 5 ls [.int (bI (inB m (nI 0) (nI (cN C) - nI 1)))]) rfl ?_
  refine bb_eq (tgt := 17) hx hb dX1_lamp_5 (by decide) (fun c_5 => ?_) (fun c_5 => ?_)
  · refine lv_bipush (v := (-101)) hx hb dX1_lamp_17 (by decide) ?_
    exact mm_iret S hr hlk G (by simp [imB, c_5] <;> rfl) rfl rfl dX1_lamp_19
  · obtain ⟨j, hj, rfl⟩ := im_nat c_5 hN
    have ij_j : ixN (nI j) = j := ixN_nI (by omega)
    refine lv_aload_n hx hb dX1_lamp_8 rfl (lv_at hl 0 rfl) ?_
    refine mm_get S G 24 (by decide) q1291 rfl (v := .ref (ad 25)) rfl dX1_lamp_9 ?_
    refine lv_iload_n hx hb dX1_lamp_12 rfl (lv_at hl 1 rfl) ?_
    refine mm_iald S G 24 0 (by decide) (n := 20) rfl rfl (by omega) (by decide) (v := dAI d 24 j) rfl dX1_lamp_13 ?_
    refine lv_goto (tgt := 19) hx hb dX1_lamp_14 (by decide) ?_
    exact mm_iret S hr hlk G (by simp [imB, c_5, ij_j] <;> rfl) rfl rfl dX1_lamp_19
theorem mt_X1_apart (l : Launch) (D : va_G) (dA : Nat → ClassId) (ad : Nat → Nat) (C : tp_C) (d : md_T) (m : Int32) (hC : mOK C) (hA : ∀ k, vf_n64 (dAD d 25 k)) : mC l D dA ad yX1_apart cX1_apart 2 (some .long) 2 [.int m] C d (some (.long (rdL C d 25 m))) C d := by
  refine mm_start (by decide) rfl (Nat.le_of_ble_eq_true rfl) ?_
  intro p0 e0 s0 mid bl0 me0 co0 ls S hr hlk G hl
  have hx := S.1; have hb := S.2.1; have hml := S.2.2.1; have hown := S.2.2.2.1; have hts := S.2.2.2.2
  have hl : lv_has ls 2 [(0, .ref (ad 0)), (1, .int m)] := hl
  have hN := hC.n
  have hMo := hC.mo
  have hZ := hC.z
  refine lv_aload_n hx hb dX1_apart_0 rfl (lv_at hl 0 rfl) ?_
  refine lv_iload_n hx hb dX1_apart_1 rfl (lv_at hl 1 rfl) ?_
  refine mm_call (As := [.int m]) (rest := []) S G (mt_X1_isModule l D dA ad C d m) q1478 q1480 qs19 q1481 hd_X1_isModule ⟨Nat.le_of_ble_eq_true rfl, Nat.le_of_ble_eq_true rfl⟩ rfl hl.1 rfl (Nat.le_of_ble_eq_true rfl) dX1_apart_2 ⟨Nat.zero_le _, Nat.zero_le _⟩ (fun H locs G => ?_)
  refine W.eq (g2 := F0 mid 5 ls [.int (bI (inB m (nI 0) (nI (cN C) - nI 1)))]) rfl ?_
  refine bb_eq (tgt := 27) hx hb dX1_apart_5 (by decide) (fun c_5 => ?_) (fun c_5 => ?_)
  · refine lv_lconst (v := 0) hx hb dX1_apart_27 (by decide) ?_
    exact mm_lret S hr hlk G (by simp [rdL, imB, c_5] <;> rfl) rfl rfl dX1_apart_28
  · obtain ⟨j, hj, rfl⟩ := im_nat c_5 hN
    have ij_j : ixN (nI j) = j := ixN_nI (by omega)
    refine lv_aload_n hx hb dX1_apart_8 rfl (lv_at hl 0 rfl) ?_
    refine mm_get S G 11 (by decide) q1278 rfl (v := .int (nI (cM C))) rfl dX1_apart_9 ?_
    refine nz_eq (tgt := 27) hx hb (by omega) dX1_apart_12 (by decide) (fun c_12 => ?_) (fun c_12 => ?_)
    · refine lv_lconst (v := 0) hx hb dX1_apart_27 (by decide) ?_
      exact mm_lret S hr hlk G (by simp [rdL, imB, c_5, ij_j, c_12] <;> rfl) rfl rfl dX1_apart_28
    · refine lv_aload_n hx hb dX1_apart_15 rfl (lv_at hl 0 rfl) ?_
      refine mm_get S G 25 (by decide) q1292 rfl (v := .ref (ad 26)) rfl dX1_apart_16 ?_
      refine lv_iload_n hx hb dX1_apart_19 rfl (lv_at hl 1 rfl) ?_
      refine mm_dald S G 25 2 (by decide) (n := 20) rfl rfl (by omega) (by decide) (v := dAD d 25 j) rfl dX1_apart_20 ?_
      refine sC_call (As := [.double (dAD d 25 j)]) (rest := []) S (st_J0_doubleToLongBits l (dAD d 25 j) (hA _)) q1569 q1156 q55 q1157 hd_J0_doubleToLongBits ⟨Nat.le_of_ble_eq_true rfl, Nat.le_of_ble_eq_true rfl⟩ rfl hl.1 rfl (Nat.le_of_ble_eq_true rfl) dX1_apart_21 ⟨Nat.zero_le _, Nat.zero_le _⟩ ?_
      refine W.eq (g2 := F0 mid 24 ls [.long (((dAD d 25 j)).toInt64)]) rfl ?_
      refine lv_goto (tgt := 28) hx hb dX1_apart_24 (by decide) ?_
      exact mm_lret S hr hlk G (by simp [rdL, imB, c_5, ij_j, c_12] <;> rfl) rfl rfl dX1_apart_28
theorem mt_X1_rate (l : Launch) (D : va_G) (dA : Nat → ClassId) (ad : Nat → Nat) (C : tp_C) (d : md_T) (m : Int32) (hC : mOK C) (hA : ∀ k, vf_n64 (dAD d 26 k)) : mC l D dA ad yX1_rate cX1_rate 2 (some .long) 2 [.int m] C d (some (.long (raL C d m))) C d := by
  refine mm_start (by decide) rfl (Nat.le_of_ble_eq_true rfl) ?_
  intro p0 e0 s0 mid bl0 me0 co0 ls S hr hlk G hl
  have hx := S.1; have hb := S.2.1; have hml := S.2.2.1; have hown := S.2.2.2.1; have hts := S.2.2.2.2
  have hl : lv_has ls 2 [(0, .ref (ad 0)), (1, .int m)] := hl
  have hN := hC.n
  have hMo := hC.mo
  have hZ := hC.z
  refine lv_aload_n hx hb dX1_rate_0 rfl (lv_at hl 0 rfl) ?_
  refine lv_iload_n hx hb dX1_rate_1 rfl (lv_at hl 1 rfl) ?_
  refine mm_call (As := [.int m]) (rest := []) S G (mt_X1_isModule l D dA ad C d m) q1478 q1480 qs19 q1481 hd_X1_isModule ⟨Nat.le_of_ble_eq_true rfl, Nat.le_of_ble_eq_true rfl⟩ rfl hl.1 rfl (Nat.le_of_ble_eq_true rfl) dX1_rate_2 ⟨Nat.zero_le _, Nat.zero_le _⟩ (fun H locs G => ?_)
  refine W.eq (g2 := F0 mid 5 ls [.int (bI (inB m (nI 0) (nI (cN C) - nI 1)))]) rfl ?_
  refine bb_eq (tgt := 37) hx hb dX1_rate_5 (by decide) (fun c_5 => ?_) (fun c_5 => ?_)
  · refine lv_lconst (v := 0) hx hb dX1_rate_37 (by decide) ?_
    exact mm_lret S hr hlk G (by simp [raL, imB, c_5] <;> rfl) rfl rfl dX1_rate_38
  · obtain ⟨j, hj, rfl⟩ := im_nat c_5 hN
    have ij_j : ixN (nI j) = j := ixN_nI (by omega)
    have hk14 := hC.k j
    refine lv_aload_n hx hb dX1_rate_8 rfl (lv_at hl 0 rfl) ?_
    refine mm_get S G 11 (by decide) q1278 rfl (v := .int (nI (cM C))) rfl dX1_rate_9 ?_
    refine nz_eq (tgt := 37) hx hb (by omega) dX1_rate_12 (by decide) (fun c_12 => ?_) (fun c_12 => ?_)
    · refine lv_lconst (v := 0) hx hb dX1_rate_37 (by decide) ?_
      exact mm_lret S hr hlk G (by simp [raL, imB, c_5, ij_j, c_12] <;> rfl) rfl rfl dX1_rate_38
    · refine lv_aload_n hx hb dX1_rate_15 rfl (lv_at hl 0 rfl) ?_
      refine mm_get S G 1 (by decide) q1268 rfl (v := .ref (ad 2)) rfl dX1_rate_16 ?_
      refine lv_iload_n hx hb dX1_rate_19 rfl (lv_at hl 1 rfl) ?_
      refine mm_iald S G 1 0 (by decide) (n := 20) rfl rfl (by omega) (by decide) (v := nI (cK C j)) rfl dX1_rate_20 ?_
      refine lv_iconst (v := nI 2) hx hb dX1_rate_21 (by decide) ?_
      refine nn_cne (tgt := 37) hx hb (by omega) (by omega) dX1_rate_22 (by decide) (fun c_22 => ?_) (fun c_22 => ?_)
      · refine lv_lconst (v := 0) hx hb dX1_rate_37 (by decide) ?_
        exact mm_lret S hr hlk G (by simp [raL, imB, c_5, ij_j, c_12, c_22] <;> rfl) rfl rfl dX1_rate_38
      · refine lv_aload_n hx hb dX1_rate_25 rfl (lv_at hl 0 rfl) ?_
        refine mm_get S G 26 (by decide) q1293 rfl (v := .ref (ad 27)) rfl dX1_rate_26 ?_
        refine lv_iload_n hx hb dX1_rate_29 rfl (lv_at hl 1 rfl) ?_
        refine mm_dald S G 26 2 (by decide) (n := 20) rfl rfl (by omega) (by decide) (v := dAD d 26 j) rfl dX1_rate_30 ?_
        refine sC_call (As := [.double (dAD d 26 j)]) (rest := []) S (st_J0_doubleToLongBits l (dAD d 26 j) (hA _)) q1569 q1156 q55 q1157 hd_J0_doubleToLongBits ⟨Nat.le_of_ble_eq_true rfl, Nat.le_of_ble_eq_true rfl⟩ rfl hl.1 rfl (Nat.le_of_ble_eq_true rfl) dX1_rate_31 ⟨Nat.zero_le _, Nat.zero_le _⟩ ?_
        refine W.eq (g2 := F0 mid 34 ls [.long (((dAD d 26 j)).toInt64)]) rfl ?_
        refine lv_goto (tgt := 38) hx hb dX1_rate_34 (by decide) ?_
        exact mm_lret S hr hlk G (by simp [raL, imB, c_5, ij_j, c_12, c_22] <;> rfl) rfl rfl dX1_rate_38
theorem mt_X1_swept (l : Launch) (D : va_G) (dA : Nat → ClassId) (ad : Nat → Nat) (C : tp_C) (d : md_T) (j : Int32) (hC : mOK C) (hA : ∀ k, vf_n64 (dAD d 42 k)) : mC l D dA ad yX1_swept cX1_swept 2 (some .long) 2 [.int j] C d (some (.long (swL C d j))) C d := by
  refine mm_start (by decide) rfl (Nat.le_of_ble_eq_true rfl) ?_
  intro p0 e0 s0 mid bl0 me0 co0 ls S hr hlk G hl
  have hx := S.1; have hb := S.2.1; have hml := S.2.2.1; have hown := S.2.2.2.1; have hts := S.2.2.2.2
  have hl : lv_has ls 2 [(0, .ref (ad 0)), (1, .int j)] := hl
  have hN := hC.n
  have hMo := hC.mo
  have hZ := hC.z
  have hW := hC.w
  refine lv_iload_n hx hb dX1_swept_0 rfl (lv_at hl 1 rfl) ?_
  refine lv_iconst (v := nI 0) hx hb dX1_swept_1 (by decide) ?_
  refine lv_aload_n hx hb dX1_swept_2 rfl (lv_at hl 0 rfl) ?_
  refine mm_get S G 41 (by decide) q1308 rfl (v := .int (nI (cW C))) rfl dX1_swept_3 ?_
  refine lv_iconst (v := nI 1) hx hb dX1_swept_6 (by decide) ?_
  refine lv_isub hx hb dX1_swept_7 ?_
  refine sC_call (As := [.int j, .int (nI 0), .int ((nI (cW C)) - (nI 1))]) (rest := []) S (st_X1_in l j (nI 0) ((nI (cW C)) - (nI 1))) q1455 q1456 q53 q1457 hd_X1_in ⟨Nat.le_of_ble_eq_true rfl, Nat.le_of_ble_eq_true rfl⟩ rfl hl.1 rfl (Nat.le_of_ble_eq_true rfl) dX1_swept_8 ⟨Nat.zero_le _, Nat.zero_le _⟩ ?_
  refine W.eq (g2 := F0 mid 11 ls [.int (bI (inB j (nI 0) ((nI (cW C)) - (nI 1))))]) rfl ?_
  refine bb_eq (tgt := 26) hx hb dX1_swept_11 (by decide) (fun c_11 => ?_) (fun c_11 => ?_)
  · refine lv_lconst (v := 0) hx hb dX1_swept_26 (by decide) ?_
    exact mm_lret S hr hlk G (by simp [swL, c_11] <;> rfl) rfl rfl dX1_swept_27
  · obtain ⟨i, hi, rfl⟩ := ib_nat c_11 (by omega)
    have ij_i : ixN (nI i) = i := ixN_nI (by omega)
    refine lv_aload_n hx hb dX1_swept_14 rfl (lv_at hl 0 rfl) ?_
    refine mm_get S G 42 (by decide) q1309 rfl (v := .ref (ad 43)) rfl dX1_swept_15 ?_
    refine lv_iload_n hx hb dX1_swept_18 rfl (lv_at hl 1 rfl) ?_
    refine mm_dald S G 42 2 (by decide) (n := 6) rfl rfl (by omega) (by decide) (v := dAD d 42 i) rfl dX1_swept_19 ?_
    refine sC_call (As := [.double (dAD d 42 i)]) (rest := []) S (st_J0_doubleToLongBits l (dAD d 42 i) (hA _)) q1569 q1156 q55 q1157 hd_J0_doubleToLongBits ⟨Nat.le_of_ble_eq_true rfl, Nat.le_of_ble_eq_true rfl⟩ rfl hl.1 rfl (Nat.le_of_ble_eq_true rfl) dX1_swept_20 ⟨Nat.zero_le _, Nat.zero_le _⟩ ?_
    refine W.eq (g2 := F0 mid 23 ls [.long (((dAD d 42 i)).toInt64)]) rfl ?_
    refine lv_goto (tgt := 27) hx hb dX1_swept_23 (by decide) ?_
    exact mm_lret S hr hlk G (by simp [swL, c_11, ij_i] <;> rfl) rfl rfl dX1_swept_27
theorem mt_X1_about (l : Launch) (D : va_G) (dA : Nat → ClassId) (ad : Nat → Nat) (C : tp_C) (d : md_T) (m : Int32) (a : Int32) (hC : mOK C) : mC l D dA ad yX1_about cX1_about 3 (some .int) 2 [.int m, .int a] C d (some (.int (abI C m a))) C d := by
  refine mm_start (by decide) rfl (Nat.le_of_ble_eq_true rfl) ?_
  intro p0 e0 s0 mid bl0 me0 co0 ls S hr hlk G hl
  have hx := S.1; have hb := S.2.1; have hml := S.2.2.1; have hown := S.2.2.2.1; have hts := S.2.2.2.2
  have hl : lv_has ls 3 [(0, .ref (ad 0)), (1, .int m), (2, .int a)] := hl
  have hN := hC.n
  have hMo := hC.mo
  have hZ := hC.z
  refine lv_aload_n hx hb dX1_about_0 rfl (lv_at hl 0 rfl) ?_
  refine lv_iload_n hx hb dX1_about_1 rfl (lv_at hl 1 rfl) ?_
  refine mm_call (As := [.int m]) (rest := []) S G (mt_X1_isModule l D dA ad C d m) q1478 q1480 qs19 q1481 hd_X1_isModule ⟨Nat.le_of_ble_eq_true rfl, Nat.le_of_ble_eq_true rfl⟩ rfl hl.1 rfl (Nat.le_of_ble_eq_true rfl) dX1_about_2 ⟨Nat.zero_le _, Nat.zero_le _⟩ (fun H locs G => ?_)
  refine W.eq (g2 := F0 mid 5 ls [.int (bI (inB m (nI 0) (nI (cN C) - nI 1)))]) rfl ?_
  refine bb_ne (tgt := 11) hx hb dX1_about_5 (by decide) (fun c_5 => ?_) (fun c_5 => ?_)
  · obtain ⟨j, hj, rfl⟩ := im_nat c_5 hN
    have ij_j : ixN (nI j) = j := ixN_nI (by omega)
    have hp8 := hC.p j
    have hk14 := hC.k j
    refine lv_iload_n hx hb dX1_about_11 rfl (lv_at hl 2 rfl) ?_
    refine lv_iconst (v := nI 0) hx hb dX1_about_12 (by decide) ?_
    refine lv_bipush (v := nI 14) hx hb dX1_about_13 (by decide) ?_
    refine sC_call (As := [.int a, .int (nI 0), .int (nI 14)]) (rest := []) S (st_X1_in l a (nI 0) (nI 14)) q1455 q1456 q53 q1457 hd_X1_in ⟨Nat.le_of_ble_eq_true rfl, Nat.le_of_ble_eq_true rfl⟩ rfl hl.1 rfl (Nat.le_of_ble_eq_true rfl) dX1_about_15 ⟨Nat.zero_le _, Nat.zero_le _⟩ ?_
    refine W.eq (g2 := F0 mid 18 ls [.int (bI (inB a (nI 0) (nI 14)))]) rfl ?_
    refine bb_ne (tgt := 24) hx hb dX1_about_18 (by decide) (fun c_18 => ?_) (fun c_18 => ?_)
    · obtain ⟨b, -, hb14, rfl⟩ := in_nat c_18 (by decide) (by decide)
      have ij_b : ixN (nI b) = b := ixN_nI (by omega)
      refine lv_iload_n hx hb dX1_about_24 rfl (lv_at hl 2 rfl) ?_
      refine nz_ne (tgt := 35) hx hb (by omega) dX1_about_25 (by decide) (fun c_25 => ?_) (fun c_25 => ?_)
      · refine lv_iload_n hx hb dX1_about_35 rfl (lv_at hl 2 rfl) ?_
        refine lv_bipush (v := nI 7) hx hb dX1_about_36 (by decide) ?_
        refine nn_cge (tgt := 55) hx hb (by omega) (by omega) dX1_about_38 (by decide) (fun c_38 => ?_) (fun c_38 => ?_)
        · refine lv_iload_n hx hb dX1_about_55 rfl (lv_at hl 2 rfl) ?_
          refine lv_bipush (v := nI 13) hx hb dX1_about_56 (by decide) ?_
          refine nn_cge (tgt := 86) hx hb (by omega) (by omega) dX1_about_58 (by decide) (fun c_58 => ?_) (fun c_58 => ?_)
          · refine lv_iload_n hx hb dX1_about_86 rfl (lv_at hl 2 rfl) ?_
            refine lv_bipush (v := nI 13) hx hb dX1_about_87 (by decide) ?_
            refine nn_cne (tgt := 101) hx hb (by omega) (by omega) dX1_about_89 (by decide) (fun c_89 => ?_) (fun c_89 => ?_)
            · refine lv_aload_n hx hb dX1_about_101 rfl (lv_at hl 0 rfl) ?_
              refine mm_get S G 9 (by decide) q1276 rfl (v := .ref (ad 10)) rfl dX1_about_102 ?_
              refine lv_iload_n hx hb dX1_about_105 rfl (lv_at hl 1 rfl) ?_
              refine mm_iald S G 9 0 (by decide) (n := 20) rfl rfl (by omega) (by decide) (v := nI (cA C j)) rfl dX1_about_106 ?_
              exact mm_iret S hr hlk G (by simp [abI, imB, c_5, ij_j, c_18, ij_b, c_25, c_38, Nat.not_lt.mpr c_38, c_58, Nat.not_lt.mpr c_58, c_89] <;> rfl) rfl rfl dX1_about_107
            · refine lv_aload_n hx hb dX1_about_92 rfl (lv_at hl 0 rfl) ?_
              refine mm_get S G 6 (by decide) q1273 rfl (v := .ref (ad 7)) rfl dX1_about_93 ?_
              refine lv_iload_n hx hb dX1_about_96 rfl (lv_at hl 1 rfl) ?_
              refine mm_iald S G 6 0 (by decide) (n := 20) rfl rfl (by omega) (by decide) (v := nI (cP C j)) rfl dX1_about_97 ?_
              refine lv_goto (tgt := 107) hx hb dX1_about_98 (by decide) ?_
              exact mm_iret S hr hlk G (by simp [abI, imB, c_5, ij_j, c_18, ij_b, c_25, c_38, Nat.not_lt.mpr c_38, c_58, Nat.not_lt.mpr c_58, c_89] <;> rfl) rfl rfl dX1_about_107
          · refine lv_aload_n hx hb dX1_about_61 rfl (lv_at hl 0 rfl) ?_
            refine mm_get S G 4 (by decide) q1271 rfl (v := .ref (ad 5)) rfl dX1_about_62 ?_
            refine lv_bipush (v := nI 6) hx hb dX1_about_65 (by decide) ?_
            refine lv_iload_n hx hb dX1_about_67 rfl (lv_at hl 1 rfl) ?_
            refine nn_mul hx hb dX1_about_68 ?_
            refine lv_iload_n hx hb dX1_about_69 rfl (lv_at hl 2 rfl) ?_
            refine nn_add hx hb dX1_about_70 ?_
            refine lv_bipush (v := nI 7) hx hb dX1_about_71 (by decide) ?_
            refine nn_sub hx hb (by omega) dX1_about_73 ?_
            refine w_st (st' := [.int (nI (6 * j + (b - 7))), .ref (ad 5)]) (by rw [show 6 * j + b - 7 = 6 * j + (b - 7) from by omega]) ?_
            refine mm_zald S G 4 1 (by decide) (n := 120) rfl rfl (by omega) (by decide) (v := bI (cT C j (b - 7))) (tp_tu (by omega)) dX1_about_74 ?_
            refine bb_eq (tgt := 82) hx hb dX1_about_75 (by decide) (fun c_75 => ?_) (fun c_75 => ?_)
            · refine lv_iconst (v := nI 0) hx hb dX1_about_82 (by decide) ?_
              refine lv_goto (tgt := 107) hx hb dX1_about_83 (by decide) ?_
              exact mm_iret S hr hlk G (by simp [abI, imB, c_5, ij_j, c_18, ij_b, c_25, c_38, Nat.not_lt.mpr c_38, c_58, Nat.not_le.mp c_58, c_75] <;> rfl) rfl rfl dX1_about_107
            · refine lv_iconst (v := nI 1) hx hb dX1_about_78 (by decide) ?_
              refine lv_goto (tgt := 107) hx hb dX1_about_79 (by decide) ?_
              exact mm_iret S hr hlk G (by simp [abI, imB, c_5, ij_j, c_18, ij_b, c_25, c_38, Nat.not_lt.mpr c_38, c_58, Nat.not_le.mp c_58, c_75] <;> rfl) rfl rfl dX1_about_107
        · refine lv_aload_n hx hb dX1_about_41 rfl (lv_at hl 0 rfl) ?_
          refine mm_get S G 3 (by decide) q1270 rfl (v := .ref (ad 4)) rfl dX1_about_42 ?_
          refine lv_bipush (v := nI 6) hx hb dX1_about_45 (by decide) ?_
          refine lv_iload_n hx hb dX1_about_47 rfl (lv_at hl 1 rfl) ?_
          refine nn_mul hx hb dX1_about_48 ?_
          refine lv_iload_n hx hb dX1_about_49 rfl (lv_at hl 2 rfl) ?_
          refine nn_add hx hb dX1_about_50 ?_
          refine lv_iconst (v := nI 1) hx hb dX1_about_51 (by decide) ?_
          refine nn_sub hx hb (by omega) dX1_about_52 ?_
          refine w_st (st' := [.int (nI (6 * j + (b - 1))), .ref (ad 4)]) (by rw [show 6 * j + b - 1 = 6 * j + (b - 1) from by omega]) ?_
          refine mm_iald S G 3 0 (by decide) (n := 120) rfl rfl (by omega) (by decide) (v := oI (cF C j (b - 1))) (tp_fr (by omega)) dX1_about_53 ?_
          exact mm_iret S hr hlk G (by simp [abI, imB, c_5, ij_j, c_18, ij_b, c_25, c_38] <;> rfl) rfl rfl dX1_about_54
      · refine lv_aload_n hx hb dX1_about_28 rfl (lv_at hl 0 rfl) ?_
        refine mm_get S G 1 (by decide) q1268 rfl (v := .ref (ad 2)) rfl dX1_about_29 ?_
        refine lv_iload_n hx hb dX1_about_32 rfl (lv_at hl 1 rfl) ?_
        refine mm_iald S G 1 0 (by decide) (n := 20) rfl rfl (by omega) (by decide) (v := nI (cK C j)) rfl dX1_about_33 ?_
        exact mm_iret S hr hlk G (by simp [abI, imB, c_5, ij_j, c_18, ij_b, c_25] <;> rfl) rfl rfl dX1_about_34
    · refine lv_bipush (v := (-102)) hx hb dX1_about_21 (by decide) ?_
      exact mm_iret S hr hlk G (by simp [abI, imB, c_5, ij_j, c_18] <;> rfl) rfl rfl dX1_about_23
  · refine lv_bipush (v := (-101)) hx hb dX1_about_8 (by decide) ?_
    exact mm_iret S hr hlk G (by simp [abI, imB, c_5] <;> rfl) rfl rfl dX1_about_10
