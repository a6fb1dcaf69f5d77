set_option maxRecDepth 100000
set_option maxHeartbeats 4000000
theorem dX0_hasInputs_0 : decode cX0_hasInputs 0 = .ok (.aload_n 1, 1) := by decide +kernel
theorem dX0_hasInputs_1 : decode cX0_hasInputs 1 = .ok (.getfield 151, 3) := by decide +kernel
theorem dX0_hasInputs_4 : decode cX0_hasInputs 4 = .ok (.ifCond .eq 11, 3) := by decide +kernel
theorem dX0_hasInputs_7 : decode cX0_hasInputs 7 = .ok (.aload_n 1, 1) := by decide +kernel
theorem dX0_hasInputs_8 : decode cX0_hasInputs 8 = .ok (.getfield 151, 3) := by decide +kernel
theorem dX0_hasInputs_11 : decode cX0_hasInputs 11 = .ok (.iconst 2, 1) := by decide +kernel
theorem dX0_hasInputs_12 : decode cX0_hasInputs 12 = .ok (.if_icmp .ne 51, 3) := by decide +kernel
theorem dX0_hasInputs_15 : decode cX0_hasInputs 15 = .ok (.iconst 0, 1) := by decide +kernel
theorem dX0_hasInputs_16 : decode cX0_hasInputs 16 = .ok (.istore_n 2, 1) := by decide +kernel
theorem dX0_hasInputs_17 : decode cX0_hasInputs 17 = .ok (.aload_n 1, 1) := by decide +kernel
theorem dX0_hasInputs_18 : decode cX0_hasInputs 18 = .ok (.getfield 142, 3) := by decide +kernel
theorem dX0_hasInputs_21 : decode cX0_hasInputs 21 = .ok (.astore_n 3, 1) := by decide +kernel
theorem dX0_hasInputs_22 : decode cX0_hasInputs 22 = .ok (.aload_n 3, 1) := by decide +kernel
theorem dX0_hasInputs_23 : decode cX0_hasInputs 23 = .ok (.arraylength, 1) := by decide +kernel
theorem dX0_hasInputs_24 : decode cX0_hasInputs 24 = .ok (.istore 4, 2) := by decide +kernel
theorem dX0_hasInputs_26 : decode cX0_hasInputs 26 = .ok (.iconst 0, 1) := by decide +kernel
theorem dX0_hasInputs_27 : decode cX0_hasInputs 27 = .ok (.istore 5, 2) := by decide +kernel
theorem dX0_hasInputs_29 : decode cX0_hasInputs 29 = .ok (.iload 5, 2) := by decide +kernel
theorem dX0_hasInputs_31 : decode cX0_hasInputs 31 = .ok (.iload 4, 2) := by decide +kernel
theorem dX0_hasInputs_33 : decode cX0_hasInputs 33 = .ok (.if_icmp .ge 28, 3) := by decide +kernel
theorem dX0_hasInputs_36 : decode cX0_hasInputs 36 = .ok (.aload_n 3, 1) := by decide +kernel
theorem dX0_hasInputs_37 : decode cX0_hasInputs 37 = .ok (.iload 5, 2) := by decide +kernel
theorem dX0_hasInputs_39 : decode cX0_hasInputs 39 = .ok (.aaload, 1) := by decide +kernel
theorem dX0_hasInputs_40 : decode cX0_hasInputs 40 = .ok (.astore 6, 2) := by decide +kernel
theorem dX0_hasInputs_42 : decode cX0_hasInputs 42 = .ok (.iload_n 2, 1) := by decide +kernel
theorem dX0_hasInputs_43 : decode cX0_hasInputs 43 = .ok (.aload 6, 2) := by decide +kernel
theorem dX0_hasInputs_45 : decode cX0_hasInputs 45 = .ok (.ifnull 7, 3) := by decide +kernel
theorem dX0_hasInputs_48 : decode cX0_hasInputs 48 = .ok (.iconst 1, 1) := by decide +kernel
theorem dX0_hasInputs_49 : decode cX0_hasInputs 49 = .ok (.goto 4, 3) := by decide +kernel
theorem dX0_hasInputs_52 : decode cX0_hasInputs 52 = .ok (.iconst 0, 1) := by decide +kernel
theorem dX0_hasInputs_53 : decode cX0_hasInputs 53 = .ok (.ior, 1) := by decide +kernel
theorem dX0_hasInputs_54 : decode cX0_hasInputs 54 = .ok (.istore_n 2, 1) := by decide +kernel
theorem dX0_hasInputs_55 : decode cX0_hasInputs 55 = .ok (.iinc 5 1, 3) := by decide +kernel
theorem dX0_hasInputs_58 : decode cX0_hasInputs 58 = .ok (.goto (-29), 3) := by decide +kernel
theorem dX0_hasInputs_61 : decode cX0_hasInputs 61 = .ok (.iload_n 2, 1) := by decide +kernel
theorem dX0_hasInputs_62 : decode cX0_hasInputs 62 = .ok (.ireturn, 1) := by decide +kernel
theorem dX0_hasInputs_63 : decode cX0_hasInputs 63 = .ok (.iconst 1, 1) := by decide +kernel
theorem dX0_hasInputs_64 : decode cX0_hasInputs 64 = .ok (.istore_n 2, 1) := by decide +kernel
theorem dX0_hasInputs_65 : decode cX0_hasInputs 65 = .ok (.iconst 0, 1) := by decide +kernel
theorem dX0_hasInputs_66 : decode cX0_hasInputs 66 = .ok (.istore_n 3, 1) := by decide +kernel
theorem dX0_hasInputs_67 : decode cX0_hasInputs 67 = .ok (.iload_n 3, 1) := by decide +kernel
theorem dX0_hasInputs_68 : decode cX0_hasInputs 68 = .ok (.aload_n 1, 1) := by decide +kernel
theorem dX0_hasInputs_69 : decode cX0_hasInputs 69 = .ok (.invokevirtual 177, 3) := by decide +kernel
theorem dX0_hasInputs_72 : decode cX0_hasInputs 72 = .ok (.if_icmp .ge 26, 3) := by decide +kernel
theorem dX0_hasInputs_75 : decode cX0_hasInputs 75 = .ok (.iload_n 2, 1) := by decide +kernel
theorem dX0_hasInputs_76 : decode cX0_hasInputs 76 = .ok (.aload_n 1, 1) := by decide +kernel
theorem dX0_hasInputs_77 : decode cX0_hasInputs 77 = .ok (.getfield 142, 3) := by decide +kernel
theorem dX0_hasInputs_80 : decode cX0_hasInputs 80 = .ok (.iload_n 3, 1) := by decide +kernel
theorem dX0_hasInputs_81 : decode cX0_hasInputs 81 = .ok (.aaload, 1) := by decide +kernel
theorem dX0_hasInputs_82 : decode cX0_hasInputs 82 = .ok (.ifnull 7, 3) := by decide +kernel
theorem dX0_hasInputs_85 : decode cX0_hasInputs 85 = .ok (.iconst 1, 1) := by decide +kernel
theorem dX0_hasInputs_86 : decode cX0_hasInputs 86 = .ok (.goto 4, 3) := by decide +kernel
theorem dX0_hasInputs_89 : decode cX0_hasInputs 89 = .ok (.iconst 0, 1) := by decide +kernel
theorem dX0_hasInputs_90 : decode cX0_hasInputs 90 = .ok (.iand, 1) := by decide +kernel
theorem dX0_hasInputs_91 : decode cX0_hasInputs 91 = .ok (.istore_n 2, 1) := by decide +kernel
theorem dX0_hasInputs_92 : decode cX0_hasInputs 92 = .ok (.iinc 3 1, 3) := by decide +kernel
theorem dX0_hasInputs_95 : decode cX0_hasInputs 95 = .ok (.goto (-28), 3) := by decide +kernel
theorem dX0_hasInputs_98 : decode cX0_hasInputs 98 = .ok (.iload_n 2, 1) := by decide +kernel
theorem dX0_hasInputs_99 : decode cX0_hasInputs 99 = .ok (.ireturn, 1) := by decide +kernel
theorem dX0_findLevels_0 : decode cX0_findLevels 0 = .ok (.iconst 0, 1) := by decide +kernel
theorem dX0_findLevels_1 : decode cX0_findLevels 1 = .ok (.istore_n 1, 1) := by decide +kernel
theorem dX0_findLevels_2 : decode cX0_findLevels 2 = .ok (.iload_n 1, 1) := by decide +kernel
theorem dX0_findLevels_3 : decode cX0_findLevels 3 = .ok (.aload_n 0, 1) := by decide +kernel
theorem dX0_findLevels_4 : decode cX0_findLevels 4 = .ok (.getfield 91, 3) := by decide +kernel
theorem dX0_findLevels_7 : decode cX0_findLevels 7 = .ok (.if_icmp .ge 32, 3) := by decide +kernel
theorem dX0_findLevels_10 : decode cX0_findLevels 10 = .ok (.aload_n 0, 1) := by decide +kernel
theorem dX0_findLevels_11 : decode cX0_findLevels 11 = .ok (.getfield 78, 3) := by decide +kernel
theorem dX0_findLevels_14 : decode cX0_findLevels 14 = .ok (.iload_n 1, 1) := by decide +kernel
theorem dX0_findLevels_15 : decode cX0_findLevels 15 = .ok (.aload_n 0, 1) := by decide +kernel
theorem dX0_findLevels_16 : decode cX0_findLevels 16 = .ok (.getfield 55, 3) := by decide +kernel
theorem dX0_findLevels_19 : decode cX0_findLevels 19 = .ok (.iload_n 1, 1) := by decide +kernel
theorem dX0_findLevels_20 : decode cX0_findLevels 20 = .ok (.aaload, 1) := by decide +kernel
theorem dX0_findLevels_21 : decode cX0_findLevels 21 = .ok (.invokevirtual 163, 3) := by decide +kernel
theorem dX0_findLevels_24 : decode cX0_findLevels 24 = .ok (.ifCond .eq 7, 3) := by decide +kernel
theorem dX0_findLevels_27 : decode cX0_findLevels 27 = .ok (.iconst 0, 1) := by decide +kernel
theorem dX0_findLevels_28 : decode cX0_findLevels 28 = .ok (.goto 4, 3) := by decide +kernel
theorem dX0_findLevels_31 : decode cX0_findLevels 31 = .ok (.iconst (-1), 1) := by decide +kernel
theorem dX0_findLevels_32 : decode cX0_findLevels 32 = .ok (.iastore, 1) := by decide +kernel
theorem dX0_findLevels_33 : decode cX0_findLevels 33 = .ok (.iinc 1 1, 3) := by decide +kernel
theorem dX0_findLevels_36 : decode cX0_findLevels 36 = .ok (.goto (-34), 3) := by decide +kernel
theorem dX0_findLevels_39 : decode cX0_findLevels 39 = .ok (.iconst 0, 1) := by decide +kernel
theorem dX0_findLevels_40 : decode cX0_findLevels 40 = .ok (.istore_n 1, 1) := by decide +kernel
theorem dX0_findLevels_41 : decode cX0_findLevels 41 = .ok (.iload_n 1, 1) := by decide +kernel
theorem dX0_findLevels_42 : decode cX0_findLevels 42 = .ok (.aload_n 0, 1) := by decide +kernel
theorem dX0_findLevels_43 : decode cX0_findLevels 43 = .ok (.getfield 91, 3) := by decide +kernel
theorem dX0_findLevels_46 : decode cX0_findLevels 46 = .ok (.if_icmp .ge 153, 3) := by decide +kernel
theorem dX0_findLevels_49 : decode cX0_findLevels 49 = .ok (.iconst 0, 1) := by decide +kernel
theorem dX0_findLevels_50 : decode cX0_findLevels 50 = .ok (.istore_n 2, 1) := by decide +kernel
theorem dX0_findLevels_51 : decode cX0_findLevels 51 = .ok (.iload_n 2, 1) := by decide +kernel
theorem dX0_findLevels_52 : decode cX0_findLevels 52 = .ok (.aload_n 0, 1) := by decide +kernel
theorem dX0_findLevels_53 : decode cX0_findLevels 53 = .ok (.getfield 91, 3) := by decide +kernel
theorem dX0_findLevels_56 : decode cX0_findLevels 56 = .ok (.if_icmp .ge 137, 3) := by decide +kernel
theorem dX0_findLevels_59 : decode cX0_findLevels 59 = .ok (.iconst 0, 1) := by decide +kernel
theorem dX0_findLevels_60 : decode cX0_findLevels 60 = .ok (.istore_n 3, 1) := by decide +kernel
theorem dX0_findLevels_61 : decode cX0_findLevels 61 = .ok (.aload_n 0, 1) := by decide +kernel
theorem dX0_findLevels_62 : decode cX0_findLevels 62 = .ok (.getfield 78, 3) := by decide +kernel
theorem dX0_findLevels_65 : decode cX0_findLevels 65 = .ok (.iload_n 2, 1) := by decide +kernel
theorem dX0_findLevels_66 : decode cX0_findLevels 66 = .ok (.iaload, 1) := by decide +kernel
theorem dX0_findLevels_67 : decode cX0_findLevels 67 = .ok (.iconst (-1), 1) := by decide +kernel
theorem dX0_findLevels_68 : decode cX0_findLevels 68 = .ok (.if_icmp .ne 7, 3) := by decide +kernel
theorem dX0_findLevels_71 : decode cX0_findLevels 71 = .ok (.iconst 1, 1) := by decide +kernel
theorem dX0_findLevels_72 : decode cX0_findLevels 72 = .ok (.goto 4, 3) := by decide +kernel
theorem dX0_findLevels_75 : decode cX0_findLevels 75 = .ok (.iconst 0, 1) := by decide +kernel
theorem dX0_findLevels_76 : decode cX0_findLevels 76 = .ok (.istore 4, 2) := by decide +kernel
theorem dX0_findLevels_78 : decode cX0_findLevels 78 = .ok (.iconst 0, 1) := by decide +kernel
theorem dX0_findLevels_79 : decode cX0_findLevels 79 = .ok (.istore 5, 2) := by decide +kernel
theorem dX0_findLevels_81 : decode cX0_findLevels 81 = .ok (.iload 5, 2) := by decide +kernel
theorem dX0_findLevels_83 : decode cX0_findLevels 83 = .ok (.bipush 6, 2) := by decide +kernel
theorem dX0_findLevels_85 : decode cX0_findLevels 85 = .ok (.if_icmp .ge 79, 3) := by decide +kernel
theorem dX0_findLevels_88 : decode cX0_findLevels 88 = .ok (.iload 4, 2) := by decide +kernel
theorem dX0_findLevels_90 : decode cX0_findLevels 90 = .ok (.ifCond .eq 74, 3) := by decide +kernel
theorem dX0_findLevels_93 : decode cX0_findLevels 93 = .ok (.aload_n 0, 1) := by decide +kernel
theorem dX0_findLevels_94 : decode cX0_findLevels 94 = .ok (.getfield 55, 3) := by decide +kernel
theorem dX0_findLevels_97 : decode cX0_findLevels 97 = .ok (.iload_n 2, 1) := by decide +kernel
theorem dX0_findLevels_98 : decode cX0_findLevels 98 = .ok (.aaload, 1) := by decide +kernel
theorem dX0_findLevels_99 : decode cX0_findLevels 99 = .ok (.getfield 145, 3) := by decide +kernel
theorem dX0_findLevels_102 : decode cX0_findLevels 102 = .ok (.iload 5, 2) := by decide +kernel
theorem dX0_findLevels_104 : decode cX0_findLevels 104 = .ok (.iaload, 1) := by decide +kernel
theorem dX0_findLevels_105 : decode cX0_findLevels 105 = .ok (.istore 6, 2) := by decide +kernel
theorem dX0_findLevels_107 : decode cX0_findLevels 107 = .ok (.iload 6, 2) := by decide +kernel
theorem dX0_findLevels_109 : decode cX0_findLevels 109 = .ok (.iconst (-1), 1) := by decide +kernel
theorem dX0_findLevels_110 : decode cX0_findLevels 110 = .ok (.if_icmp .eq 14, 3) := by decide +kernel
theorem dX0_findLevels_113 : decode cX0_findLevels 113 = .ok (.aload_n 0, 1) := by decide +kernel
theorem dX0_findLevels_114 : decode cX0_findLevels 114 = .ok (.getfield 78, 3) := by decide +kernel
theorem dX0_findLevels_117 : decode cX0_findLevels 117 = .ok (.iload 6, 2) := by decide +kernel
theorem dX0_findLevels_119 : decode cX0_findLevels 119 = .ok (.iaload, 1) := by decide +kernel
theorem dX0_findLevels_120 : decode cX0_findLevels 120 = .ok (.iconst (-1), 1) := by decide +kernel
theorem dX0_findLevels_121 : decode cX0_findLevels 121 = .ok (.if_icmp .eq 7, 3) := by decide +kernel
theorem dX0_findLevels_124 : decode cX0_findLevels 124 = .ok (.iconst 1, 1) := by decide +kernel
theorem dX0_findLevels_125 : decode cX0_findLevels 125 = .ok (.goto 4, 3) := by decide +kernel
theorem dX0_findLevels_128 : decode cX0_findLevels 128 = .ok (.iconst 0, 1) := by decide +kernel
theorem dX0_findLevels_129 : decode cX0_findLevels 129 = .ok (.istore 4, 2) := by decide +kernel
theorem dX0_findLevels_131 : decode cX0_findLevels 131 = .ok (.iload 4, 2) := by decide +kernel
theorem dX0_findLevels_133 : decode cX0_findLevels 133 = .ok (.ifCond .eq 23, 3) := by decide +kernel
theorem dX0_findLevels_136 : decode cX0_findLevels 136 = .ok (.iload 6, 2) := by decide +kernel
theorem dX0_findLevels_138 : decode cX0_findLevels 138 = .ok (.iconst (-1), 1) := by decide +kernel
theorem dX0_findLevels_139 : decode cX0_findLevels 139 = .ok (.if_icmp .eq 17, 3) := by decide +kernel
theorem dX0_findLevels_142 : decode cX0_findLevels 142 = .ok (.iload_n 3, 1) := by decide +kernel
theorem dX0_findLevels_143 : decode cX0_findLevels 143 = .ok (.aload_n 0, 1) := by decide +kernel
theorem dX0_findLevels_144 : decode cX0_findLevels 144 = .ok (.getfield 78, 3) := by decide +kernel
theorem dX0_findLevels_147 : decode cX0_findLevels 147 = .ok (.iload 6, 2) := by decide +kernel
theorem dX0_findLevels_149 : decode cX0_findLevels 149 = .ok (.iaload, 1) := by decide +kernel
theorem dX0_findLevels_150 : decode cX0_findLevels 150 = .ok (.invokestatic 181, 3) := by decide +kernel
theorem dX0_findLevels_153 : decode cX0_findLevels 153 = .ok (.goto 4, 3) := by decide +kernel
theorem dX0_findLevels_156 : decode cX0_findLevels 156 = .ok (.iload_n 3, 1) := by decide +kernel
theorem dX0_findLevels_157 : decode cX0_findLevels 157 = .ok (.istore_n 3, 1) := by decide +kernel
theorem dX0_findLevels_158 : decode cX0_findLevels 158 = .ok (.iinc 5 1, 3) := by decide +kernel
theorem dX0_findLevels_161 : decode cX0_findLevels 161 = .ok (.goto (-80), 3) := by decide +kernel
theorem dX0_findLevels_164 : decode cX0_findLevels 164 = .ok (.aload_n 0, 1) := by decide +kernel
theorem dX0_findLevels_165 : decode cX0_findLevels 165 = .ok (.getfield 78, 3) := by decide +kernel
theorem dX0_findLevels_168 : decode cX0_findLevels 168 = .ok (.iload_n 2, 1) := by decide +kernel
theorem dX0_findLevels_169 : decode cX0_findLevels 169 = .ok (.iload 4, 2) := by decide +kernel
theorem dX0_findLevels_171 : decode cX0_findLevels 171 = .ok (.ifCond .eq 9, 3) := by decide +kernel
theorem dX0_findLevels_174 : decode cX0_findLevels 174 = .ok (.iload_n 3, 1) := by decide +kernel
theorem dX0_findLevels_175 : decode cX0_findLevels 175 = .ok (.iconst 1, 1) := by decide +kernel
theorem dX0_findLevels_176 : decode cX0_findLevels 176 = .ok (.iadd, 1) := by decide +kernel
theorem dX0_findLevels_177 : decode cX0_findLevels 177 = .ok (.goto 9, 3) := by decide +kernel
theorem dX0_findLevels_180 : decode cX0_findLevels 180 = .ok (.aload_n 0, 1) := by decide +kernel
theorem dX0_findLevels_181 : decode cX0_findLevels 181 = .ok (.getfield 78, 3) := by decide +kernel
theorem dX0_findLevels_184 : decode cX0_findLevels 184 = .ok (.iload_n 2, 1) := by decide +kernel
theorem dX0_findLevels_185 : decode cX0_findLevels 185 = .ok (.iaload, 1) := by decide +kernel
theorem dX0_findLevels_186 : decode cX0_findLevels 186 = .ok (.iastore, 1) := by decide +kernel
theorem dX0_findLevels_187 : decode cX0_findLevels 187 = .ok (.iinc 2 1, 3) := by decide +kernel
theorem dX0_findLevels_190 : decode cX0_findLevels 190 = .ok (.goto (-139), 3) := by decide +kernel
theorem dX0_findLevels_193 : decode cX0_findLevels 193 = .ok (.iinc 1 1, 3) := by decide +kernel
theorem dX0_findLevels_196 : decode cX0_findLevels 196 = .ok (.goto (-155), 3) := by decide +kernel
theorem dX0_findLevels_199 : decode cX0_findLevels 199 = .ok (.return_, 1) := by decide +kernel
theorem dX0_level_0 : decode cX0_level 0 = .ok (.aload_n 0, 1) := by decide +kernel
theorem dX0_level_1 : decode cX0_level 1 = .ok (.iload_n 1, 1) := by decide +kernel
theorem dX0_level_2 : decode cX0_level 2 = .ok (.invokevirtual 138, 3) := by decide +kernel
theorem dX0_level_5 : decode cX0_level 5 = .ok (.ifCond .ne 6, 3) := by decide +kernel
theorem dX0_level_8 : decode cX0_level 8 = .ok (.bipush (-101), 2) := by decide +kernel
theorem dX0_level_10 : decode cX0_level 10 = .ok (.ireturn, 1) := by decide +kernel
theorem dX0_level_11 : decode cX0_level 11 = .ok (.aload_n 0, 1) := by decide +kernel
theorem dX0_level_12 : decode cX0_level 12 = .ok (.invokevirtual 198, 3) := by decide +kernel
theorem dX0_level_15 : decode cX0_level 15 = .ok (.aload_n 0, 1) := by decide +kernel
theorem dX0_level_16 : decode cX0_level 16 = .ok (.getfield 78, 3) := by decide +kernel
theorem dX0_level_19 : decode cX0_level 19 = .ok (.iload_n 1, 1) := by decide +kernel
theorem dX0_level_20 : decode cX0_level 20 = .ok (.iaload, 1) := by decide +kernel
theorem dX0_level_21 : decode cX0_level 21 = .ok (.ireturn, 1) := by decide +kernel
theorem dX0_greatest_0 : decode cX0_greatest 0 = .ok (.aload_n 0, 1) := by decide +kernel
theorem dX0_greatest_1 : decode cX0_greatest 1 = .ok (.invokevirtual 198, 3) := by decide +kernel
theorem dX0_greatest_4 : decode cX0_greatest 4 = .ok (.iconst 0, 1) := by decide +kernel
theorem dX0_greatest_5 : decode cX0_greatest 5 = .ok (.istore_n 1, 1) := by decide +kernel
theorem dX0_greatest_6 : decode cX0_greatest 6 = .ok (.iconst 0, 1) := by decide +kernel
theorem dX0_greatest_7 : decode cX0_greatest 7 = .ok (.istore_n 2, 1) := by decide +kernel
theorem dX0_greatest_8 : decode cX0_greatest 8 = .ok (.iload_n 2, 1) := by decide +kernel
theorem dX0_greatest_9 : decode cX0_greatest 9 = .ok (.aload_n 0, 1) := by decide +kernel
theorem dX0_greatest_10 : decode cX0_greatest 10 = .ok (.getfield 91, 3) := by decide +kernel
theorem dX0_greatest_13 : decode cX0_greatest 13 = .ok (.if_icmp .ge 20, 3) := by decide +kernel
theorem dX0_greatest_16 : decode cX0_greatest 16 = .ok (.iload_n 1, 1) := by decide +kernel
theorem dX0_greatest_17 : decode cX0_greatest 17 = .ok (.aload_n 0, 1) := by decide +kernel
theorem dX0_greatest_18 : decode cX0_greatest 18 = .ok (.getfield 78, 3) := by decide +kernel
theorem dX0_greatest_21 : decode cX0_greatest 21 = .ok (.iload_n 2, 1) := by decide +kernel
theorem dX0_greatest_22 : decode cX0_greatest 22 = .ok (.iaload, 1) := by decide +kernel
theorem dX0_greatest_23 : decode cX0_greatest 23 = .ok (.invokestatic 181, 3) := by decide +kernel
theorem dX0_greatest_26 : decode cX0_greatest 26 = .ok (.istore_n 1, 1) := by decide +kernel
theorem dX0_greatest_27 : decode cX0_greatest 27 = .ok (.iinc 2 1, 3) := by decide +kernel
theorem dX0_greatest_30 : decode cX0_greatest 30 = .ok (.goto (-22), 3) := by decide +kernel
theorem dX0_greatest_33 : decode cX0_greatest 33 = .ok (.iload_n 1, 1) := by decide +kernel
theorem dX0_greatest_34 : decode cX0_greatest 34 = .ok (.ireturn, 1) := by decide +kernel
theorem dX0_cords_0 : decode cX0_cords 0 = .ok (.iconst 0, 1) := by decide +kernel
theorem dX0_cords_1 : decode cX0_cords 1 = .ok (.istore_n 1, 1) := by decide +kernel
theorem dX0_cords_2 : decode cX0_cords 2 = .ok (.iconst 0, 1) := by decide +kernel
theorem dX0_cords_3 : decode cX0_cords 3 = .ok (.istore_n 2, 1) := by decide +kernel
theorem dX0_cords_4 : decode cX0_cords 4 = .ok (.iload_n 2, 1) := by decide +kernel
theorem dX0_cords_5 : decode cX0_cords 5 = .ok (.aload_n 0, 1) := by decide +kernel
theorem dX0_cords_6 : decode cX0_cords 6 = .ok (.getfield 91, 3) := by decide +kernel
theorem dX0_cords_9 : decode cX0_cords 9 = .ok (.if_icmp .ge 58, 3) := by decide +kernel
theorem dX0_cords_12 : decode cX0_cords 12 = .ok (.aload_n 0, 1) := by decide +kernel
theorem dX0_cords_13 : decode cX0_cords 13 = .ok (.getfield 55, 3) := by decide +kernel
theorem dX0_cords_16 : decode cX0_cords 16 = .ok (.iload_n 2, 1) := by decide +kernel
theorem dX0_cords_17 : decode cX0_cords 17 = .ok (.aaload, 1) := by decide +kernel
theorem dX0_cords_18 : decode cX0_cords 18 = .ok (.getfield 142, 3) := by decide +kernel
theorem dX0_cords_21 : decode cX0_cords 21 = .ok (.astore_n 3, 1) := by decide +kernel
theorem dX0_cords_22 : decode cX0_cords 22 = .ok (.aload_n 3, 1) := by decide +kernel
theorem dX0_cords_23 : decode cX0_cords 23 = .ok (.arraylength, 1) := by decide +kernel
theorem dX0_cords_24 : decode cX0_cords 24 = .ok (.istore 4, 2) := by decide +kernel
theorem dX0_cords_26 : decode cX0_cords 26 = .ok (.iconst 0, 1) := by decide +kernel
theorem dX0_cords_27 : decode cX0_cords 27 = .ok (.istore 5, 2) := by decide +kernel
theorem dX0_cords_29 : decode cX0_cords 29 = .ok (.iload 5, 2) := by decide +kernel
theorem dX0_cords_31 : decode cX0_cords 31 = .ok (.iload 4, 2) := by decide +kernel
theorem dX0_cords_33 : decode cX0_cords 33 = .ok (.if_icmp .ge 28, 3) := by decide +kernel
theorem dX0_cords_36 : decode cX0_cords 36 = .ok (.aload_n 3, 1) := by decide +kernel
theorem dX0_cords_37 : decode cX0_cords 37 = .ok (.iload 5, 2) := by decide +kernel
theorem dX0_cords_39 : decode cX0_cords 39 = .ok (.aaload, 1) := by decide +kernel
theorem dX0_cords_40 : decode cX0_cords 40 = .ok (.astore 6, 2) := by decide +kernel
theorem dX0_cords_42 : decode cX0_cords 42 = .ok (.iload_n 1, 1) := by decide +kernel
theorem dX0_cords_43 : decode cX0_cords 43 = .ok (.aload 6, 2) := by decide +kernel
theorem dX0_cords_45 : decode cX0_cords 45 = .ok (.ifnonnull 7, 3) := by decide +kernel
theorem dX0_cords_48 : decode cX0_cords 48 = .ok (.iconst 0, 1) := by decide +kernel
theorem dX0_cords_49 : decode cX0_cords 49 = .ok (.goto 4, 3) := by decide +kernel
theorem dX0_cords_52 : decode cX0_cords 52 = .ok (.iconst 1, 1) := by decide +kernel
theorem dX0_cords_53 : decode cX0_cords 53 = .ok (.iadd, 1) := by decide +kernel
theorem dX0_cords_54 : decode cX0_cords 54 = .ok (.istore_n 1, 1) := by decide +kernel
theorem dX0_cords_55 : decode cX0_cords 55 = .ok (.iinc 5 1, 3) := by decide +kernel
theorem dX0_cords_58 : decode cX0_cords 58 = .ok (.goto (-29), 3) := by decide +kernel
theorem dX0_cords_61 : decode cX0_cords 61 = .ok (.iinc 2 1, 3) := by decide +kernel
theorem dX0_cords_64 : decode cX0_cords 64 = .ok (.goto (-60), 3) := by decide +kernel
theorem dX0_cords_67 : decode cX0_cords 67 = .ok (.iload_n 1, 1) := by decide +kernel
theorem dX0_cords_68 : decode cX0_cords 68 = .ok (.ireturn, 1) := by decide +kernel
theorem dX0_lit_0 : decode cX0_lit 0 = .ok (.iconst 0, 1) := by decide +kernel
theorem dX0_lit_1 : decode cX0_lit 1 = .ok (.istore_n 1, 1) := by decide +kernel
theorem dX0_lit_2 : decode cX0_lit 2 = .ok (.iconst 0, 1) := by decide +kernel
theorem dX0_lit_3 : decode cX0_lit 3 = .ok (.istore_n 2, 1) := by decide +kernel
theorem dX0_lit_4 : decode cX0_lit 4 = .ok (.iload_n 2, 1) := by decide +kernel
theorem dX0_lit_5 : decode cX0_lit 5 = .ok (.aload_n 0, 1) := by decide +kernel
theorem dX0_lit_6 : decode cX0_lit 6 = .ok (.getfield 91, 3) := by decide +kernel
theorem dX0_lit_9 : decode cX0_lit 9 = .ok (.if_icmp .ge 30, 3) := by decide +kernel
theorem dX0_lit_12 : decode cX0_lit 12 = .ok (.iload_n 1, 1) := by decide +kernel
theorem dX0_lit_13 : decode cX0_lit 13 = .ok (.aload_n 0, 1) := by decide +kernel
theorem dX0_lit_14 : decode cX0_lit 14 = .ok (.getfield 55, 3) := by decide +kernel
theorem dX0_lit_17 : decode cX0_lit 17 = .ok (.iload_n 2, 1) := by decide +kernel
theorem dX0_lit_18 : decode cX0_lit 18 = .ok (.aaload, 1) := by decide +kernel
theorem dX0_lit_19 : decode cX0_lit 19 = .ok (.getfield 302, 3) := by decide +kernel
theorem dX0_lit_22 : decode cX0_lit 22 = .ok (.iconst (-1), 1) := by decide +kernel
theorem dX0_lit_23 : decode cX0_lit 23 = .ok (.if_icmp .ne 7, 3) := by decide +kernel
theorem dX0_lit_26 : decode cX0_lit 26 = .ok (.iconst 0, 1) := by decide +kernel
theorem dX0_lit_27 : decode cX0_lit 27 = .ok (.goto 4, 3) := by decide +kernel
theorem dX0_lit_30 : decode cX0_lit 30 = .ok (.iconst 1, 1) := by decide +kernel
theorem dX0_lit_31 : decode cX0_lit 31 = .ok (.iadd, 1) := by decide +kernel
theorem dX0_lit_32 : decode cX0_lit 32 = .ok (.istore_n 1, 1) := by decide +kernel
theorem dX0_lit_33 : decode cX0_lit 33 = .ok (.iinc 2 1, 3) := by decide +kernel
theorem dX0_lit_36 : decode cX0_lit 36 = .ok (.goto (-32), 3) := by decide +kernel
theorem dX0_lit_39 : decode cX0_lit 39 = .ok (.iload_n 1, 1) := by decide +kernel
theorem dX0_lit_40 : decode cX0_lit 40 = .ok (.ireturn, 1) := by decide +kernel
theorem hd_J1_max : yJ1_max.cls ≠ "java/lang/invoke/MethodHandle" ∧ yJ1_max.cls ≠ "java/lang/invoke/VarHandle" ∧ (parseMethodDescriptor yJ1_max.desc).map (fun d => d.parameters.length) = some 2 := by decide +kernel
theorem hd_X0_findLevels : yX0_findLevels.cls = RX0 ∧ yX0_findLevels.cls ≠ "java/lang/invoke/MethodHandle" ∧ yX0_findLevels.cls ≠ "java/lang/invoke/VarHandle" ∧ (parseMethodDescriptor yX0_findLevels.desc).map (fun d => d.parameters.length) = some 0 := by decide +kernel
theorem xt_X0_hasInputs (l : Launch) (D : va_G) (dA : Nat → ClassId) (C : tp_C) (d : md_T) (j : xj_T) (u : Nat) (hC : mOK C) (hu : u < cN C) : xC l D dA yX0_hasInputs cX0_hasInputs 7 (some .boolean) 1 [.ref (jA j 0), .ref (jA j (xr u 0))] C d j (some (.int (bI (hiB C u)))) C d j := by
  refine xx_start (own := RX0) (by decide) rfl (Nat.le_of_ble_eq_true rfl) ?_
  intro p0 e0 s0 mid bl0 me0 co0 ls S hr hlk G hl
  have hx := S.1; have hb := S.2.1; have hml := S.2.2.1; have hown := S.2.2.2.1; have hts := S.2.2.2.2; have hN := hC.n
  have hl : lv_has ls 7 [(0, .ref (jA j 0)), (1, .ref (jA j (xr u 0)))] := hl
  have hk14 := hC.k u
  have hnd := ndN_le (cK C u)
  have L1 : ∀ (n_ i : Nat), i ≤ 6 → 6 < i + n_ → ∀ (H : Heap) (locs : List Loc) (ls : Array Slot), xG D dA (xA dA C d j) C d j s0 H locs → lv_has ls 7 [(5, .int (nI i)), (2, .int (bI (anyB C u i))), (3, .ref (jA j (xr u 1))), (4, .int (nI 6)), (0, .ref (jA j 0)), (1, .ref (jA j (xr u 0)))] → (∀ (H : Heap) (locs : List Loc) (ls : Array Slot), xG D dA (xA dA C d j) C d j s0 H locs → lv_has ls 7 [(5, .int (nI 6)), (2, .int (bI (anyB C u 6))), (3, .ref (jA j (xr u 1))), (4, .int (nI 6)), (0, .ref (jA j 0)), (1, .ref (jA j (xr u 0)))] → W p0 l e0 (rm_ 1) s0 mid ([.ref (jA j 0), .ref (jA j (xr u 0))] : List Value).toArray bl0 me0 co0 H locs 0 0 (MQ bl0 (xQ D dA C d j (some (.int (bI (hiB C u)))) C d j) ([.ref (jA j 0), .ref (jA j (xr u 0))] : List Value).toArray s0 0 0 (xA dA C d j)) (F0 mid 61 ls [])) → W p0 l e0 (rm_ 1) s0 mid ([.ref (jA j 0), .ref (jA j (xr u 0))] : List Value).toArray bl0 me0 co0 H locs 0 0 (MQ bl0 (xQ D dA C d j (some (.int (bI (hiB C u)))) C d j) ([.ref (jA j 0), .ref (jA j (xr u 0))] : List Value).toArray s0 0 0 (xA dA C d j)) (F0 mid 29 ls []) := by
    intro n_
    induction n_ with
    | zero => intro i h1_ h2_; exact absurd h2_ (by omega)
    | succ n_ ih =>
      intro i h1_ h2_ H locs ls G hl kk
      refine lv_iload hx hb dX0_hasInputs_29 (lv_at hl 0 rfl) ?_
      refine lv_iload hx hb dX0_hasInputs_31 (lv_at hl 3 rfl) ?_
      refine nn_cge (tgt := 61) hx hb (by omega) (by omega) dX0_hasInputs_33 (by decide) (fun c_33 => ?_) (fun c_33 => ?_)
      · have hiN : i = 6 := by omega
        subst hiN
        exact kk H locs ls G (lv_sub hl [0, 1, 2, 3, 4, 5] rfl)
      · refine lv_aload_n hx hb dX0_hasInputs_36 rfl (lv_at hl 2 rfl) ?_
        refine lv_iload hx hb dX0_hasInputs_37 (lv_at hl 0 rfl) ?_
        rcases hf_39 : cF C u i with _ | k_39
        · refine xx_aald S G (r := xr u 1) (xr_lt (by decide) (Nat.lt_of_lt_of_le (by omega) hN)) (xW_m (by decide) (by omega) rfl) (i := i) (by omega) (by decide) (o := none) (by show (cF C u i).map _ = _; rw [hf_39]; rfl) dX0_hasInputs_39 ?_
          refine W.eq (g2 := F0 mid 40 ls [.null]) rfl ?_
          refine lv_astoreN (lv' := [(6, .null), (5, .int (nI i)), (2, .int (bI (anyB C u i))), (3, .ref (jA j (xr u 1))), (4, .int (nI 6)), (0, .ref (jA j 0)), (1, .ref (jA j (xr u 0)))]) hx hb dX0_hasInputs_40 hl (by decide) rfl (fun ls hl => ?_)
          refine lv_iload_n hx hb dX0_hasInputs_42 rfl (lv_at hl 2 rfl) ?_
          refine lv_aloadN hx hb dX0_hasInputs_43 (lv_at hl 0 rfl) ?_
          refine lv_ifnullN (tgt := 52) hx hb dX0_hasInputs_45 (by decide) ?_
          refine lv_iconst (v := nI 0) hx hb dX0_hasInputs_52 (by decide) ?_
          refine lv_ior hx hb dX0_hasInputs_53 ?_
          refine w_st (st' := [.int (bI (anyB C u (i + 1)))]) (by simp [anyB_s, bo_1, bo_0, hf_39]) ?_
          refine lv_istore_n (lv' := [(2, .int (bI (anyB C u (i + 1)))), (6, .null), (5, .int (nI i)), (3, .ref (jA j (xr u 1))), (4, .int (nI 6)), (0, .ref (jA j 0)), (1, .ref (jA j (xr u 0)))]) hx hb dX0_hasInputs_54 rfl hl (by decide) rfl (fun ls hl => ?_)
          refine lv_iinc (v := nI (i + 1)) (lv' := [(5, .int (nI (i + 1))), (2, .int (bI (anyB C u (i + 1)))), (6, .null), (3, .ref (jA j (xr u 1))), (4, .int (nI 6)), (0, .ref (jA j 0)), (1, .ref (jA j (xr u 0)))]) hx hb dX0_hasInputs_55 hl (k := 2) rfl (nI_1 _) (by decide) rfl (fun ls hl => ?_)
          refine lv_goto (tgt := 29) hx hb dX0_hasInputs_58 (by decide) ?_
          exact ih (i + 1) (by omega) (by omega) H locs ls G (lv_sub hl [0, 1, 3, 4, 5, 6] rfl) kk
        · have hkN_39 := hC.f hf_39
          refine xx_aald S G (r := xr u 1) (xr_lt (by decide) (Nat.lt_of_lt_of_le (by omega) hN)) (xW_m (by decide) (by omega) rfl) (i := i) (by omega) (by decide) (o := some (jA j (xr k_39 0))) (by show (cF C u i).map _ = _; rw [hf_39]; rfl) dX0_hasInputs_39 ?_
          refine W.eq (g2 := F0 mid 40 ls [.ref (jA j (xr k_39 0))]) rfl ?_
          refine lv_astore (lv' := [(6, .ref (jA j (xr k_39 0))), (5, .int (nI i)), (2, .int (bI (anyB C u i))), (3, .ref (jA j (xr u 1))), (4, .int (nI 6)), (0, .ref (jA j 0)), (1, .ref (jA j (xr u 0)))]) hx hb dX0_hasInputs_40 hl (by decide) rfl (fun ls hl => ?_)
          refine lv_iload_n hx hb dX0_hasInputs_42 rfl (lv_at hl 2 rfl) ?_
          refine lv_aload hx hb dX0_hasInputs_43 (lv_at hl 0 rfl) ?_
          refine lv_ifnull hx hb dX0_hasInputs_45 ?_
          refine lv_iconst (v := nI 1) hx hb dX0_hasInputs_48 (by decide) ?_
          refine lv_goto (tgt := 53) hx hb dX0_hasInputs_49 (by decide) ?_
          refine lv_ior hx hb dX0_hasInputs_53 ?_
          refine w_st (st' := [.int (bI (anyB C u (i + 1)))]) (by simp [anyB_s, bo_1, bo_0, hf_39]) ?_
          refine lv_istore_n (lv' := [(2, .int (bI (anyB C u (i + 1)))), (6, .ref (jA j (xr k_39 0))), (5, .int (nI i)), (3, .ref (jA j (xr u 1))), (4, .int (nI 6)), (0, .ref (jA j 0)), (1, .ref (jA j (xr u 0)))]) hx hb dX0_hasInputs_54 rfl hl (by decide) rfl (fun ls hl => ?_)
          refine lv_iinc (v := nI (i + 1)) (lv' := [(5, .int (nI (i + 1))), (2, .int (bI (anyB C u (i + 1)))), (6, .ref (jA j (xr k_39 0))), (3, .ref (jA j (xr u 1))), (4, .int (nI 6)), (0, .ref (jA j 0)), (1, .ref (jA j (xr u 0)))]) hx hb dX0_hasInputs_55 hl (k := 2) rfl (nI_1 _) (by decide) rfl (fun ls hl => ?_)
          refine lv_goto (tgt := 29) hx hb dX0_hasInputs_58 (by decide) ?_
          exact ih (i + 1) (by omega) (by omega) H locs ls G (lv_sub hl [0, 1, 3, 4, 5, 6] rfl) kk
  have L2 : ∀ (n_ i : Nat), i ≤ (ndN (cK C u)) → (ndN (cK C u)) < i + n_ → ∀ (H : Heap) (locs : List Loc) (ls : Array Slot), xG D dA (xA dA C d j) C d j s0 H locs → lv_has ls 7 [(3, .int (nI i)), (2, .int (bI (alB C u i))), (0, .ref (jA j 0)), (1, .ref (jA j (xr u 0)))] → (∀ (H : Heap) (locs : List Loc) (ls : Array Slot), xG D dA (xA dA C d j) C d j s0 H locs → lv_has ls 7 [(3, .int (nI (ndN (cK C u)))), (2, .int (bI (alB C u (ndN (cK C u))))), (0, .ref (jA j 0)), (1, .ref (jA j (xr u 0)))] → W p0 l e0 (rm_ 1) s0 mid ([.ref (jA j 0), .ref (jA j (xr u 0))] : List Value).toArray bl0 me0 co0 H locs 0 0 (MQ bl0 (xQ D dA C d j (some (.int (bI (hiB C u)))) C d j) ([.ref (jA j 0), .ref (jA j (xr u 0))] : List Value).toArray s0 0 0 (xA dA C d j)) (F0 mid 98 ls [])) → W p0 l e0 (rm_ 1) s0 mid ([.ref (jA j 0), .ref (jA j (xr u 0))] : List Value).toArray bl0 me0 co0 H locs 0 0 (MQ bl0 (xQ D dA C d j (some (.int (bI (hiB C u)))) C d j) ([.ref (jA j 0), .ref (jA j (xr u 0))] : List Value).toArray s0 0 0 (xA dA C d j)) (F0 mid 67 ls []) := by
    intro n_
    induction n_ with
    | zero => intro i h1_ h2_; exact absurd h2_ (by omega)
    | succ n_ ih =>
      intro i h1_ h2_ H locs ls G hl kk
      refine lv_iload_n hx hb dX0_hasInputs_67 rfl (lv_at hl 0 rfl) ?_
      refine lv_aload_n hx hb dX0_hasInputs_68 rfl (lv_at hl 3 rfl) ?_
      refine xo_needs (mm := u) (rest := [.int (nI i)]) S G hC (by omega) ⟨Nat.le_of_ble_eq_true rfl, Nat.le_of_ble_eq_true rfl⟩ ⟨Nat.zero_le _, Nat.zero_le _⟩ hl.1 (Nat.le_of_ble_eq_true rfl) dX0_hasInputs_69 (fun H locs G => ?_)
      refine W.eq (g2 := F0 mid 72 ls [.int (nI (ndN (cK C u))), .int (nI i)]) rfl ?_
      refine nn_cge (tgt := 98) hx hb (by omega) (by omega) dX0_hasInputs_72 (by decide) (fun c_72 => ?_) (fun c_72 => ?_)
      · have hiN : i = (ndN (cK C u)) := by omega
        subst hiN
        exact kk H locs ls G (lv_sub hl [0, 1, 2, 3] rfl)
      · refine lv_iload_n hx hb dX0_hasInputs_75 rfl (lv_at hl 1 rfl) ?_
        refine lv_aload_n hx hb dX0_hasInputs_76 rfl (lv_at hl 3 rfl) ?_
        refine xx_get11 S G (mm := u) (by omega) hN (hC.k _) 3 (by decide) q220 rfl (v := .ref (jA j (xr u 1))) rfl dX0_hasInputs_77 ?_
        refine lv_iload_n hx hb dX0_hasInputs_80 rfl (lv_at hl 0 rfl) ?_
        rcases hf_81 : cF C u i with _ | k_81
        · refine xx_aald S G (r := xr u 1) (xr_lt (by decide) (Nat.lt_of_lt_of_le (by omega) hN)) (xW_m (by decide) (by omega) rfl) (i := i) (by omega) (by decide) (o := none) (by show (cF C u i).map _ = _; rw [hf_81]; rfl) dX0_hasInputs_81 ?_
          refine W.eq (g2 := F0 mid 82 ls [.null, .int (bI (alB C u i))]) rfl ?_
          refine lv_ifnullN (tgt := 89) hx hb dX0_hasInputs_82 (by decide) ?_
          refine lv_iconst (v := nI 0) hx hb dX0_hasInputs_89 (by decide) ?_
          refine lv_iand hx hb dX0_hasInputs_90 ?_
          refine w_st (st' := [.int (bI (alB C u (i + 1)))]) (by simp [alB_s, bn_1, bn_0, hf_81]) ?_
          refine lv_istore_n (lv' := [(2, .int (bI (alB C u (i + 1)))), (3, .int (nI i)), (0, .ref (jA j 0)), (1, .ref (jA j (xr u 0)))]) hx hb dX0_hasInputs_91 rfl hl (by decide) rfl (fun ls hl => ?_)
          refine lv_iinc (v := nI (i + 1)) (lv' := [(3, .int (nI (i + 1))), (2, .int (bI (alB C u (i + 1)))), (0, .ref (jA j 0)), (1, .ref (jA j (xr u 0)))]) hx hb dX0_hasInputs_92 hl (k := 1) rfl (nI_1 _) (by decide) rfl (fun ls hl => ?_)
          refine lv_goto (tgt := 67) hx hb dX0_hasInputs_95 (by decide) ?_
          exact ih (i + 1) (by omega) (by omega) H locs ls G (lv_sub hl [0, 1, 2, 3] rfl) kk
        · have hkN_81 := hC.f hf_81
          refine xx_aald S G (r := xr u 1) (xr_lt (by decide) (Nat.lt_of_lt_of_le (by omega) hN)) (xW_m (by decide) (by omega) rfl) (i := i) (by omega) (by decide) (o := some (jA j (xr k_81 0))) (by show (cF C u i).map _ = _; rw [hf_81]; rfl) dX0_hasInputs_81 ?_
          refine W.eq (g2 := F0 mid 82 ls [.ref (jA j (xr k_81 0)), .int (bI (alB C u i))]) rfl ?_
          refine lv_ifnull hx hb dX0_hasInputs_82 ?_
          refine lv_iconst (v := nI 1) hx hb dX0_hasInputs_85 (by decide) ?_
          refine lv_goto (tgt := 90) hx hb dX0_hasInputs_86 (by decide) ?_
          refine lv_iand hx hb dX0_hasInputs_90 ?_
          refine w_st (st' := [.int (bI (alB C u (i + 1)))]) (by simp [alB_s, bn_1, bn_0, hf_81]) ?_
          refine lv_istore_n (lv' := [(2, .int (bI (alB C u (i + 1)))), (3, .int (nI i)), (0, .ref (jA j 0)), (1, .ref (jA j (xr u 0)))]) hx hb dX0_hasInputs_91 rfl hl (by decide) rfl (fun ls hl => ?_)
          refine lv_iinc (v := nI (i + 1)) (lv' := [(3, .int (nI (i + 1))), (2, .int (bI (alB C u (i + 1)))), (0, .ref (jA j 0)), (1, .ref (jA j (xr u 0)))]) hx hb dX0_hasInputs_92 hl (k := 1) rfl (nI_1 _) (by decide) rfl (fun ls hl => ?_)
          refine lv_goto (tgt := 67) hx hb dX0_hasInputs_95 (by decide) ?_
          exact ih (i + 1) (by omega) (by omega) H locs ls G (lv_sub hl [0, 1, 2, 3] rfl) kk
  refine lv_aload_n hx hb dX0_hasInputs_0 rfl (lv_at hl 1 rfl) ?_
  refine xx_get11 S G (mm := u) (by omega) hN (hC.k _) 0 (by decide) q203 rfl (v := .int (nI (cK C u))) rfl dX0_hasInputs_1 ?_
  refine nz_eq (tgt := 15) hx hb (by omega) dX0_hasInputs_4 (by decide) (fun c_4 => ?_) (fun c_4 => ?_)
  · refine lv_iconst (v := nI 0) hx hb dX0_hasInputs_15 (by decide) ?_
    refine lv_istore_n (lv' := [(2, .int (nI 0)), (0, .ref (jA j 0)), (1, .ref (jA j (xr u 0)))]) hx hb dX0_hasInputs_16 rfl hl (by decide) rfl (fun ls hl => ?_)
    refine lv_aload_n hx hb dX0_hasInputs_17 rfl (lv_at hl 2 rfl) ?_
    refine xx_get11 S G (mm := u) (by omega) hN (hC.k _) 3 (by decide) q220 rfl (v := .ref (jA j (xr u 1))) rfl dX0_hasInputs_18 ?_
    refine lv_astore_n (lv' := [(3, .ref (jA j (xr u 1))), (2, .int (nI 0)), (0, .ref (jA j 0)), (1, .ref (jA j (xr u 0)))]) hx hb dX0_hasInputs_21 rfl hl (by decide) rfl (fun ls hl => ?_)
    refine lv_aload_n hx hb dX0_hasInputs_22 rfl (lv_at hl 0 rfl) ?_
    refine xx_alen S G (r := xr u 1) (xr_lt (by decide) (Nat.lt_of_lt_of_le (by omega) hN)) (xW_m (by decide) (by omega) rfl) 5 rfl (n := 6) rfl dX0_hasInputs_23 ?_
    refine lv_istore (lv' := [(4, .int (nI 6)), (3, .ref (jA j (xr u 1))), (2, .int (nI 0)), (0, .ref (jA j 0)), (1, .ref (jA j (xr u 0)))]) hx hb dX0_hasInputs_24 hl (by decide) rfl (fun ls hl => ?_)
    refine lv_iconst (v := nI 0) hx hb dX0_hasInputs_26 (by decide) ?_
    refine lv_istore (lv' := [(5, .int (nI 0)), (4, .int (nI 6)), (3, .ref (jA j (xr u 1))), (2, .int (nI 0)), (0, .ref (jA j 0)), (1, .ref (jA j (xr u 0)))]) hx hb dX0_hasInputs_27 hl (by decide) rfl (fun ls hl => ?_)
    refine L1 7 0 (by omega) (by omega) _ _ ls G (lv_eq (lv_sub (l' := [(5, .int (nI 0)), (2, .int (nI 0)), (3, .ref (jA j (xr u 1))), (4, .int (nI 6)), (0, .ref (jA j 0)), (1, .ref (jA j (xr u 0)))]) hl [0, 3, 2, 1, 4, 5] rfl) (by rfl)) (fun H locs ls G hl => ?_)
    refine lv_iload_n hx hb dX0_hasInputs_61 rfl (lv_at hl 1 rfl) ?_
    exact xx_zret S hr hlk G (by first | rfl | exact bb_nar _) (by exact congrArg bI (hi_any (Or.inl c_4))) rfl dX0_hasInputs_62
  · refine lv_aload_n hx hb dX0_hasInputs_7 rfl (lv_at hl 1 rfl) ?_
    refine xx_get11 S G (mm := u) (by omega) hN (hC.k _) 0 (by decide) q203 rfl (v := .int (nI (cK C u))) rfl dX0_hasInputs_8 ?_
    refine lv_iconst (v := nI 2) hx hb dX0_hasInputs_11 (by decide) ?_
    refine nn_cne (tgt := 63) hx hb (by omega) (by omega) dX0_hasInputs_12 (by decide) (fun c_12 => ?_) (fun c_12 => ?_)
    · refine lv_iconst (v := nI 1) hx hb dX0_hasInputs_63 (by decide) ?_
      refine lv_istore_n (lv' := [(2, .int (nI 1)), (0, .ref (jA j 0)), (1, .ref (jA j (xr u 0)))]) hx hb dX0_hasInputs_64 rfl hl (by decide) rfl (fun ls hl => ?_)
      refine lv_iconst (v := nI 0) hx hb dX0_hasInputs_65 (by decide) ?_
      refine lv_istore_n (lv' := [(3, .int (nI 0)), (2, .int (nI 1)), (0, .ref (jA j 0)), (1, .ref (jA j (xr u 0)))]) hx hb dX0_hasInputs_66 rfl hl (by decide) rfl (fun ls hl => ?_)
      refine L2 (ndN (cK C u) + 1) 0 (by omega) (by omega) _ _ ls G (lv_eq (lv_sub (l' := [(3, .int (nI 0)), (2, .int (nI 1)), (0, .ref (jA j 0)), (1, .ref (jA j (xr u 0)))]) hl [0, 1, 2, 3] rfl) (by rfl)) (fun H locs ls G hl => ?_)
      refine lv_iload_n hx hb dX0_hasInputs_98 rfl (lv_at hl 1 rfl) ?_
      exact xx_zret S hr hlk G (by first | rfl | exact bb_nar _) (by exact congrArg bI (hi_all c_4 c_12 hk14)) rfl dX0_hasInputs_99
    · refine lv_iconst (v := nI 0) hx hb dX0_hasInputs_15 (by decide) ?_
      refine lv_istore_n (lv' := [(2, .int (nI 0)), (0, .ref (jA j 0)), (1, .ref (jA j (xr u 0)))]) hx hb dX0_hasInputs_16 rfl hl (by decide) rfl (fun ls hl => ?_)
      refine lv_aload_n hx hb dX0_hasInputs_17 rfl (lv_at hl 2 rfl) ?_
      refine xx_get11 S G (mm := u) (by omega) hN (hC.k _) 3 (by decide) q220 rfl (v := .ref (jA j (xr u 1))) rfl dX0_hasInputs_18 ?_
      refine lv_astore_n (lv' := [(3, .ref (jA j (xr u 1))), (2, .int (nI 0)), (0, .ref (jA j 0)), (1, .ref (jA j (xr u 0)))]) hx hb dX0_hasInputs_21 rfl hl (by decide) rfl (fun ls hl => ?_)
      refine lv_aload_n hx hb dX0_hasInputs_22 rfl (lv_at hl 0 rfl) ?_
      refine xx_alen S G (r := xr u 1) (xr_lt (by decide) (Nat.lt_of_lt_of_le (by omega) hN)) (xW_m (by decide) (by omega) rfl) 5 rfl (n := 6) rfl dX0_hasInputs_23 ?_
      refine lv_istore (lv' := [(4, .int (nI 6)), (3, .ref (jA j (xr u 1))), (2, .int (nI 0)), (0, .ref (jA j 0)), (1, .ref (jA j (xr u 0)))]) hx hb dX0_hasInputs_24 hl (by decide) rfl (fun ls hl => ?_)
      refine lv_iconst (v := nI 0) hx hb dX0_hasInputs_26 (by decide) ?_
      refine lv_istore (lv' := [(5, .int (nI 0)), (4, .int (nI 6)), (3, .ref (jA j (xr u 1))), (2, .int (nI 0)), (0, .ref (jA j 0)), (1, .ref (jA j (xr u 0)))]) hx hb dX0_hasInputs_27 hl (by decide) rfl (fun ls hl => ?_)
      refine L1 7 0 (by omega) (by omega) _ _ ls G (lv_eq (lv_sub (l' := [(5, .int (nI 0)), (2, .int (nI 0)), (3, .ref (jA j (xr u 1))), (4, .int (nI 6)), (0, .ref (jA j 0)), (1, .ref (jA j (xr u 0)))]) hl [0, 3, 2, 1, 4, 5] rfl) (by rfl)) (fun H locs ls G hl => ?_)
      refine lv_iload_n hx hb dX0_hasInputs_61 rfl (lv_at hl 1 rfl) ?_
      exact xx_zret S hr hlk G (by first | rfl | exact bb_nar _) (by exact congrArg bI (hi_any (Or.inr c_12))) rfl dX0_hasInputs_62
theorem xt_X0_findLevels (l : Launch) (D : va_G) (dA : Nat → ClassId) (C : tp_C) (d : md_T) (j : xj_T) (hC : mOK C) : xC l D dA yX0_findLevels cX0_findLevels 7 none 1 [.ref (jA j 0)] C d j none C (leD C d) j := by
  refine xx_start (own := RX0) (by decide) rfl (Nat.le_of_ble_eq_true rfl) ?_
  intro p0 e0 s0 mid bl0 me0 co0 ls S hr hlk G hl
  have hx := S.1; have hb := S.2.1; have hml := S.2.2.1; have hown := S.2.2.2.1; have hts := S.2.2.2.2; have hN := hC.n
  have hl : lv_has ls 7 [(0, .ref (jA j 0))] := hl
  have L0 : ∀ (n_ i : Nat), i ≤ cN C → cN C < i + n_ → ∀ (H : Heap) (locs : List Loc) (ls : Array Slot), xG D dA (xA dA C d j) C (sAI d 10 (le0 C (dAI d 10) i)) j s0 H locs → lv_has ls 7 [(1, .int (nI i)), (0, .ref (jA j 0))] → (∀ (H : Heap) (locs : List Loc) (ls : Array Slot), xG D dA (xA dA C d j) C (sAI d 10 (le0 C (dAI d 10) (cN C))) j s0 H locs → lv_has ls 7 [(1, .int (nI (cN C))), (0, .ref (jA j 0))] → W p0 l e0 (rm_ 1) s0 mid ([.ref (jA j 0)] : List Value).toArray bl0 me0 co0 H locs 0 0 (MQ bl0 (xQ D dA C d j none C (leD C d) j) ([.ref (jA j 0)] : List Value).toArray s0 0 0 (xA dA C d j)) (F0 mid 39 ls [])) → W p0 l e0 (rm_ 1) s0 mid ([.ref (jA j 0)] : List Value).toArray bl0 me0 co0 H locs 0 0 (MQ bl0 (xQ D dA C d j none C (leD C d) j) ([.ref (jA j 0)] : List Value).toArray s0 0 0 (xA dA C d j)) (F0 mid 2 ls []) := by
    intro n_
    induction n_ with
    | zero => intro i h1_ h2_; exact absurd h2_ (by omega)
    | succ n_ ih =>
      intro i h1_ h2_ H locs ls G hl kk
      refine lv_iload_n hx hb dX0_findLevels_2 rfl (lv_at hl 0 rfl) ?_
      refine lv_aload_n hx hb dX0_findLevels_3 rfl (lv_at hl 1 rfl) ?_
      refine xx_getP S G 1 (by decide) q90 rfl (v := .int (nI (cN C))) rfl dX0_findLevels_4 ?_
      refine nn_cge (tgt := 39) hx hb (by omega) (by omega) dX0_findLevels_7 (by decide) (fun c_7 => ?_) (fun c_7 => ?_)
      · have hiN : i = cN C := by omega
        subst hiN
        exact kk H locs ls G (lv_sub hl [0, 1] rfl)
      · refine lv_aload_n hx hb dX0_findLevels_10 rfl (lv_at hl 1 rfl) ?_
        refine xx_getP S G 14 (by decide) q103 rfl (v := .ref (jA j 6)) rfl dX0_findLevels_11 ?_
        refine lv_iload_n hx hb dX0_findLevels_14 rfl (lv_at hl 0 rfl) ?_
        refine lv_aload_n hx hb dX0_findLevels_15 rfl (lv_at hl 1 rfl) ?_
        refine xx_getP S G 0 (by decide) q89 rfl (v := .ref (jA j 1)) rfl dX0_findLevels_16 ?_
        refine lv_iload_n hx hb dX0_findLevels_19 rfl (lv_at hl 0 rfl) ?_
        refine xx_aald S G (r := 1) (by decide) (xW_p (by decide) rfl) (i := i) (by omega) (by decide) (o := some (jA j (xr i 0))) (if_pos (by omega)) dX0_findLevels_20 ?_
        refine W.eq (g2 := F0 mid 21 ls [.ref (jA j (xr i 0)), .int (nI i), .ref (jA j 6)]) rfl ?_
        refine xo_remembers (mm := i) (rest := [.int (nI i), .ref (jA j 6)]) S G hC (by omega) ⟨Nat.le_of_ble_eq_true rfl, Nat.le_of_ble_eq_true rfl⟩ ⟨Nat.zero_le _, Nat.zero_le _⟩ hl.1 (Nat.le_of_ble_eq_true rfl) dX0_findLevels_21 (fun H locs G => ?_)
        refine W.eq (g2 := F0 mid 24 ls [.int (bI (rmB (cK C i))), .int (nI i), .ref (jA j 6)]) rfl ?_
        refine bb_eq (tgt := 31) hx hb dX0_findLevels_24 (by decide) (fun c_24 => ?_) (fun c_24 => ?_)
        · refine lv_iconst (v := (-1)) hx hb dX0_findLevels_31 (by decide) ?_
          refine xx_iast S G (r := 6) (by decide) (xW_p (by decide) rfl) 0 rfl (i := i) (by omega) (by decide) xs_R6 dX0_findLevels_32 (fun H locs G => ?_)
          refine lv_iinc (v := nI (i + 1)) (lv' := [(1, .int (nI (i + 1))), (0, .ref (jA j 0))]) hx hb dX0_findLevels_33 hl (k := 0) rfl (nI_1 _) (by decide) rfl (fun ls hl => ?_)
          refine lv_goto (tgt := 2) hx hb dX0_findLevels_36 (by decide) ?_
          exact ih (i + 1) (by omega) (by omega) H locs ls (xG_d (xL_e rfl (by simp only [uAI_sAI]; simp [le0_s, c_7, c_24]) rfl) G) (lv_sub hl [0, 1] rfl) kk
        · refine lv_iconst (v := nI 0) hx hb dX0_findLevels_27 (by decide) ?_
          refine lv_goto (tgt := 32) hx hb dX0_findLevels_28 (by decide) ?_
          refine xx_iast S G (r := 6) (by decide) (xW_p (by decide) rfl) 0 rfl (i := i) (by omega) (by decide) xs_R6 dX0_findLevels_32 (fun H locs G => ?_)
          refine lv_iinc (v := nI (i + 1)) (lv' := [(1, .int (nI (i + 1))), (0, .ref (jA j 0))]) hx hb dX0_findLevels_33 hl (k := 0) rfl (nI_1 _) (by decide) rfl (fun ls hl => ?_)
          refine lv_goto (tgt := 2) hx hb dX0_findLevels_36 (by decide) ?_
          exact ih (i + 1) (by omega) (by omega) H locs ls (xG_d (xL_e rfl (by simp only [uAI_sAI]; simp [le0_s, c_7, c_24]) rfl) G) (lv_sub hl [0, 1] rfl) kk
  have L3 : ∀ (f : Nat → Int32) (t k : Nat) (hk : k < cN C) (ht : t < cN C) (n_ : Nat) (i : Nat), (i ≤ 6) → (6 < i + n_) → ∀ (H : Heap) (locs : List Loc) (ls : Array Slot), xG D dA (xA dA C d j) C (sAI d 10 f) j s0 H locs → lv_has ls 7 [(5, .int (nI i)), (4, .int (bI ((xlA C f k i).2))), (3, .int ((xlA C f k i).1)), (2, .int (nI k)), (1, .int (nI t)), (0, .ref (jA j 0))] → (∀ (i : Nat) (H : Heap) (locs : List Loc) (ls : Array Slot), (xlA C f k i = xlA C f k 6) → xG D dA (xA dA C d j) C (sAI d 10 f) j s0 H locs → lv_has ls 7 [(5, .int (nI i)), (4, .int (bI ((xlA C f k i).2))), (3, .int ((xlA C f k i).1)), (2, .int (nI k)), (1, .int (nI t)), (0, .ref (jA j 0))] → W p0 l e0 (rm_ 1) s0 mid ([.ref (jA j 0)] : List Value).toArray bl0 me0 co0 H locs 0 0 (MQ bl0 (xQ D dA C d j none C (leD C d) j) ([.ref (jA j 0)] : List Value).toArray s0 0 0 (xA dA C d j)) (F0 mid 164 ls [])) → W p0 l e0 (rm_ 1) s0 mid ([.ref (jA j 0)] : List Value).toArray bl0 me0 co0 H locs 0 0 (MQ bl0 (xQ D dA C d j none C (leD C d) j) ([.ref (jA j 0)] : List Value).toArray s0 0 0 (xA dA C d j)) (F0 mid 81 ls []) := by
    intro f t k hk ht n_
    induction n_ with
    | zero => intro i h1_ h2_; exfalso; omega
    | succ n_ ih =>
      intro i h1_ h2_ H locs ls G hl kk
      refine lv_iload hx hb dX0_findLevels_81 (lv_at hl 0 rfl) ?_
      refine lv_bipush (v := nI 6) hx hb dX0_findLevels_83 (by decide) ?_
      refine nn_cge (tgt := 164) hx hb (by omega) (by omega) dX0_findLevels_85 (by decide) (fun c_85 => ?_) (fun c_85 => ?_)
      · exact kk i H locs ls (by first | exact xlA_stop c_90 (by omega) | rw [show i = 6 by omega]) G (lv_sub hl [0, 1, 2, 3, 4, 5] rfl)
      · refine lv_iload hx hb dX0_findLevels_88 (lv_at hl 1 rfl) ?_
        refine bb_eq (tgt := 164) hx hb dX0_findLevels_90 (by decide) (fun c_90 => ?_) (fun c_90 => ?_)
        · exact kk i H locs ls (by first | exact xlA_stop c_90 (by omega) | rw [show i = 6 by omega]) G (lv_sub hl [0, 1, 2, 3, 4, 5] rfl)
        · refine lv_aload_n hx hb dX0_findLevels_93 rfl (lv_at hl 5 rfl) ?_
          refine xx_getP S G 0 (by decide) q89 rfl (v := .ref (jA j 1)) rfl dX0_findLevels_94 ?_
          refine lv_iload_n hx hb dX0_findLevels_97 rfl (lv_at hl 3 rfl) ?_
          refine xx_aald S G (r := 1) (by decide) (xW_p (by decide) rfl) (i := k) (by omega) (by decide) (o := some (jA j (xr k 0))) (if_pos (by omega)) dX0_findLevels_98 ?_
          refine W.eq (g2 := F0 mid 99 ls [.ref (jA j (xr k 0))]) rfl ?_
          refine xx_get11 S G (mm := k) (by omega) hN (hC.k _) 4 (by decide) q222 rfl (v := .ref (jA j (xr k 2))) rfl dX0_findLevels_99 ?_
          refine lv_iload hx hb dX0_findLevels_102 (lv_at hl 0 rfl) ?_
          refine xx_iald S G (r := xr k 2) (xr_lt (by decide) (Nat.lt_of_lt_of_le (by omega) hN)) (xW_m (by decide) (by omega) rfl) 0 rfl (i := i) (by omega) (by decide) (v := oI (cF C k i)) rfl dX0_findLevels_104 ?_
          refine lv_istore (lv' := [(6, .int (oI (cF C k i))), (5, .int (nI i)), (4, .int (bI ((xlA C f k i).2))), (3, .int ((xlA C f k i).1)), (2, .int (nI k)), (1, .int (nI t)), (0, .ref (jA j 0))]) hx hb dX0_findLevels_105 hl (by decide) rfl (fun ls hl => ?_)
          refine lv_iload hx hb dX0_findLevels_107 (lv_at hl 0 rfl) ?_
          refine lv_iconst (v := (-1)) hx hb dX0_findLevels_109 (by decide) ?_
          refine oo_ceq (tgt := 124) hx hb hC.f31 dX0_findLevels_110 (by decide) (fun c_110 => ?_) (fun k_110 c_110 => ?_)
          · rw [c_110] at hl
            have hl : lv_has ls 7 [(6, .int (-1)), (5, .int (nI i)), (4, .int (bI ((xlA C f k i).2))), (3, .int ((xlA C f k i).1)), (2, .int (nI k)), (1, .int (nI t)), (0, .ref (jA j 0))] := hl
            refine lv_iconst (v := nI 1) hx hb dX0_findLevels_124 (by decide) ?_
            refine lv_goto (tgt := 129) hx hb dX0_findLevels_125 (by decide) ?_
            refine lv_istore (lv' := [(4, .int (nI 1)), (6, .int (-1)), (5, .int (nI i)), (3, .int ((xlA C f k i).1)), (2, .int (nI k)), (1, .int (nI t)), (0, .ref (jA j 0))]) hx hb dX0_findLevels_129 hl (by decide) rfl (fun ls hl => ?_)
            refine lv_iload hx hb dX0_findLevels_131 (lv_at hl 0 rfl) ?_
            refine lv_if_eq (tgt := 156) hx hb dX0_findLevels_133 (by decide) (fun c_ => absurd c_ (by decide)) (fun _ => ?_)
            refine lv_iload hx hb dX0_findLevels_136 (lv_at hl 1 rfl) ?_
            refine lv_iconst (v := (-1)) hx hb dX0_findLevels_138 (by decide) ?_
            refine lv_icmp_eq (tgt := 156) hx hb dX0_findLevels_139 (by decide) (fun c_139 => ?_) (fun c_139 => by exfalso; exact c_139 rfl)
            refine lv_iload_n hx hb dX0_findLevels_156 rfl (lv_at hl 3 rfl) ?_
            refine lv_istore_n (lv' := [(3, .int ((xlA C f k i).1)), (4, .int (nI 1)), (6, .int (-1)), (5, .int (nI i)), (2, .int (nI k)), (1, .int (nI t)), (0, .ref (jA j 0))]) hx hb dX0_findLevels_157 rfl hl (by decide) rfl (fun ls hl => ?_)
            refine lv_iinc (v := nI (i + 1)) (lv' := [(5, .int (nI (i + 1))), (3, .int ((xlA C f k i).1)), (4, .int (nI 1)), (6, .int (-1)), (2, .int (nI k)), (1, .int (nI t)), (0, .ref (jA j 0))]) hx hb dX0_findLevels_158 hl (k := 3) rfl (nI_1 _) (by decide) rfl (fun ls hl => ?_)
            refine lv_goto (tgt := 81) hx hb dX0_findLevels_161 (by decide) ?_
            exact ih (i + 1) (by omega) (by omega) H locs ls G (lv_eq (lv_sub (l' := [(5, .int (nI (i + 1))), (4, .int (nI 1)), (3, .int ((xlA C f k i).1)), (2, .int (nI k)), (1, .int (nI t)), (0, .ref (jA j 0))]) hl [0, 2, 1, 4, 5, 6] rfl) (by simp [xlA_s, xlS, bI0, bI1, c_85, c_90, c_110, c_139])) kk
          · rw [c_110] at hl
            have hl : lv_has ls 7 [(6, .int (nI k_110)), (5, .int (nI i)), (4, .int (bI ((xlA C f k i).2))), (3, .int ((xlA C f k i).1)), (2, .int (nI k)), (1, .int (nI t)), (0, .ref (jA j 0))] := hl
            have hkN := hC.f c_110
            refine lv_aload_n hx hb dX0_findLevels_113 rfl (lv_at hl 6 rfl) ?_
            refine xx_getP S G 14 (by decide) q103 rfl (v := .ref (jA j 6)) rfl dX0_findLevels_114 ?_
            refine lv_iload hx hb dX0_findLevels_117 (lv_at hl 0 rfl) ?_
            refine xx_iald S G (r := 6) (by decide) (xW_p (by decide) rfl) 0 rfl (i := k_110) (by omega) (by decide) (v := f k_110) rfl dX0_findLevels_119 ?_
            refine lv_iconst (v := (-1)) hx hb dX0_findLevels_120 (by decide) ?_
            refine lv_icmp_eq (tgt := 128) hx hb dX0_findLevels_121 (by decide) (fun c_121 => ?_) (fun c_121 => ?_)
            · refine lv_iconst (v := nI 0) hx hb dX0_findLevels_128 (by decide) ?_
              refine lv_istore (lv' := [(4, .int (nI 0)), (6, .int (nI k_110)), (5, .int (nI i)), (3, .int ((xlA C f k i).1)), (2, .int (nI k)), (1, .int (nI t)), (0, .ref (jA j 0))]) hx hb dX0_findLevels_129 hl (by decide) rfl (fun ls hl => ?_)
              refine lv_iload hx hb dX0_findLevels_131 (lv_at hl 0 rfl) ?_
              refine lv_if_eq (tgt := 156) hx hb dX0_findLevels_133 (by decide) (fun _ => ?_) (fun c_ => absurd (by decide) c_)
              refine lv_iload_n hx hb dX0_findLevels_156 rfl (lv_at hl 3 rfl) ?_
              refine lv_istore_n (lv' := [(3, .int ((xlA C f k i).1)), (4, .int (nI 0)), (6, .int (nI k_110)), (5, .int (nI i)), (2, .int (nI k)), (1, .int (nI t)), (0, .ref (jA j 0))]) hx hb dX0_findLevels_157 rfl hl (by decide) rfl (fun ls hl => ?_)
              refine lv_iinc (v := nI (i + 1)) (lv' := [(5, .int (nI (i + 1))), (3, .int ((xlA C f k i).1)), (4, .int (nI 0)), (6, .int (nI k_110)), (2, .int (nI k)), (1, .int (nI t)), (0, .ref (jA j 0))]) hx hb dX0_findLevels_158 hl (k := 3) rfl (nI_1 _) (by decide) rfl (fun ls hl => ?_)
              refine lv_goto (tgt := 81) hx hb dX0_findLevels_161 (by decide) ?_
              exact ih (i + 1) (by omega) (by omega) H locs ls G (lv_eq (lv_sub (l' := [(5, .int (nI (i + 1))), (4, .int (nI 0)), (3, .int ((xlA C f k i).1)), (2, .int (nI k)), (1, .int (nI t)), (0, .ref (jA j 0))]) hl [0, 2, 1, 4, 5, 6] rfl) (by simp [xlA_s, xlS, bI0, bI1, c_85, c_90, c_110, c_121])) kk
            · refine lv_iconst (v := nI 1) hx hb dX0_findLevels_124 (by decide) ?_
              refine lv_goto (tgt := 129) hx hb dX0_findLevels_125 (by decide) ?_
              refine lv_istore (lv' := [(4, .int (nI 1)), (6, .int (nI k_110)), (5, .int (nI i)), (3, .int ((xlA C f k i).1)), (2, .int (nI k)), (1, .int (nI t)), (0, .ref (jA j 0))]) hx hb dX0_findLevels_129 hl (by decide) rfl (fun ls hl => ?_)
              refine lv_iload hx hb dX0_findLevels_131 (lv_at hl 0 rfl) ?_
              refine lv_if_eq (tgt := 156) hx hb dX0_findLevels_133 (by decide) (fun c_ => absurd c_ (by decide)) (fun _ => ?_)
              refine lv_iload hx hb dX0_findLevels_136 (lv_at hl 1 rfl) ?_
              refine lv_iconst (v := (-1)) hx hb dX0_findLevels_138 (by decide) ?_
              refine lv_icmp_eq (tgt := 156) hx hb dX0_findLevels_139 (by decide) (fun c_139 => by exfalso; exact nI_nm1 (by omega) c_139) (fun c_139 => ?_)
              refine lv_iload_n hx hb dX0_findLevels_142 rfl (lv_at hl 3 rfl) ?_
              refine lv_aload_n hx hb dX0_findLevels_143 rfl (lv_at hl 6 rfl) ?_
              refine xx_getP S G 14 (by decide) q103 rfl (v := .ref (jA j 6)) rfl dX0_findLevels_144 ?_
              refine lv_iload hx hb dX0_findLevels_147 (lv_at hl 1 rfl) ?_
              refine xx_iald S G (r := 6) (by decide) (xW_p (by decide) rfl) 0 rfl (i := k_110) (by omega) (by decide) (v := f k_110) rfl dX0_findLevels_149 ?_
              refine sC_call (As := [.int ((xlA C f k i).1), .int (f k_110)]) (rest := []) S (st_J1_max l ((xlA C f k i).1) (f k_110)) q674 q675 q56 q676 hd_J1_max ⟨Nat.le_of_ble_eq_true rfl, Nat.le_of_ble_eq_true rfl⟩ rfl hl.1 rfl (Nat.le_of_ble_eq_true rfl) dX0_findLevels_150 ⟨Nat.zero_le _, Nat.zero_le _⟩ ?_
              refine W.eq (g2 := F0 mid 153 ls [.int (mxI ((xlA C f k i).1) (f k_110))]) rfl ?_
              refine lv_goto (tgt := 157) hx hb dX0_findLevels_153 (by decide) ?_
              refine lv_istore_n (lv' := [(3, .int (mxI ((xlA C f k i).1) (f k_110))), (4, .int (nI 1)), (6, .int (nI k_110)), (5, .int (nI i)), (2, .int (nI k)), (1, .int (nI t)), (0, .ref (jA j 0))]) hx hb dX0_findLevels_157 rfl hl (by decide) rfl (fun ls hl => ?_)
              refine lv_iinc (v := nI (i + 1)) (lv' := [(5, .int (nI (i + 1))), (3, .int (mxI ((xlA C f k i).1) (f k_110))), (4, .int (nI 1)), (6, .int (nI k_110)), (2, .int (nI k)), (1, .int (nI t)), (0, .ref (jA j 0))]) hx hb dX0_findLevels_158 hl (k := 3) rfl (nI_1 _) (by decide) rfl (fun ls hl => ?_)
              refine lv_goto (tgt := 81) hx hb dX0_findLevels_161 (by decide) ?_
              exact ih (i + 1) (by omega) (by omega) H locs ls G (lv_eq (lv_sub (l' := [(5, .int (nI (i + 1))), (4, .int (nI 1)), (3, .int (mxI ((xlA C f k i).1) (f k_110))), (2, .int (nI k)), (1, .int (nI t)), (0, .ref (jA j 0))]) hl [0, 2, 1, 4, 5, 6] rfl) (by simp [xlA_s, xlS, bI0, bI1, c_85, c_90, c_110, c_121, c_139])) kk
  have L2 : ∀ (f : Nat → Int32) (t : Nat) (ht : t < cN C) (n_ k : Nat), k ≤ cN C → cN C < k + n_ → ∀ (H : Heap) (locs : List Loc) (ls : Array Slot), xG D dA (xA dA C d j) C (sAI d 10 (it_ (leM C) k f)) j s0 H locs → lv_has ls 7 [(2, .int (nI k)), (1, .int (nI t)), (0, .ref (jA j 0))] → (∀ (H : Heap) (locs : List Loc) (ls : Array Slot), xG D dA (xA dA C d j) C (sAI d 10 (it_ (leM C) (cN C) f)) j s0 H locs → lv_has ls 7 [(2, .int (nI (cN C))), (1, .int (nI t)), (0, .ref (jA j 0))] → W p0 l e0 (rm_ 1) s0 mid ([.ref (jA j 0)] : List Value).toArray bl0 me0 co0 H locs 0 0 (MQ bl0 (xQ D dA C d j none C (leD C d) j) ([.ref (jA j 0)] : List Value).toArray s0 0 0 (xA dA C d j)) (F0 mid 193 ls [])) → W p0 l e0 (rm_ 1) s0 mid ([.ref (jA j 0)] : List Value).toArray bl0 me0 co0 H locs 0 0 (MQ bl0 (xQ D dA C d j none C (leD C d) j) ([.ref (jA j 0)] : List Value).toArray s0 0 0 (xA dA C d j)) (F0 mid 51 ls []) := by
    intro f t ht n_
    induction n_ with
    | zero => intro k h1_ h2_; exact absurd h2_ (by omega)
    | succ n_ ih =>
      intro k h1_ h2_ H locs ls G hl kk
      refine lv_iload_n hx hb dX0_findLevels_51 rfl (lv_at hl 0 rfl) ?_
      refine lv_aload_n hx hb dX0_findLevels_52 rfl (lv_at hl 2 rfl) ?_
      refine xx_getP S G 1 (by decide) q90 rfl (v := .int (nI (cN C))) rfl dX0_findLevels_53 ?_
      refine nn_cge (tgt := 193) hx hb (by omega) (by omega) dX0_findLevels_56 (by decide) (fun c_56 => ?_) (fun c_56 => ?_)
      · have hiN : k = cN C := by omega
        subst hiN
        exact kk H locs ls G (lv_sub hl [0, 1, 2] rfl)
      · refine lv_iconst (v := nI 0) hx hb dX0_findLevels_59 (by decide) ?_
        refine lv_istore_n (lv' := [(3, .int (nI 0)), (2, .int (nI k)), (1, .int (nI t)), (0, .ref (jA j 0))]) hx hb dX0_findLevels_60 rfl hl (by decide) rfl (fun ls hl => ?_)
        refine lv_aload_n hx hb dX0_findLevels_61 rfl (lv_at hl 3 rfl) ?_
        refine xx_getP S G 14 (by decide) q103 rfl (v := .ref (jA j 6)) rfl dX0_findLevels_62 ?_
        refine lv_iload_n hx hb dX0_findLevels_65 rfl (lv_at hl 1 rfl) ?_
        refine xx_iald S G (r := 6) (by decide) (xW_p (by decide) rfl) 0 rfl (i := k) (by omega) (by decide) (v := it_ (leM C) k f k) rfl dX0_findLevels_66 ?_
        refine lv_iconst (v := (-1)) hx hb dX0_findLevels_67 (by decide) ?_
        refine lv_icmp_ne (tgt := 75) hx hb dX0_findLevels_68 (by decide) (fun c_68 => ?_) (fun c_68 => ?_)
        · refine lv_iconst (v := nI 0) hx hb dX0_findLevels_75 (by decide) ?_
          refine lv_istore (lv' := [(4, .int (nI 0)), (3, .int (nI 0)), (2, .int (nI k)), (1, .int (nI t)), (0, .ref (jA j 0))]) hx hb dX0_findLevels_76 hl (by decide) rfl (fun ls hl => ?_)
          refine lv_iconst (v := nI 0) hx hb dX0_findLevels_78 (by decide) ?_
          refine lv_istore (lv' := [(5, .int (nI 0)), (4, .int (nI 0)), (3, .int (nI 0)), (2, .int (nI k)), (1, .int (nI t)), (0, .ref (jA j 0))]) hx hb dX0_findLevels_79 hl (by decide) rfl (fun ls hl => ?_)
          refine L3 (it_ (leM C) k f) t k (by omega) ht 7 0 (by omega) (by omega) _ _ ls G (lv_eq (lv_sub (l' := [(5, .int (nI 0)), (4, .int (nI 0)), (3, .int (nI 0)), (2, .int (nI k)), (1, .int (nI t)), (0, .ref (jA j 0))]) hl [0, 1, 2, 3, 4, 5] rfl) (by simp [xlA_0, bI0, bI1, c_56, c_68])) (fun i H locs ls hx_ G hl => ?_)
          refine lv_aload_n hx hb dX0_findLevels_164 rfl (lv_at hl 5 rfl) ?_
          refine xx_getP S G 14 (by decide) q103 rfl (v := .ref (jA j 6)) rfl dX0_findLevels_165 ?_
          refine lv_iload_n hx hb dX0_findLevels_168 rfl (lv_at hl 3 rfl) ?_
          refine lv_iload hx hb dX0_findLevels_169 (lv_at hl 1 rfl) ?_
          refine bb_eq (tgt := 180) hx hb dX0_findLevels_171 (by decide) (fun c_171 => ?_) (fun c_171 => ?_)
          · refine lv_aload_n hx hb dX0_findLevels_180 rfl (lv_at hl 5 rfl) ?_
            refine xx_getP S G 14 (by decide) q103 rfl (v := .ref (jA j 6)) rfl dX0_findLevels_181 ?_
            refine lv_iload_n hx hb dX0_findLevels_184 rfl (lv_at hl 3 rfl) ?_
            refine xx_iald S G (r := 6) (by decide) (xW_p (by decide) rfl) 0 rfl (i := k) (by omega) (by decide) (v := it_ (leM C) k f k) rfl dX0_findLevels_185 ?_
            refine xx_iast S G (r := 6) (by decide) (xW_p (by decide) rfl) 0 rfl (i := k) (by omega) (by decide) xs_R6 dX0_findLevels_186 (fun H locs G => ?_)
            refine lv_iinc (v := nI (k + 1)) (lv' := [(2, .int (nI (k + 1))), (5, .int (nI i)), (4, .int (bI ((xlA C (it_ (leM C) k f) k i).2))), (3, .int ((xlA C (it_ (leM C) k f) k i).1)), (1, .int (nI t)), (0, .ref (jA j 0))]) hx hb dX0_findLevels_187 hl (k := 3) rfl (nI_1 _) (by decide) rfl (fun ls hl => ?_)
            refine lv_goto (tgt := 51) hx hb dX0_findLevels_190 (by decide) ?_
            exact ih (k + 1) (by omega) (by omega) H locs ls (xG_d (xL_e rfl (by rw [uAI_sAI, it_s, ← xl_M, ← hx_]; simp [c_171]) rfl) G) (lv_sub hl [0, 4, 5] rfl) kk
          · refine lv_iload_n hx hb dX0_findLevels_174 rfl (lv_at hl 2 rfl) ?_
            refine lv_iconst (v := nI 1) hx hb dX0_findLevels_175 (by decide) ?_
            refine lv_iadd hx hb dX0_findLevels_176 ?_
            refine lv_goto (tgt := 186) hx hb dX0_findLevels_177 (by decide) ?_
            refine xx_iast S G (r := 6) (by decide) (xW_p (by decide) rfl) 0 rfl (i := k) (by omega) (by decide) xs_R6 dX0_findLevels_186 (fun H locs G => ?_)
            refine lv_iinc (v := nI (k + 1)) (lv' := [(2, .int (nI (k + 1))), (5, .int (nI i)), (4, .int (bI ((xlA C (it_ (leM C) k f) k i).2))), (3, .int ((xlA C (it_ (leM C) k f) k i).1)), (1, .int (nI t)), (0, .ref (jA j 0))]) hx hb dX0_findLevels_187 hl (k := 3) rfl (nI_1 _) (by decide) rfl (fun ls hl => ?_)
            refine lv_goto (tgt := 51) hx hb dX0_findLevels_190 (by decide) ?_
            exact ih (k + 1) (by omega) (by omega) H locs ls (xG_d (xL_e rfl (by rw [uAI_sAI, it_s, ← xl_M, ← hx_]; simp [c_171]) rfl) G) (lv_sub hl [0, 4, 5] rfl) kk
        · refine lv_iconst (v := nI 1) hx hb dX0_findLevels_71 (by decide) ?_
          refine lv_goto (tgt := 76) hx hb dX0_findLevels_72 (by decide) ?_
          refine lv_istore (lv' := [(4, .int (nI 1)), (3, .int (nI 0)), (2, .int (nI k)), (1, .int (nI t)), (0, .ref (jA j 0))]) hx hb dX0_findLevels_76 hl (by decide) rfl (fun ls hl => ?_)
          refine lv_iconst (v := nI 0) hx hb dX0_findLevels_78 (by decide) ?_
          refine lv_istore (lv' := [(5, .int (nI 0)), (4, .int (nI 1)), (3, .int (nI 0)), (2, .int (nI k)), (1, .int (nI t)), (0, .ref (jA j 0))]) hx hb dX0_findLevels_79 hl (by decide) rfl (fun ls hl => ?_)
          refine L3 (it_ (leM C) k f) t k (by omega) ht 7 0 (by omega) (by omega) _ _ ls G (lv_eq (lv_sub (l' := [(5, .int (nI 0)), (4, .int (nI 1)), (3, .int (nI 0)), (2, .int (nI k)), (1, .int (nI t)), (0, .ref (jA j 0))]) hl [0, 1, 2, 3, 4, 5] rfl) (by simp [xlA_0, bI0, bI1, c_56, c_68])) (fun i H locs ls hx_ G hl => ?_)
          refine lv_aload_n hx hb dX0_findLevels_164 rfl (lv_at hl 5 rfl) ?_
          refine xx_getP S G 14 (by decide) q103 rfl (v := .ref (jA j 6)) rfl dX0_findLevels_165 ?_
          refine lv_iload_n hx hb dX0_findLevels_168 rfl (lv_at hl 3 rfl) ?_
          refine lv_iload hx hb dX0_findLevels_169 (lv_at hl 1 rfl) ?_
          refine bb_eq (tgt := 180) hx hb dX0_findLevels_171 (by decide) (fun c_171 => ?_) (fun c_171 => ?_)
          · refine lv_aload_n hx hb dX0_findLevels_180 rfl (lv_at hl 5 rfl) ?_
            refine xx_getP S G 14 (by decide) q103 rfl (v := .ref (jA j 6)) rfl dX0_findLevels_181 ?_
            refine lv_iload_n hx hb dX0_findLevels_184 rfl (lv_at hl 3 rfl) ?_
            refine xx_iald S G (r := 6) (by decide) (xW_p (by decide) rfl) 0 rfl (i := k) (by omega) (by decide) (v := it_ (leM C) k f k) rfl dX0_findLevels_185 ?_
            refine xx_iast S G (r := 6) (by decide) (xW_p (by decide) rfl) 0 rfl (i := k) (by omega) (by decide) xs_R6 dX0_findLevels_186 (fun H locs G => ?_)
            refine lv_iinc (v := nI (k + 1)) (lv' := [(2, .int (nI (k + 1))), (5, .int (nI i)), (4, .int (bI ((xlA C (it_ (leM C) k f) k i).2))), (3, .int ((xlA C (it_ (leM C) k f) k i).1)), (1, .int (nI t)), (0, .ref (jA j 0))]) hx hb dX0_findLevels_187 hl (k := 3) rfl (nI_1 _) (by decide) rfl (fun ls hl => ?_)
            refine lv_goto (tgt := 51) hx hb dX0_findLevels_190 (by decide) ?_
            exact ih (k + 1) (by omega) (by omega) H locs ls (xG_d (xL_e rfl (by rw [uAI_sAI, it_s, ← xl_M, ← hx_]; simp [c_171]) rfl) G) (lv_sub hl [0, 4, 5] rfl) kk
          · refine lv_iload_n hx hb dX0_findLevels_174 rfl (lv_at hl 2 rfl) ?_
            refine lv_iconst (v := nI 1) hx hb dX0_findLevels_175 (by decide) ?_
            refine lv_iadd hx hb dX0_findLevels_176 ?_
            refine lv_goto (tgt := 186) hx hb dX0_findLevels_177 (by decide) ?_
            refine xx_iast S G (r := 6) (by decide) (xW_p (by decide) rfl) 0 rfl (i := k) (by omega) (by decide) xs_R6 dX0_findLevels_186 (fun H locs G => ?_)
            refine lv_iinc (v := nI (k + 1)) (lv' := [(2, .int (nI (k + 1))), (5, .int (nI i)), (4, .int (bI ((xlA C (it_ (leM C) k f) k i).2))), (3, .int ((xlA C (it_ (leM C) k f) k i).1)), (1, .int (nI t)), (0, .ref (jA j 0))]) hx hb dX0_findLevels_187 hl (k := 3) rfl (nI_1 _) (by decide) rfl (fun ls hl => ?_)
            refine lv_goto (tgt := 51) hx hb dX0_findLevels_190 (by decide) ?_
            exact ih (k + 1) (by omega) (by omega) H locs ls (xG_d (xL_e rfl (by rw [uAI_sAI, it_s, ← xl_M, ← hx_]; simp [c_171]) rfl) G) (lv_sub hl [0, 4, 5] rfl) kk
  have L1 : ∀ (n_ t : Nat), t ≤ cN C → cN C < t + n_ → ∀ (H : Heap) (locs : List Loc) (ls : Array Slot), xG D dA (xA dA C d j) C (sAI d 10 (it_ (leT C) t (le0 C (dAI d 10) (cN C)))) j s0 H locs → lv_has ls 7 [(1, .int (nI t)), (0, .ref (jA j 0))] → (∀ (H : Heap) (locs : List Loc) (ls : Array Slot), xG D dA (xA dA C d j) C (sAI d 10 (it_ (leT C) (cN C) (le0 C (dAI d 10) (cN C)))) j s0 H locs → lv_has ls 7 [(1, .int (nI (cN C))), (0, .ref (jA j 0))] → W p0 l e0 (rm_ 1) s0 mid ([.ref (jA j 0)] : List Value).toArray bl0 me0 co0 H locs 0 0 (MQ bl0 (xQ D dA C d j none C (leD C d) j) ([.ref (jA j 0)] : List Value).toArray s0 0 0 (xA dA C d j)) (F0 mid 199 ls [])) → W p0 l e0 (rm_ 1) s0 mid ([.ref (jA j 0)] : List Value).toArray bl0 me0 co0 H locs 0 0 (MQ bl0 (xQ D dA C d j none C (leD C d) j) ([.ref (jA j 0)] : List Value).toArray s0 0 0 (xA dA C d j)) (F0 mid 41 ls []) := by
    intro n_
    induction n_ with
    | zero => intro t h1_ h2_; exact absurd h2_ (by omega)
    | succ n_ ih =>
      intro t h1_ h2_ H locs ls G hl kk
      refine lv_iload_n hx hb dX0_findLevels_41 rfl (lv_at hl 0 rfl) ?_
      refine lv_aload_n hx hb dX0_findLevels_42 rfl (lv_at hl 1 rfl) ?_
      refine xx_getP S G 1 (by decide) q90 rfl (v := .int (nI (cN C))) rfl dX0_findLevels_43 ?_
      refine nn_cge (tgt := 199) hx hb (by omega) (by omega) dX0_findLevels_46 (by decide) (fun c_46 => ?_) (fun c_46 => ?_)
      · have hiN : t = cN C := by omega
        subst hiN
        exact kk H locs ls G (lv_sub hl [0, 1] rfl)
      · refine lv_iconst (v := nI 0) hx hb dX0_findLevels_49 (by decide) ?_
        refine lv_istore_n (lv' := [(2, .int (nI 0)), (1, .int (nI t)), (0, .ref (jA j 0))]) hx hb dX0_findLevels_50 rfl hl (by decide) rfl (fun ls hl => ?_)
        refine L2 (it_ (leT C) t (le0 C (dAI d 10) (cN C))) t (by omega) (cN C + 1) 0 (by omega) (by omega) _ _ ls (xG_d (xL_e rfl (by rfl) rfl) G) (lv_sub hl [0, 1, 2] rfl) (fun H locs ls G hl => ?_)
        refine lv_iinc (v := nI (t + 1)) (lv' := [(1, .int (nI (t + 1))), (2, .int (nI (cN C))), (0, .ref (jA j 0))]) hx hb dX0_findLevels_193 hl (k := 1) rfl (nI_1 _) (by decide) rfl (fun ls hl => ?_)
        refine lv_goto (tgt := 41) hx hb dX0_findLevels_196 (by decide) ?_
        exact ih (t + 1) (by omega) (by omega) H locs ls (xG_d (xL_e rfl (by rfl) rfl) G) (lv_sub hl [0, 2] rfl) kk
  refine lv_iconst (v := nI 0) hx hb dX0_findLevels_0 (by decide) ?_
  refine lv_istore_n (lv' := [(1, .int (nI 0)), (0, .ref (jA j 0))]) hx hb dX0_findLevels_1 rfl hl (by decide) rfl (fun ls hl => ?_)
  refine L0 (cN C + 1) 0 (by omega) (by omega) _ _ ls (xG_d (xL_e rfl (by exact (sAI_self d 10).symm) rfl) G) (lv_sub hl [0, 1] rfl) (fun H locs ls G hl => ?_)
  refine lv_iconst (v := nI 0) hx hb dX0_findLevels_39 (by decide) ?_
  refine lv_istore_n (lv' := [(1, .int (nI 0)), (0, .ref (jA j 0))]) hx hb dX0_findLevels_40 rfl hl (by decide) rfl (fun ls hl => ?_)
  refine L1 (cN C + 1) 0 (by omega) (by omega) _ _ ls (xG_d (xL_e rfl (by rfl) rfl) G) (lv_sub hl [0, 1] rfl) (fun H locs ls G hl => ?_)
  exact xx_vret S hr hlk G (xL_e rfl (by rfl) rfl) dX0_findLevels_199
theorem xt_X0_level (l : Launch) (D : va_G) (dA : Nat → ClassId) (C : tp_C) (d : md_T) (j : xj_T) (m : Int32) (hC : mOK C) : xC l D dA yX0_level cX0_level 2 (some .int) 2 [.ref (jA j 0), .int m] C d j (some (.int (if imB C m then leF C (dAI d 10) (ixN m) else (-101)))) C (if imB C m then leD C d else d) j := by
  refine xx_start (own := RX0) (by decide) rfl (Nat.le_of_ble_eq_true rfl) ?_
  intro p0 e0 s0 mid bl0 me0 co0 ls S hr hlk G hl
  have hx := S.1; have hb := S.2.1; have hml := S.2.2.1; have hown := S.2.2.2.1; have hts := S.2.2.2.2; have hN := hC.n
  have hl : lv_has ls 2 [(0, .ref (jA j 0)), (1, .int m)] := hl
  refine lv_aload_n hx hb dX0_level_0 rfl (lv_at hl 0 rfl) ?_
  refine lv_iload_n hx hb dX0_level_1 rfl (lv_at hl 1 rfl) ?_
  refine xx_callP (As := [.int m]) (rest := []) S G (xt_X0_isModule l D dA C d j m hC) q575 q577 qs0 q578 hd_X0_isModule ⟨Nat.le_of_ble_eq_true rfl, Nat.le_of_ble_eq_true rfl⟩ rfl hl.1 rfl (Nat.le_of_ble_eq_true rfl) dX0_level_2 ⟨Nat.zero_le _, Nat.zero_le _⟩ (fun H locs G => ?_)
  refine W.eq (g2 := F0 mid 5 ls [.int (bI (inB m (nI 0) (nI (cN C) - nI 1)))]) rfl ?_
  refine bb_ne (tgt := 11) hx hb dX0_level_5 (by decide) (fun c_5 => ?_) (fun c_5 => ?_)
  · obtain ⟨u, hu, rfl⟩ := im_nat c_5 hN
    have ij_u : ixN (nI u) = u := ixN_nI (by omega)
    refine lv_aload_n hx hb dX0_level_11 rfl (lv_at hl 0 rfl) ?_
    refine xx_callP (As := []) (rest := []) S G (xt_X0_findLevels l D dA C d j hC) q670 q672 qs4 q673 hd_X0_findLevels ⟨Nat.le_of_ble_eq_true rfl, Nat.le_of_ble_eq_true rfl⟩ rfl hl.1 rfl (Nat.le_of_ble_eq_true rfl) dX0_level_12 ⟨Nat.zero_le _, Nat.zero_le _⟩ (fun H locs G => ?_)
    refine W.eq (g2 := F0 mid 15 ls []) rfl ?_
    refine lv_aload_n hx hb dX0_level_15 rfl (lv_at hl 0 rfl) ?_
    refine xx_getP S G 14 (by decide) q103 rfl (v := .ref (jA j 6)) rfl dX0_level_16 ?_
    refine lv_iload_n hx hb dX0_level_19 rfl (lv_at hl 1 rfl) ?_
    refine xx_iald S G (r := 6) (by decide) (xW_p (by decide) rfl) 0 rfl (i := u) (by omega) (by decide) (v := leF C (dAI d 10) u) rfl dX0_level_20 ?_
    exact xx_iret S hr hlk G (by simp [imB, c_5, ij_u]) (xL_e rfl (by simp [imB, c_5, ij_u]) rfl) dX0_level_21
  · refine lv_bipush (v := (-101)) hx hb dX0_level_8 (by decide) ?_
    exact xx_iret S hr hlk G (by simp [imB, c_5]) (xL_e rfl (by simp [imB, c_5]) rfl) dX0_level_10
theorem xt_X0_greatest (l : Launch) (D : va_G) (dA : Nat → ClassId) (C : tp_C) (d : md_T) (j : xj_T) (hC : mOK C) : xC l D dA yX0_greatest cX0_greatest 3 (some .int) 2 [.ref (jA j 0)] C d j (some (.int (rmx (leF C (dAI d 10)) (cN C)))) C (leD C d) j := by
  refine xx_start (own := RX0) (by decide) rfl (Nat.le_of_ble_eq_true rfl) ?_
  intro p0 e0 s0 mid bl0 me0 co0 ls S hr hlk G hl
  have hx := S.1; have hb := S.2.1; have hml := S.2.2.1; have hown := S.2.2.2.1; have hts := S.2.2.2.2; have hN := hC.n
  have hl : lv_has ls 3 [(0, .ref (jA j 0))] := hl
  have L1 : ∀ (n_ i : Nat), i ≤ cN C → cN C < i + n_ → ∀ (H : Heap) (locs : List Loc) (ls : Array Slot), xG D dA (xA dA C d j) C (leD C d) j s0 H locs → lv_has ls 3 [(2, .int (nI i)), (1, .int (rmx (leF C (dAI d 10)) i)), (0, .ref (jA j 0))] → (∀ (H : Heap) (locs : List Loc) (ls : Array Slot), xG D dA (xA dA C d j) C (leD C d) j s0 H locs → lv_has ls 3 [(2, .int (nI (cN C))), (1, .int (rmx (leF C (dAI d 10)) (cN C))), (0, .ref (jA j 0))] → W p0 l e0 (rm_ 2) s0 mid ([.ref (jA j 0)] : List Value).toArray bl0 me0 co0 H locs 0 0 (MQ bl0 (xQ D dA C d j (some (.int (rmx (leF C (dAI d 10)) (cN C)))) C (leD C d) j) ([.ref (jA j 0)] : List Value).toArray s0 0 0 (xA dA C d j)) (F0 mid 33 ls [])) → W p0 l e0 (rm_ 2) s0 mid ([.ref (jA j 0)] : List Value).toArray bl0 me0 co0 H locs 0 0 (MQ bl0 (xQ D dA C d j (some (.int (rmx (leF C (dAI d 10)) (cN C)))) C (leD C d) j) ([.ref (jA j 0)] : List Value).toArray s0 0 0 (xA dA C d j)) (F0 mid 8 ls []) := by
    intro n_
    induction n_ with
    | zero => intro i h1_ h2_; exact absurd h2_ (by omega)
    | succ n_ ih =>
      intro i h1_ h2_ H locs ls G hl kk
      refine lv_iload_n hx hb dX0_greatest_8 rfl (lv_at hl 0 rfl) ?_
      refine lv_aload_n hx hb dX0_greatest_9 rfl (lv_at hl 2 rfl) ?_
      refine xx_getP S G 1 (by decide) q90 rfl (v := .int (nI (cN C))) rfl dX0_greatest_10 ?_
      refine nn_cge (tgt := 33) hx hb (by omega) (by omega) dX0_greatest_13 (by decide) (fun c_13 => ?_) (fun c_13 => ?_)
      · have hiN : i = cN C := by omega
        subst hiN
        exact kk H locs ls G (lv_sub hl [0, 1, 2] rfl)
      · refine lv_iload_n hx hb dX0_greatest_16 rfl (lv_at hl 1 rfl) ?_
        refine lv_aload_n hx hb dX0_greatest_17 rfl (lv_at hl 2 rfl) ?_
        refine xx_getP S G 14 (by decide) q103 rfl (v := .ref (jA j 6)) rfl dX0_greatest_18 ?_
        refine lv_iload_n hx hb dX0_greatest_21 rfl (lv_at hl 0 rfl) ?_
        refine xx_iald S G (r := 6) (by decide) (xW_p (by decide) rfl) 0 rfl (i := i) (by omega) (by decide) (v := leF C (dAI d 10) i) rfl dX0_greatest_22 ?_
        refine sC_call (As := [.int (rmx (leF C (dAI d 10)) i), .int (leF C (dAI d 10) i)]) (rest := []) S (st_J1_max l (rmx (leF C (dAI d 10)) i) (leF C (dAI d 10) i)) q674 q675 q56 q676 hd_J1_max ⟨Nat.le_of_ble_eq_true rfl, Nat.le_of_ble_eq_true rfl⟩ rfl hl.1 rfl (Nat.le_of_ble_eq_true rfl) dX0_greatest_23 ⟨Nat.zero_le _, Nat.zero_le _⟩ ?_
        refine W.eq (g2 := F0 mid 26 ls [.int (mxI (rmx (leF C (dAI d 10)) i) (leF C (dAI d 10) i))]) rfl ?_
        refine lv_istore_n (lv' := [(1, .int (mxI (rmx (leF C (dAI d 10)) i) (leF C (dAI d 10) i))), (2, .int (nI i)), (0, .ref (jA j 0))]) hx hb dX0_greatest_26 rfl hl (by decide) rfl (fun ls hl => ?_)
        refine lv_iinc (v := nI (i + 1)) (lv' := [(2, .int (nI (i + 1))), (1, .int (mxI (rmx (leF C (dAI d 10)) i) (leF C (dAI d 10) i))), (0, .ref (jA j 0))]) hx hb dX0_greatest_27 hl (k := 1) rfl (nI_1 _) (by decide) rfl (fun ls hl => ?_)
        refine lv_goto (tgt := 8) hx hb dX0_greatest_30 (by decide) ?_
        exact ih (i + 1) (by omega) (by omega) H locs ls G (lv_eq (lv_sub (l' := [(2, .int (nI (i + 1))), (1, .int (mxI (rmx (leF C (dAI d 10)) i) (leF C (dAI d 10) i))), (0, .ref (jA j 0))]) hl [0, 1, 2] rfl) (by simp [rmx_s, mx_le])) kk
  refine lv_aload_n hx hb dX0_greatest_0 rfl (lv_at hl 0 rfl) ?_
  refine xx_callP (As := []) (rest := []) S G (xt_X0_findLevels l D dA C d j hC) q670 q672 qs4 q673 hd_X0_findLevels ⟨Nat.le_of_ble_eq_true rfl, Nat.le_of_ble_eq_true rfl⟩ rfl hl.1 rfl (Nat.le_of_ble_eq_true rfl) dX0_greatest_1 ⟨Nat.zero_le _, Nat.zero_le _⟩ (fun H locs G => ?_)
  refine W.eq (g2 := F0 mid 4 ls []) rfl ?_
  refine lv_iconst (v := nI 0) hx hb dX0_greatest_4 (by decide) ?_
  refine lv_istore_n (lv' := [(1, .int (nI 0)), (0, .ref (jA j 0))]) hx hb dX0_greatest_5 rfl hl (by decide) rfl (fun ls hl => ?_)
  refine lv_iconst (v := nI 0) hx hb dX0_greatest_6 (by decide) ?_
  refine lv_istore_n (lv' := [(2, .int (nI 0)), (1, .int (nI 0)), (0, .ref (jA j 0))]) hx hb dX0_greatest_7 rfl hl (by decide) rfl (fun ls hl => ?_)
  refine L1 (cN C + 1) 0 (by omega) (by omega) _ _ ls G (lv_eq (lv_sub (l' := [(2, .int (nI 0)), (1, .int (nI 0)), (0, .ref (jA j 0))]) hl [0, 1, 2] rfl) (by rfl)) (fun H locs ls G hl => ?_)
  refine lv_iload_n hx hb dX0_greatest_33 rfl (lv_at hl 1 rfl) ?_
  exact xx_iret S hr hlk G rfl rfl dX0_greatest_34
theorem xt_X0_cords (l : Launch) (D : va_G) (dA : Nat → ClassId) (C : tp_C) (d : md_T) (j : xj_T) (hC : mOK C) : xC l D dA yX0_cords cX0_cords 7 (some .int) 0 [.ref (jA j 0)] C d j (some (.int (nI (ctX C (cN C))))) C d j := by
  refine xx_start (own := RX0) (by decide) rfl (Nat.le_of_ble_eq_true rfl) ?_
  intro p0 e0 s0 mid bl0 me0 co0 ls S hr hlk G hl
  have hx := S.1; have hb := S.2.1; have hml := S.2.2.1; have hown := S.2.2.2.1; have hts := S.2.2.2.2; have hN := hC.n
  have hl : lv_has ls 7 [(0, .ref (jA j 0))] := hl
  have L2 : ∀ (m : Nat) (hm : m < cN C) (hle : ctX C m ≤ 6 * m) (n_ i : Nat), i ≤ 6 → 6 < i + n_ → ∀ (H : Heap) (locs : List Loc) (ls : Array Slot), xG D dA (xA dA C d j) C d j s0 H locs → lv_has ls 7 [(5, .int (nI i)), (1, .int (nI (ctX C m + ctY C m i))), (2, .int (nI m)), (3, .ref (jA j (xr m 1))), (4, .int (nI 6)), (0, .ref (jA j 0))] → (∀ (H : Heap) (locs : List Loc) (ls : Array Slot), xG D dA (xA dA C d j) C d j s0 H locs → lv_has ls 7 [(5, .int (nI 6)), (1, .int (nI (ctX C m + ctY C m 6))), (2, .int (nI m)), (3, .ref (jA j (xr m 1))), (4, .int (nI 6)), (0, .ref (jA j 0))] → W p0 l e0 (rm_ 0) s0 mid ([.ref (jA j 0)] : List Value).toArray bl0 me0 co0 H locs 0 0 (MQ bl0 (xQ D dA C d j (some (.int (nI (ctX C (cN C))))) C d j) ([.ref (jA j 0)] : List Value).toArray s0 0 0 (xA dA C d j)) (F0 mid 61 ls [])) → W p0 l e0 (rm_ 0) s0 mid ([.ref (jA j 0)] : List Value).toArray bl0 me0 co0 H locs 0 0 (MQ bl0 (xQ D dA C d j (some (.int (nI (ctX C (cN C))))) C d j) ([.ref (jA j 0)] : List Value).toArray s0 0 0 (xA dA C d j)) (F0 mid 29 ls []) := by
    intro m hm hle n_
    induction n_ with
    | zero => intro i h1_ h2_; exact absurd h2_ (by omega)
    | succ n_ ih =>
      intro i h1_ h2_ H locs ls G hl kk
      have hle2 := ctY_le C m i
      refine lv_iload hx hb dX0_cords_29 (lv_at hl 0 rfl) ?_
      refine lv_iload hx hb dX0_cords_31 (lv_at hl 4 rfl) ?_
      refine nn_cge (tgt := 61) hx hb (by omega) (by omega) dX0_cords_33 (by decide) (fun c_33 => ?_) (fun c_33 => ?_)
      · have hiN : i = 6 := by omega
        subst hiN
        exact kk H locs ls G (lv_sub hl [0, 1, 2, 3, 4, 5] rfl)
      · refine lv_aload_n hx hb dX0_cords_36 rfl (lv_at hl 3 rfl) ?_
        refine lv_iload hx hb dX0_cords_37 (lv_at hl 0 rfl) ?_
        rcases hf_39 : cF C m i with _ | k_39
        · refine xx_aald S G (r := xr m 1) (xr_lt (by decide) (Nat.lt_of_lt_of_le (by omega) hN)) (xW_m (by decide) (by omega) rfl) (i := i) (by omega) (by decide) (o := none) (by show (cF C m i).map _ = _; rw [hf_39]; rfl) dX0_cords_39 ?_
          refine W.eq (g2 := F0 mid 40 ls [.null]) rfl ?_
          refine lv_astoreN (lv' := [(6, .null), (5, .int (nI i)), (1, .int (nI (ctX C m + ctY C m i))), (2, .int (nI m)), (3, .ref (jA j (xr m 1))), (4, .int (nI 6)), (0, .ref (jA j 0))]) hx hb dX0_cords_40 hl (by decide) rfl (fun ls hl => ?_)
          refine lv_iload_n hx hb dX0_cords_42 rfl (lv_at hl 2 rfl) ?_
          refine lv_aloadN hx hb dX0_cords_43 (lv_at hl 0 rfl) ?_
          refine lv_ifnonnullN hx hb dX0_cords_45 ?_
          refine lv_iconst (v := nI 0) hx hb dX0_cords_48 (by decide) ?_
          refine lv_goto (tgt := 53) hx hb dX0_cords_49 (by decide) ?_
          refine nn_add hx hb dX0_cords_53 ?_
          refine w_st (st' := [.int (nI (ctX C m + ctY C m (i + 1)))]) (by simp [ctY_s, hf_39, Nat.add_assoc]) ?_
          refine lv_istore_n (lv' := [(1, .int (nI (ctX C m + ctY C m (i + 1)))), (6, .null), (5, .int (nI i)), (2, .int (nI m)), (3, .ref (jA j (xr m 1))), (4, .int (nI 6)), (0, .ref (jA j 0))]) hx hb dX0_cords_54 rfl hl (by decide) rfl (fun ls hl => ?_)
          refine lv_iinc (v := nI (i + 1)) (lv' := [(5, .int (nI (i + 1))), (1, .int (nI (ctX C m + ctY C m (i + 1)))), (6, .null), (2, .int (nI m)), (3, .ref (jA j (xr m 1))), (4, .int (nI 6)), (0, .ref (jA j 0))]) hx hb dX0_cords_55 hl (k := 2) rfl (nI_1 _) (by decide) rfl (fun ls hl => ?_)
          refine lv_goto (tgt := 29) hx hb dX0_cords_58 (by decide) ?_
          exact ih (i + 1) (by omega) (by omega) H locs ls G (lv_sub hl [0, 1, 3, 4, 5, 6] rfl) kk
        · have hkN_39 := hC.f hf_39
          refine xx_aald S G (r := xr m 1) (xr_lt (by decide) (Nat.lt_of_lt_of_le (by omega) hN)) (xW_m (by decide) (by omega) rfl) (i := i) (by omega) (by decide) (o := some (jA j (xr k_39 0))) (by show (cF C m i).map _ = _; rw [hf_39]; rfl) dX0_cords_39 ?_
          refine W.eq (g2 := F0 mid 40 ls [.ref (jA j (xr k_39 0))]) rfl ?_
          refine lv_astore (lv' := [(6, .ref (jA j (xr k_39 0))), (5, .int (nI i)), (1, .int (nI (ctX C m + ctY C m i))), (2, .int (nI m)), (3, .ref (jA j (xr m 1))), (4, .int (nI 6)), (0, .ref (jA j 0))]) hx hb dX0_cords_40 hl (by decide) rfl (fun ls hl => ?_)
          refine lv_iload_n hx hb dX0_cords_42 rfl (lv_at hl 2 rfl) ?_
          refine lv_aload hx hb dX0_cords_43 (lv_at hl 0 rfl) ?_
          refine lv_ifnonnull (tgt := 52) hx hb dX0_cords_45 (by decide) ?_
          refine lv_iconst (v := nI 1) hx hb dX0_cords_52 (by decide) ?_
          refine nn_add hx hb dX0_cords_53 ?_
          refine w_st (st' := [.int (nI (ctX C m + ctY C m (i + 1)))]) (by simp [ctY_s, hf_39, Nat.add_assoc]) ?_
          refine lv_istore_n (lv' := [(1, .int (nI (ctX C m + ctY C m (i + 1)))), (6, .ref (jA j (xr k_39 0))), (5, .int (nI i)), (2, .int (nI m)), (3, .ref (jA j (xr m 1))), (4, .int (nI 6)), (0, .ref (jA j 0))]) hx hb dX0_cords_54 rfl hl (by decide) rfl (fun ls hl => ?_)
          refine lv_iinc (v := nI (i + 1)) (lv' := [(5, .int (nI (i + 1))), (1, .int (nI (ctX C m + ctY C m (i + 1)))), (6, .ref (jA j (xr k_39 0))), (2, .int (nI m)), (3, .ref (jA j (xr m 1))), (4, .int (nI 6)), (0, .ref (jA j 0))]) hx hb dX0_cords_55 hl (k := 2) rfl (nI_1 _) (by decide) rfl (fun ls hl => ?_)
          refine lv_goto (tgt := 29) hx hb dX0_cords_58 (by decide) ?_
          exact ih (i + 1) (by omega) (by omega) H locs ls G (lv_sub hl [0, 1, 3, 4, 5, 6] rfl) kk
  have L1 : ∀ (n_ m : Nat), m ≤ cN C → cN C < m + n_ → ∀ (H : Heap) (locs : List Loc) (ls : Array Slot), xG D dA (xA dA C d j) C d j s0 H locs → lv_has ls 7 [(2, .int (nI m)), (1, .int (nI (ctX C m))), (0, .ref (jA j 0))] → (∀ (H : Heap) (locs : List Loc) (ls : Array Slot), xG D dA (xA dA C d j) C d j s0 H locs → lv_has ls 7 [(2, .int (nI (cN C))), (1, .int (nI (ctX C (cN C)))), (0, .ref (jA j 0))] → W p0 l e0 (rm_ 0) s0 mid ([.ref (jA j 0)] : List Value).toArray bl0 me0 co0 H locs 0 0 (MQ bl0 (xQ D dA C d j (some (.int (nI (ctX C (cN C))))) C d j) ([.ref (jA j 0)] : List Value).toArray s0 0 0 (xA dA C d j)) (F0 mid 67 ls [])) → W p0 l e0 (rm_ 0) s0 mid ([.ref (jA j 0)] : List Value).toArray bl0 me0 co0 H locs 0 0 (MQ bl0 (xQ D dA C d j (some (.int (nI (ctX C (cN C))))) C d j) ([.ref (jA j 0)] : List Value).toArray s0 0 0 (xA dA C d j)) (F0 mid 4 ls []) := by
    intro n_
    induction n_ with
    | zero => intro m h1_ h2_; exact absurd h2_ (by omega)
    | succ n_ ih =>
      intro m h1_ h2_ H locs ls G hl kk
      have hle := ctX_le C m
      refine lv_iload_n hx hb dX0_cords_4 rfl (lv_at hl 0 rfl) ?_
      refine lv_aload_n hx hb dX0_cords_5 rfl (lv_at hl 2 rfl) ?_
      refine xx_getP S G 1 (by decide) q90 rfl (v := .int (nI (cN C))) rfl dX0_cords_6 ?_
      refine nn_cge (tgt := 67) hx hb (by omega) (by omega) dX0_cords_9 (by decide) (fun c_9 => ?_) (fun c_9 => ?_)
      · have hiN : m = cN C := by omega
        subst hiN
        exact kk H locs ls G (lv_sub hl [0, 1, 2] rfl)
      · refine lv_aload_n hx hb dX0_cords_12 rfl (lv_at hl 2 rfl) ?_
        refine xx_getP S G 0 (by decide) q89 rfl (v := .ref (jA j 1)) rfl dX0_cords_13 ?_
        refine lv_iload_n hx hb dX0_cords_16 rfl (lv_at hl 0 rfl) ?_
        refine xx_aald S G (r := 1) (by decide) (xW_p (by decide) rfl) (i := m) (by omega) (by decide) (o := some (jA j (xr m 0))) (if_pos (by omega)) dX0_cords_17 ?_
        refine W.eq (g2 := F0 mid 18 ls [.ref (jA j (xr m 0))]) rfl ?_
        refine xx_get11 S G (mm := m) (by omega) hN (hC.k _) 3 (by decide) q220 rfl (v := .ref (jA j (xr m 1))) rfl dX0_cords_18 ?_
        refine lv_astore_n (lv' := [(3, .ref (jA j (xr m 1))), (2, .int (nI m)), (1, .int (nI (ctX C m))), (0, .ref (jA j 0))]) hx hb dX0_cords_21 rfl hl (by decide) rfl (fun ls hl => ?_)
        refine lv_aload_n hx hb dX0_cords_22 rfl (lv_at hl 0 rfl) ?_
        refine xx_alen S G (r := xr m 1) (xr_lt (by decide) (Nat.lt_of_lt_of_le (by omega) hN)) (xW_m (by decide) (by omega) rfl) 5 rfl (n := 6) rfl dX0_cords_23 ?_
        refine lv_istore (lv' := [(4, .int (nI 6)), (3, .ref (jA j (xr m 1))), (2, .int (nI m)), (1, .int (nI (ctX C m))), (0, .ref (jA j 0))]) hx hb dX0_cords_24 hl (by decide) rfl (fun ls hl => ?_)
        refine lv_iconst (v := nI 0) hx hb dX0_cords_26 (by decide) ?_
        refine lv_istore (lv' := [(5, .int (nI 0)), (4, .int (nI 6)), (3, .ref (jA j (xr m 1))), (2, .int (nI m)), (1, .int (nI (ctX C m))), (0, .ref (jA j 0))]) hx hb dX0_cords_27 hl (by decide) rfl (fun ls hl => ?_)
        refine L2 m (by omega) hle 7 0 (by omega) (by omega) _ _ ls G (lv_eq (lv_sub (l' := [(5, .int (nI 0)), (1, .int (nI (ctX C m))), (2, .int (nI m)), (3, .ref (jA j (xr m 1))), (4, .int (nI 6)), (0, .ref (jA j 0))]) hl [0, 4, 3, 2, 1, 5] rfl) (by rfl)) (fun H locs ls G hl => ?_)
        refine lv_iinc (v := nI (m + 1)) (lv' := [(2, .int (nI (m + 1))), (5, .int (nI 6)), (1, .int (nI (ctX C m + ctY C m 6))), (3, .ref (jA j (xr m 1))), (4, .int (nI 6)), (0, .ref (jA j 0))]) hx hb dX0_cords_61 hl (k := 2) rfl (nI_1 _) (by decide) rfl (fun ls hl => ?_)
        refine lv_goto (tgt := 4) hx hb dX0_cords_64 (by decide) ?_
        exact ih (m + 1) (by omega) (by omega) H locs ls G (lv_eq (lv_sub (l' := [(2, .int (nI (m + 1))), (1, .int (nI (ctX C m + ctY C m 6))), (0, .ref (jA j 0))]) hl [0, 2, 5] rfl) (by rfl)) kk
  refine lv_iconst (v := nI 0) hx hb dX0_cords_0 (by decide) ?_
  refine lv_istore_n (lv' := [(1, .int (nI 0)), (0, .ref (jA j 0))]) hx hb dX0_cords_1 rfl hl (by decide) rfl (fun ls hl => ?_)
  refine lv_iconst (v := nI 0) hx hb dX0_cords_2 (by decide) ?_
  refine lv_istore_n (lv' := [(2, .int (nI 0)), (1, .int (nI 0)), (0, .ref (jA j 0))]) hx hb dX0_cords_3 rfl hl (by decide) rfl (fun ls hl => ?_)
  refine L1 (cN C + 1) 0 (by omega) (by omega) _ _ ls G (lv_eq (lv_sub (l' := [(2, .int (nI 0)), (1, .int (nI 0)), (0, .ref (jA j 0))]) hl [0, 1, 2] rfl) (by rfl)) (fun H locs ls G hl => ?_)
  refine lv_iload_n hx hb dX0_cords_67 rfl (lv_at hl 1 rfl) ?_
  exact xx_iret S hr hlk G rfl rfl dX0_cords_68
theorem xt_X0_lit (l : Launch) (D : va_G) (dA : Nat → ClassId) (C : tp_C) (d : md_T) (j : xj_T) (hC : mOK C) : xC l D dA yX0_lit cX0_lit 3 (some .int) 0 [.ref (jA j 0)] C d j (some (.int (nI (ctL d (cN C))))) C d j := by
  refine xx_start (own := RX0) (by decide) rfl (Nat.le_of_ble_eq_true rfl) ?_
  intro p0 e0 s0 mid bl0 me0 co0 ls S hr hlk G hl
  have hx := S.1; have hb := S.2.1; have hml := S.2.2.1; have hown := S.2.2.2.1; have hts := S.2.2.2.2; have hN := hC.n
  have hl : lv_has ls 3 [(0, .ref (jA j 0))] := hl
  have L1 : ∀ (n_ i : Nat), i ≤ cN C → cN C < i + n_ → ∀ (H : Heap) (locs : List Loc) (ls : Array Slot), xG D dA (xA dA C d j) C d j s0 H locs → lv_has ls 3 [(2, .int (nI i)), (1, .int (nI (ctL d i))), (0, .ref (jA j 0))] → (∀ (H : Heap) (locs : List Loc) (ls : Array Slot), xG D dA (xA dA C d j) C d j s0 H locs → lv_has ls 3 [(2, .int (nI (cN C))), (1, .int (nI (ctL d (cN C)))), (0, .ref (jA j 0))] → W p0 l e0 (rm_ 0) s0 mid ([.ref (jA j 0)] : List Value).toArray bl0 me0 co0 H locs 0 0 (MQ bl0 (xQ D dA C d j (some (.int (nI (ctL d (cN C))))) C d j) ([.ref (jA j 0)] : List Value).toArray s0 0 0 (xA dA C d j)) (F0 mid 39 ls [])) → W p0 l e0 (rm_ 0) s0 mid ([.ref (jA j 0)] : List Value).toArray bl0 me0 co0 H locs 0 0 (MQ bl0 (xQ D dA C d j (some (.int (nI (ctL d (cN C))))) C d j) ([.ref (jA j 0)] : List Value).toArray s0 0 0 (xA dA C d j)) (F0 mid 4 ls []) := by
    intro n_
    induction n_ with
    | zero => intro i h1_ h2_; exact absurd h2_ (by omega)
    | succ n_ ih =>
      intro i h1_ h2_ H locs ls G hl kk
      have hle := ctL_le d i
      refine lv_iload_n hx hb dX0_lit_4 rfl (lv_at hl 0 rfl) ?_
      refine lv_aload_n hx hb dX0_lit_5 rfl (lv_at hl 2 rfl) ?_
      refine xx_getP S G 1 (by decide) q90 rfl (v := .int (nI (cN C))) rfl dX0_lit_6 ?_
      refine nn_cge (tgt := 39) hx hb (by omega) (by omega) dX0_lit_9 (by decide) (fun c_9 => ?_) (fun c_9 => ?_)
      · have hiN : i = cN C := by omega
        subst hiN
        exact kk H locs ls G (lv_sub hl [0, 1, 2] rfl)
      · refine lv_iload_n hx hb dX0_lit_12 rfl (lv_at hl 1 rfl) ?_
        refine lv_aload_n hx hb dX0_lit_13 rfl (lv_at hl 2 rfl) ?_
        refine xx_getP S G 0 (by decide) q89 rfl (v := .ref (jA j 1)) rfl dX0_lit_14 ?_
        refine lv_iload_n hx hb dX0_lit_17 rfl (lv_at hl 0 rfl) ?_
        refine xx_aald S G (r := 1) (by decide) (xW_p (by decide) rfl) (i := i) (by omega) (by decide) (o := some (jA j (xr i 0))) (if_pos (by omega)) dX0_lit_18 ?_
        refine W.eq (g2 := F0 mid 19 ls [.ref (jA j (xr i 0)), .int (nI (ctL d i))]) rfl ?_
        refine xx_get11 S G (mm := i) (by omega) hN (hC.k _) 8 (by decide) q230 rfl (v := .int (dAI d 24 i)) rfl dX0_lit_19 ?_
        refine lv_iconst (v := (-1)) hx hb dX0_lit_22 (by decide) ?_
        refine lv_icmp_ne (tgt := 30) hx hb dX0_lit_23 (by decide) (fun c_23 => ?_) (fun c_23 => ?_)
        · refine lv_iconst (v := nI 1) hx hb dX0_lit_30 (by decide) ?_
          refine nn_add hx hb dX0_lit_31 ?_
          refine lv_istore_n (lv' := [(1, .int (nI (ctL d i + 1))), (2, .int (nI i)), (0, .ref (jA j 0))]) hx hb dX0_lit_32 rfl hl (by decide) rfl (fun ls hl => ?_)
          refine lv_iinc (v := nI (i + 1)) (lv' := [(2, .int (nI (i + 1))), (1, .int (nI (ctL d i + 1))), (0, .ref (jA j 0))]) hx hb dX0_lit_33 hl (k := 1) rfl (nI_1 _) (by decide) rfl (fun ls hl => ?_)
          refine lv_goto (tgt := 4) hx hb dX0_lit_36 (by decide) ?_
          exact ih (i + 1) (by omega) (by omega) H locs ls G (lv_eq (lv_sub (l' := [(2, .int (nI (i + 1))), (1, .int (nI (ctL d i + 1))), (0, .ref (jA j 0))]) hl [0, 1, 2] rfl) (by simp [ctL_s, c_9, c_23])) kk
        · refine lv_iconst (v := nI 0) hx hb dX0_lit_26 (by decide) ?_
          refine lv_goto (tgt := 31) hx hb dX0_lit_27 (by decide) ?_
          refine nn_add hx hb dX0_lit_31 ?_
          refine lv_istore_n (lv' := [(1, .int (nI (ctL d i + 0))), (2, .int (nI i)), (0, .ref (jA j 0))]) hx hb dX0_lit_32 rfl hl (by decide) rfl (fun ls hl => ?_)
          refine lv_iinc (v := nI (i + 1)) (lv' := [(2, .int (nI (i + 1))), (1, .int (nI (ctL d i + 0))), (0, .ref (jA j 0))]) hx hb dX0_lit_33 hl (k := 1) rfl (nI_1 _) (by decide) rfl (fun ls hl => ?_)
          refine lv_goto (tgt := 4) hx hb dX0_lit_36 (by decide) ?_
          exact ih (i + 1) (by omega) (by omega) H locs ls G (lv_eq (lv_sub (l' := [(2, .int (nI (i + 1))), (1, .int (nI (ctL d i + 0))), (0, .ref (jA j 0))]) hl [0, 1, 2] rfl) (by simp [ctL_s, c_9, c_23])) kk
  refine lv_iconst (v := nI 0) hx hb dX0_lit_0 (by decide) ?_
  refine lv_istore_n (lv' := [(1, .int (nI 0)), (0, .ref (jA j 0))]) hx hb dX0_lit_1 rfl hl (by decide) rfl (fun ls hl => ?_)
  refine lv_iconst (v := nI 0) hx hb dX0_lit_2 (by decide) ?_
  refine lv_istore_n (lv' := [(2, .int (nI 0)), (1, .int (nI 0)), (0, .ref (jA j 0))]) hx hb dX0_lit_3 rfl hl (by decide) rfl (fun ls hl => ?_)
  refine L1 (cN C + 1) 0 (by omega) (by omega) _ _ ls G (lv_eq (lv_sub (l' := [(2, .int (nI 0)), (1, .int (nI 0)), (0, .ref (jA j 0))]) hl [0, 1, 2] rfl) (by rfl)) (fun H locs ls G hl => ?_)
  refine lv_iload_n hx hb dX0_lit_39 rfl (lv_at hl 1 rfl) ?_
  exact xx_iret S hr hlk G rfl rfl dX0_lit_40
