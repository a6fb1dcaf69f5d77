set_option maxRecDepth 100000
set_option maxHeartbeats 4000000
theorem dX1_hasInputs_0 : decode cX1_hasInputs 0 = .ok (.aload_n 0, 1) := by decide +kernel
theorem dX1_hasInputs_1 : decode cX1_hasInputs 1 = .ok (.getfield 7, 3) := by decide +kernel
theorem dX1_hasInputs_4 : decode cX1_hasInputs 4 = .ok (.iload_n 1, 1) := by decide +kernel
theorem dX1_hasInputs_5 : decode cX1_hasInputs 5 = .ok (.iaload, 1) := by decide +kernel
theorem dX1_hasInputs_6 : decode cX1_hasInputs 6 = .ok (.tableswitch 149 0 13 #[70, 107, 70, 149, 149, 149, 107, 107, 149, 114, 107, 107, 107, 147], 70) := by decide +kernel
theorem dX1_hasInputs_76 : decode cX1_hasInputs 76 = .ok (.iconst 0, 1) := by decide +kernel
theorem dX1_hasInputs_77 : decode cX1_hasInputs 77 = .ok (.istore_n 2, 1) := by decide +kernel
theorem dX1_hasInputs_78 : decode cX1_hasInputs 78 = .ok (.iconst 0, 1) := by decide +kernel
theorem dX1_hasInputs_79 : decode cX1_hasInputs 79 = .ok (.istore_n 3, 1) := by decide +kernel
theorem dX1_hasInputs_80 : decode cX1_hasInputs 80 = .ok (.iload_n 3, 1) := by decide +kernel
theorem dX1_hasInputs_81 : decode cX1_hasInputs 81 = .ok (.bipush 6, 2) := by decide +kernel
theorem dX1_hasInputs_83 : decode cX1_hasInputs 83 = .ok (.if_icmp .ge 28, 3) := by decide +kernel
theorem dX1_hasInputs_86 : decode cX1_hasInputs 86 = .ok (.iload_n 2, 1) := by decide +kernel
theorem dX1_hasInputs_87 : decode cX1_hasInputs 87 = .ok (.ifCond .ne 12, 3) := by decide +kernel
theorem dX1_hasInputs_90 : decode cX1_hasInputs 90 = .ok (.aload_n 0, 1) := by decide +kernel
theorem dX1_hasInputs_91 : decode cX1_hasInputs 91 = .ok (.iload_n 1, 1) := by decide +kernel
theorem dX1_hasInputs_92 : decode cX1_hasInputs 92 = .ok (.iload_n 3, 1) := by decide +kernel
theorem dX1_hasInputs_93 : decode cX1_hasInputs 93 = .ok (.invokevirtual 213, 3) := by decide +kernel
theorem dX1_hasInputs_96 : decode cX1_hasInputs 96 = .ok (.ifCond .eq 7, 3) := by decide +kernel
theorem dX1_hasInputs_99 : decode cX1_hasInputs 99 = .ok (.iconst 1, 1) := by decide +kernel
theorem dX1_hasInputs_100 : decode cX1_hasInputs 100 = .ok (.goto 4, 3) := by decide +kernel
theorem dX1_hasInputs_103 : decode cX1_hasInputs 103 = .ok (.iconst 0, 1) := by decide +kernel
theorem dX1_hasInputs_104 : decode cX1_hasInputs 104 = .ok (.istore_n 2, 1) := by decide +kernel
theorem dX1_hasInputs_105 : decode cX1_hasInputs 105 = .ok (.iinc 3 1, 3) := by decide +kernel
theorem dX1_hasInputs_108 : decode cX1_hasInputs 108 = .ok (.goto (-28), 3) := by decide +kernel
theorem dX1_hasInputs_111 : decode cX1_hasInputs 111 = .ok (.iload_n 2, 1) := by decide +kernel
theorem dX1_hasInputs_112 : decode cX1_hasInputs 112 = .ok (.ireturn, 1) := by decide +kernel
theorem dX1_hasInputs_113 : decode cX1_hasInputs 113 = .ok (.aload_n 0, 1) := by decide +kernel
theorem dX1_hasInputs_114 : decode cX1_hasInputs 114 = .ok (.iload_n 1, 1) := by decide +kernel
theorem dX1_hasInputs_115 : decode cX1_hasInputs 115 = .ok (.iconst 0, 1) := by decide +kernel
theorem dX1_hasInputs_116 : decode cX1_hasInputs 116 = .ok (.invokevirtual 213, 3) := by decide +kernel
theorem dX1_hasInputs_119 : decode cX1_hasInputs 119 = .ok (.ireturn, 1) := by decide +kernel
theorem dX1_hasInputs_120 : decode cX1_hasInputs 120 = .ok (.aload_n 0, 1) := by decide +kernel
theorem dX1_hasInputs_121 : decode cX1_hasInputs 121 = .ok (.iload_n 1, 1) := by decide +kernel
theorem dX1_hasInputs_122 : decode cX1_hasInputs 122 = .ok (.iconst 0, 1) := by decide +kernel
theorem dX1_hasInputs_123 : decode cX1_hasInputs 123 = .ok (.invokevirtual 213, 3) := by decide +kernel
theorem dX1_hasInputs_126 : decode cX1_hasInputs 126 = .ok (.ifCond .eq 25, 3) := by decide +kernel
theorem dX1_hasInputs_129 : decode cX1_hasInputs 129 = .ok (.aload_n 0, 1) := by decide +kernel
theorem dX1_hasInputs_130 : decode cX1_hasInputs 130 = .ok (.iload_n 1, 1) := by decide +kernel
theorem dX1_hasInputs_131 : decode cX1_hasInputs 131 = .ok (.iconst 1, 1) := by decide +kernel
theorem dX1_hasInputs_132 : decode cX1_hasInputs 132 = .ok (.invokevirtual 213, 3) := by decide +kernel
theorem dX1_hasInputs_135 : decode cX1_hasInputs 135 = .ok (.ifCond .eq 16, 3) := by decide +kernel
theorem dX1_hasInputs_138 : decode cX1_hasInputs 138 = .ok (.aload_n 0, 1) := by decide +kernel
theorem dX1_hasInputs_139 : decode cX1_hasInputs 139 = .ok (.iload_n 1, 1) := by decide +kernel
theorem dX1_hasInputs_140 : decode cX1_hasInputs 140 = .ok (.iconst 2, 1) := by decide +kernel
theorem dX1_hasInputs_141 : decode cX1_hasInputs 141 = .ok (.invokevirtual 213, 3) := by decide +kernel
theorem dX1_hasInputs_144 : decode cX1_hasInputs 144 = .ok (.ifCond .eq 7, 3) := by decide +kernel
theorem dX1_hasInputs_147 : decode cX1_hasInputs 147 = .ok (.iconst 1, 1) := by decide +kernel
theorem dX1_hasInputs_148 : decode cX1_hasInputs 148 = .ok (.goto 4, 3) := by decide +kernel
theorem dX1_hasInputs_151 : decode cX1_hasInputs 151 = .ok (.iconst 0, 1) := by decide +kernel
theorem dX1_hasInputs_152 : decode cX1_hasInputs 152 = .ok (.ireturn, 1) := by decide +kernel
theorem dX1_hasInputs_153 : decode cX1_hasInputs 153 = .ok (.iconst 1, 1) := by decide +kernel
theorem dX1_hasInputs_154 : decode cX1_hasInputs 154 = .ok (.ireturn, 1) := by decide +kernel
theorem dX1_hasInputs_155 : decode cX1_hasInputs 155 = .ok (.aload_n 0, 1) := by decide +kernel
theorem dX1_hasInputs_156 : decode cX1_hasInputs 156 = .ok (.iload_n 1, 1) := by decide +kernel
theorem dX1_hasInputs_157 : decode cX1_hasInputs 157 = .ok (.iconst 0, 1) := by decide +kernel
theorem dX1_hasInputs_158 : decode cX1_hasInputs 158 = .ok (.invokevirtual 213, 3) := by decide +kernel
theorem dX1_hasInputs_161 : decode cX1_hasInputs 161 = .ok (.ifCond .eq 16, 3) := by decide +kernel
theorem dX1_hasInputs_164 : decode cX1_hasInputs 164 = .ok (.aload_n 0, 1) := by decide +kernel
theorem dX1_hasInputs_165 : decode cX1_hasInputs 165 = .ok (.iload_n 1, 1) := by decide +kernel
theorem dX1_hasInputs_166 : decode cX1_hasInputs 166 = .ok (.iconst 1, 1) := by decide +kernel
theorem dX1_hasInputs_167 : decode cX1_hasInputs 167 = .ok (.invokevirtual 213, 3) := by decide +kernel
theorem dX1_hasInputs_170 : decode cX1_hasInputs 170 = .ok (.ifCond .eq 7, 3) := by decide +kernel
theorem dX1_hasInputs_173 : decode cX1_hasInputs 173 = .ok (.iconst 1, 1) := by decide +kernel
theorem dX1_hasInputs_174 : decode cX1_hasInputs 174 = .ok (.goto 4, 3) := by decide +kernel
theorem dX1_hasInputs_177 : decode cX1_hasInputs 177 = .ok (.iconst 0, 1) := by decide +kernel
theorem dX1_hasInputs_178 : decode cX1_hasInputs 178 = .ok (.ireturn, 1) := by decide +kernel
theorem dX1_isInCircle_0 : decode cX1_isInCircle 0 = .ok (.aload_n 0, 1) := by decide +kernel
theorem dX1_isInCircle_1 : decode cX1_isInCircle 1 = .ok (.getfield 7, 3) := by decide +kernel
theorem dX1_isInCircle_4 : decode cX1_isInCircle 4 = .ok (.iload_n 1, 1) := by decide +kernel
theorem dX1_isInCircle_5 : decode cX1_isInCircle 5 = .ok (.iaload, 1) := by decide +kernel
theorem dX1_isInCircle_6 : decode cX1_isInCircle 6 = .ok (.invokestatic 207, 3) := by decide +kernel
theorem dX1_isInCircle_9 : decode cX1_isInCircle 9 = .ok (.ifCond .eq 5, 3) := by decide +kernel
theorem dX1_isInCircle_12 : decode cX1_isInCircle 12 = .ok (.iconst 0, 1) := by decide +kernel
theorem dX1_isInCircle_13 : decode cX1_isInCircle 13 = .ok (.ireturn, 1) := by decide +kernel
theorem dX1_isInCircle_14 : decode cX1_isInCircle 14 = .ok (.iconst 0, 1) := by decide +kernel
theorem dX1_isInCircle_15 : decode cX1_isInCircle 15 = .ok (.istore_n 2, 1) := by decide +kernel
theorem dX1_isInCircle_16 : decode cX1_isInCircle 16 = .ok (.iload_n 2, 1) := by decide +kernel
theorem dX1_isInCircle_17 : decode cX1_isInCircle 17 = .ok (.aload_n 0, 1) := by decide +kernel
theorem dX1_isInCircle_18 : decode cX1_isInCircle 18 = .ok (.getfield 158, 3) := by decide +kernel
theorem dX1_isInCircle_21 : decode cX1_isInCircle 21 = .ok (.if_icmp .ge 16, 3) := by decide +kernel
theorem dX1_isInCircle_24 : decode cX1_isInCircle 24 = .ok (.aload_n 0, 1) := by decide +kernel
theorem dX1_isInCircle_25 : decode cX1_isInCircle 25 = .ok (.getfield 119, 3) := by decide +kernel
theorem dX1_isInCircle_28 : decode cX1_isInCircle 28 = .ok (.iload_n 2, 1) := by decide +kernel
theorem dX1_isInCircle_29 : decode cX1_isInCircle 29 = .ok (.iconst 0, 1) := by decide +kernel
theorem dX1_isInCircle_30 : decode cX1_isInCircle 30 = .ok (.bastore, 1) := by decide +kernel
theorem dX1_isInCircle_31 : decode cX1_isInCircle 31 = .ok (.iinc 2 1, 3) := by decide +kernel
theorem dX1_isInCircle_34 : decode cX1_isInCircle 34 = .ok (.goto (-18), 3) := by decide +kernel
theorem dX1_isInCircle_37 : decode cX1_isInCircle 37 = .ok (.iconst 0, 1) := by decide +kernel
theorem dX1_isInCircle_38 : decode cX1_isInCircle 38 = .ok (.istore_n 2, 1) := by decide +kernel
theorem dX1_isInCircle_39 : decode cX1_isInCircle 39 = .ok (.iload_n 2, 1) := by decide +kernel
theorem dX1_isInCircle_40 : decode cX1_isInCircle 40 = .ok (.aload_n 0, 1) := by decide +kernel
theorem dX1_isInCircle_41 : decode cX1_isInCircle 41 = .ok (.getfield 158, 3) := by decide +kernel
theorem dX1_isInCircle_44 : decode cX1_isInCircle 44 = .ok (.if_icmp .gt 95, 3) := by decide +kernel
theorem dX1_isInCircle_47 : decode cX1_isInCircle 47 = .ok (.iconst 0, 1) := by decide +kernel
theorem dX1_isInCircle_48 : decode cX1_isInCircle 48 = .ok (.istore_n 3, 1) := by decide +kernel
theorem dX1_isInCircle_49 : decode cX1_isInCircle 49 = .ok (.iload_n 3, 1) := by decide +kernel
theorem dX1_isInCircle_50 : decode cX1_isInCircle 50 = .ok (.aload_n 0, 1) := by decide +kernel
theorem dX1_isInCircle_51 : decode cX1_isInCircle 51 = .ok (.getfield 158, 3) := by decide +kernel
theorem dX1_isInCircle_54 : decode cX1_isInCircle 54 = .ok (.if_icmp .ge 79, 3) := by decide +kernel
theorem dX1_isInCircle_57 : decode cX1_isInCircle 57 = .ok (.iload_n 3, 1) := by decide +kernel
theorem dX1_isInCircle_58 : decode cX1_isInCircle 58 = .ok (.iload_n 1, 1) := by decide +kernel
theorem dX1_isInCircle_59 : decode cX1_isInCircle 59 = .ok (.if_icmp .eq 12, 3) := by decide +kernel
theorem dX1_isInCircle_62 : decode cX1_isInCircle 62 = .ok (.aload_n 0, 1) := by decide +kernel
theorem dX1_isInCircle_63 : decode cX1_isInCircle 63 = .ok (.getfield 119, 3) := by decide +kernel
theorem dX1_isInCircle_66 : decode cX1_isInCircle 66 = .ok (.iload_n 3, 1) := by decide +kernel
theorem dX1_isInCircle_67 : decode cX1_isInCircle 67 = .ok (.baload, 1) := by decide +kernel
theorem dX1_isInCircle_68 : decode cX1_isInCircle 68 = .ok (.ifCond .eq 59, 3) := by decide +kernel
theorem dX1_isInCircle_71 : decode cX1_isInCircle 71 = .ok (.aload_n 0, 1) := by decide +kernel
theorem dX1_isInCircle_72 : decode cX1_isInCircle 72 = .ok (.getfield 7, 3) := by decide +kernel
theorem dX1_isInCircle_75 : decode cX1_isInCircle 75 = .ok (.iload_n 3, 1) := by decide +kernel
theorem dX1_isInCircle_76 : decode cX1_isInCircle 76 = .ok (.iaload, 1) := by decide +kernel
theorem dX1_isInCircle_77 : decode cX1_isInCircle 77 = .ok (.invokestatic 207, 3) := by decide +kernel
theorem dX1_isInCircle_80 : decode cX1_isInCircle 80 = .ok (.ifCond .ne 47, 3) := by decide +kernel
theorem dX1_isInCircle_83 : decode cX1_isInCircle 83 = .ok (.iconst 0, 1) := by decide +kernel
theorem dX1_isInCircle_84 : decode cX1_isInCircle 84 = .ok (.istore 4, 2) := by decide +kernel
theorem dX1_isInCircle_86 : decode cX1_isInCircle 86 = .ok (.iload 4, 2) := by decide +kernel
theorem dX1_isInCircle_88 : decode cX1_isInCircle 88 = .ok (.bipush 6, 2) := by decide +kernel
theorem dX1_isInCircle_90 : decode cX1_isInCircle 90 = .ok (.if_icmp .ge 37, 3) := by decide +kernel
theorem dX1_isInCircle_93 : decode cX1_isInCircle 93 = .ok (.aload_n 0, 1) := by decide +kernel
theorem dX1_isInCircle_94 : decode cX1_isInCircle 94 = .ok (.iload_n 3, 1) := by decide +kernel
theorem dX1_isInCircle_95 : decode cX1_isInCircle 95 = .ok (.iload 4, 2) := by decide +kernel
theorem dX1_isInCircle_97 : decode cX1_isInCircle 97 = .ok (.invokevirtual 213, 3) := by decide +kernel
theorem dX1_isInCircle_100 : decode cX1_isInCircle 100 = .ok (.ifCond .eq 21, 3) := by decide +kernel
theorem dX1_isInCircle_103 : decode cX1_isInCircle 103 = .ok (.aload_n 0, 1) := by decide +kernel
theorem dX1_isInCircle_104 : decode cX1_isInCircle 104 = .ok (.getfield 119, 3) := by decide +kernel
theorem dX1_isInCircle_107 : decode cX1_isInCircle 107 = .ok (.aload_n 0, 1) := by decide +kernel
theorem dX1_isInCircle_108 : decode cX1_isInCircle 108 = .ok (.getfield 17, 3) := by decide +kernel
theorem dX1_isInCircle_111 : decode cX1_isInCircle 111 = .ok (.bipush 6, 2) := by decide +kernel
theorem dX1_isInCircle_113 : decode cX1_isInCircle 113 = .ok (.iload_n 3, 1) := by decide +kernel
theorem dX1_isInCircle_114 : decode cX1_isInCircle 114 = .ok (.imul, 1) := by decide +kernel
theorem dX1_isInCircle_115 : decode cX1_isInCircle 115 = .ok (.iload 4, 2) := by decide +kernel
theorem dX1_isInCircle_117 : decode cX1_isInCircle 117 = .ok (.iadd, 1) := by decide +kernel
theorem dX1_isInCircle_118 : decode cX1_isInCircle 118 = .ok (.iaload, 1) := by decide +kernel
theorem dX1_isInCircle_119 : decode cX1_isInCircle 119 = .ok (.iconst 1, 1) := by decide +kernel
theorem dX1_isInCircle_120 : decode cX1_isInCircle 120 = .ok (.bastore, 1) := by decide +kernel
theorem dX1_isInCircle_121 : decode cX1_isInCircle 121 = .ok (.iinc 4 1, 3) := by decide +kernel
theorem dX1_isInCircle_124 : decode cX1_isInCircle 124 = .ok (.goto (-38), 3) := by decide +kernel
theorem dX1_isInCircle_127 : decode cX1_isInCircle 127 = .ok (.iinc 3 1, 3) := by decide +kernel
theorem dX1_isInCircle_130 : decode cX1_isInCircle 130 = .ok (.goto (-81), 3) := by decide +kernel
theorem dX1_isInCircle_133 : decode cX1_isInCircle 133 = .ok (.iinc 2 1, 3) := by decide +kernel
theorem dX1_isInCircle_136 : decode cX1_isInCircle 136 = .ok (.goto (-97), 3) := by decide +kernel
theorem dX1_isInCircle_139 : decode cX1_isInCircle 139 = .ok (.aload_n 0, 1) := by decide +kernel
theorem dX1_isInCircle_140 : decode cX1_isInCircle 140 = .ok (.getfield 119, 3) := by decide +kernel
theorem dX1_isInCircle_143 : decode cX1_isInCircle 143 = .ok (.iload_n 1, 1) := by decide +kernel
theorem dX1_isInCircle_144 : decode cX1_isInCircle 144 = .ok (.baload, 1) := by decide +kernel
theorem dX1_isInCircle_145 : decode cX1_isInCircle 145 = .ok (.ireturn, 1) := by decide +kernel
theorem dX1_check_0 : decode cX1_check 0 = .ok (.iconst 0, 1) := by decide +kernel
theorem dX1_check_1 : decode cX1_check 1 = .ok (.istore_n 1, 1) := by decide +kernel
theorem dX1_check_2 : decode cX1_check 2 = .ok (.iload_n 1, 1) := by decide +kernel
theorem dX1_check_3 : decode cX1_check 3 = .ok (.aload_n 0, 1) := by decide +kernel
theorem dX1_check_4 : decode cX1_check 4 = .ok (.getfield 158, 3) := by decide +kernel
theorem dX1_check_7 : decode cX1_check 7 = .ok (.if_icmp .ge 26, 3) := by decide +kernel
theorem dX1_check_10 : decode cX1_check 10 = .ok (.aload_n 0, 1) := by decide +kernel
theorem dX1_check_11 : decode cX1_check 11 = .ok (.iload_n 1, 1) := by decide +kernel
theorem dX1_check_12 : decode cX1_check 12 = .ok (.invokevirtual 217, 3) := by decide +kernel
theorem dX1_check_15 : decode cX1_check 15 = .ok (.ifCond .ne 12, 3) := by decide +kernel
theorem dX1_check_18 : decode cX1_check 18 = .ok (.aload_n 0, 1) := by decide +kernel
theorem dX1_check_19 : decode cX1_check 19 = .ok (.iconst 1, 1) := by decide +kernel
theorem dX1_check_20 : decode cX1_check 20 = .ok (.putfield 220, 3) := by decide +kernel
theorem dX1_check_23 : decode cX1_check 23 = .ok (.iconst 1, 1) := by decide +kernel
theorem dX1_check_24 : decode cX1_check 24 = .ok (.iload_n 1, 1) := by decide +kernel
theorem dX1_check_25 : decode cX1_check 25 = .ok (.iadd, 1) := by decide +kernel
theorem dX1_check_26 : decode cX1_check 26 = .ok (.ireturn, 1) := by decide +kernel
theorem dX1_check_27 : decode cX1_check 27 = .ok (.iinc 1 1, 3) := by decide +kernel
theorem dX1_check_30 : decode cX1_check 30 = .ok (.goto (-28), 3) := by decide +kernel
theorem dX1_check_33 : decode cX1_check 33 = .ok (.iconst 0, 1) := by decide +kernel
theorem dX1_check_34 : decode cX1_check 34 = .ok (.istore_n 1, 1) := by decide +kernel
theorem dX1_check_35 : decode cX1_check 35 = .ok (.iload_n 1, 1) := by decide +kernel
theorem dX1_check_36 : decode cX1_check 36 = .ok (.aload_n 0, 1) := by decide +kernel
theorem dX1_check_37 : decode cX1_check 37 = .ok (.getfield 158, 3) := by decide +kernel
theorem dX1_check_40 : decode cX1_check 40 = .ok (.if_icmp .ge 39, 3) := by decide +kernel
theorem dX1_check_43 : decode cX1_check 43 = .ok (.aload_n 0, 1) := by decide +kernel
theorem dX1_check_44 : decode cX1_check 44 = .ok (.getfield 7, 3) := by decide +kernel
theorem dX1_check_47 : decode cX1_check 47 = .ok (.iload_n 1, 1) := by decide +kernel
theorem dX1_check_48 : decode cX1_check 48 = .ok (.iaload, 1) := by decide +kernel
theorem dX1_check_49 : decode cX1_check 49 = .ok (.bipush 7, 2) := by decide +kernel
theorem dX1_check_51 : decode cX1_check 51 = .ok (.if_icmp .ne 22, 3) := by decide +kernel
theorem dX1_check_54 : decode cX1_check 54 = .ok (.aload_n 0, 1) := by decide +kernel
theorem dX1_check_55 : decode cX1_check 55 = .ok (.getfield 27, 3) := by decide +kernel
theorem dX1_check_58 : decode cX1_check 58 = .ok (.iload_n 1, 1) := by decide +kernel
theorem dX1_check_59 : decode cX1_check 59 = .ok (.iaload, 1) := by decide +kernel
theorem dX1_check_60 : decode cX1_check 60 = .ok (.iconst 2, 1) := by decide +kernel
theorem dX1_check_61 : decode cX1_check 61 = .ok (.if_icmp .ge 12, 3) := by decide +kernel
theorem dX1_check_64 : decode cX1_check 64 = .ok (.aload_n 0, 1) := by decide +kernel
theorem dX1_check_65 : decode cX1_check 65 = .ok (.iconst 2, 1) := by decide +kernel
theorem dX1_check_66 : decode cX1_check 66 = .ok (.putfield 220, 3) := by decide +kernel
theorem dX1_check_69 : decode cX1_check 69 = .ok (.iconst 1, 1) := by decide +kernel
theorem dX1_check_70 : decode cX1_check 70 = .ok (.iload_n 1, 1) := by decide +kernel
theorem dX1_check_71 : decode cX1_check 71 = .ok (.iadd, 1) := by decide +kernel
theorem dX1_check_72 : decode cX1_check 72 = .ok (.ireturn, 1) := by decide +kernel
theorem dX1_check_73 : decode cX1_check 73 = .ok (.iinc 1 1, 3) := by decide +kernel
theorem dX1_check_76 : decode cX1_check 76 = .ok (.goto (-41), 3) := by decide +kernel
theorem dX1_check_79 : decode cX1_check 79 = .ok (.iconst 0, 1) := by decide +kernel
theorem dX1_check_80 : decode cX1_check 80 = .ok (.istore_n 1, 1) := by decide +kernel
theorem dX1_check_81 : decode cX1_check 81 = .ok (.iload_n 1, 1) := by decide +kernel
theorem dX1_check_82 : decode cX1_check 82 = .ok (.aload_n 0, 1) := by decide +kernel
theorem dX1_check_83 : decode cX1_check 83 = .ok (.getfield 158, 3) := by decide +kernel
theorem dX1_check_86 : decode cX1_check 86 = .ok (.if_icmp .ge 26, 3) := by decide +kernel
theorem dX1_check_89 : decode cX1_check 89 = .ok (.aload_n 0, 1) := by decide +kernel
theorem dX1_check_90 : decode cX1_check 90 = .ok (.iload_n 1, 1) := by decide +kernel
theorem dX1_check_91 : decode cX1_check 91 = .ok (.invokevirtual 223, 3) := by decide +kernel
theorem dX1_check_94 : decode cX1_check 94 = .ok (.ifCond .eq 12, 3) := by decide +kernel
theorem dX1_check_97 : decode cX1_check 97 = .ok (.aload_n 0, 1) := by decide +kernel
theorem dX1_check_98 : decode cX1_check 98 = .ok (.iconst 3, 1) := by decide +kernel
theorem dX1_check_99 : decode cX1_check 99 = .ok (.putfield 220, 3) := by decide +kernel
theorem dX1_check_102 : decode cX1_check 102 = .ok (.iconst 1, 1) := by decide +kernel
theorem dX1_check_103 : decode cX1_check 103 = .ok (.iload_n 1, 1) := by decide +kernel
theorem dX1_check_104 : decode cX1_check 104 = .ok (.iadd, 1) := by decide +kernel
theorem dX1_check_105 : decode cX1_check 105 = .ok (.ireturn, 1) := by decide +kernel
theorem dX1_check_106 : decode cX1_check 106 = .ok (.iinc 1 1, 3) := by decide +kernel
theorem dX1_check_109 : decode cX1_check 109 = .ok (.goto (-28), 3) := by decide +kernel
theorem dX1_check_112 : decode cX1_check 112 = .ok (.aload_n 0, 1) := by decide +kernel
theorem dX1_check_113 : decode cX1_check 113 = .ok (.iconst 0, 1) := by decide +kernel
theorem dX1_check_114 : decode cX1_check 114 = .ok (.putfield 220, 3) := by decide +kernel
theorem dX1_check_117 : decode cX1_check 117 = .ok (.iconst 0, 1) := by decide +kernel
theorem dX1_check_118 : decode cX1_check 118 = .ok (.ireturn, 1) := by decide +kernel
theorem dX1_wrong_0 : decode cX1_wrong 0 = .ok (.aload_n 0, 1) := by decide +kernel
theorem dX1_wrong_1 : decode cX1_wrong 1 = .ok (.getfield 220, 3) := by decide +kernel
theorem dX1_wrong_4 : decode cX1_wrong 4 = .ok (.istore_n 1, 1) := by decide +kernel
theorem dX1_wrong_5 : decode cX1_wrong 5 = .ok (.aload_n 0, 1) := by decide +kernel
theorem dX1_wrong_6 : decode cX1_wrong 6 = .ok (.invokevirtual 226, 3) := by decide +kernel
theorem dX1_wrong_9 : decode cX1_wrong 9 = .ok (.istore_n 2, 1) := by decide +kernel
theorem dX1_wrong_10 : decode cX1_wrong 10 = .ok (.aload_n 0, 1) := by decide +kernel
theorem dX1_wrong_11 : decode cX1_wrong 11 = .ok (.iload_n 1, 1) := by decide +kernel
theorem dX1_wrong_12 : decode cX1_wrong 12 = .ok (.putfield 220, 3) := by decide +kernel
theorem dX1_wrong_15 : decode cX1_wrong 15 = .ok (.iload_n 2, 1) := by decide +kernel
theorem dX1_wrong_16 : decode cX1_wrong 16 = .ok (.ireturn, 1) := by decide +kernel
theorem dX1_broken_0 : decode cX1_broken 0 = .ok (.aload_n 0, 1) := by decide +kernel
theorem dX1_broken_1 : decode cX1_broken 1 = .ok (.getfield 220, 3) := by decide +kernel
theorem dX1_broken_4 : decode cX1_broken 4 = .ok (.ireturn, 1) := by decide +kernel
theorem dX1_levelAll_0 : decode cX1_levelAll 0 = .ok (.iconst 0, 1) := by decide +kernel
theorem dX1_levelAll_1 : decode cX1_levelAll 1 = .ok (.istore_n 1, 1) := by decide +kernel
theorem dX1_levelAll_2 : decode cX1_levelAll 2 = .ok (.iload_n 1, 1) := by decide +kernel
theorem dX1_levelAll_3 : decode cX1_levelAll 3 = .ok (.aload_n 0, 1) := by decide +kernel
theorem dX1_levelAll_4 : decode cX1_levelAll 4 = .ok (.getfield 158, 3) := by decide +kernel
theorem dX1_levelAll_7 : decode cX1_levelAll 7 = .ok (.if_icmp .ge 32, 3) := by decide +kernel
theorem dX1_levelAll_10 : decode cX1_levelAll 10 = .ok (.aload_n 0, 1) := by decide +kernel
theorem dX1_levelAll_11 : decode cX1_levelAll 11 = .ok (.getfield 39, 3) := by decide +kernel
theorem dX1_levelAll_14 : decode cX1_levelAll 14 = .ok (.iload_n 1, 1) := by decide +kernel
theorem dX1_levelAll_15 : decode cX1_levelAll 15 = .ok (.aload_n 0, 1) := by decide +kernel
theorem dX1_levelAll_16 : decode cX1_levelAll 16 = .ok (.getfield 7, 3) := by decide +kernel
theorem dX1_levelAll_19 : decode cX1_levelAll 19 = .ok (.iload_n 1, 1) := by decide +kernel
theorem dX1_levelAll_20 : decode cX1_levelAll 20 = .ok (.iaload, 1) := by decide +kernel
theorem dX1_levelAll_21 : decode cX1_levelAll 21 = .ok (.invokestatic 207, 3) := by decide +kernel
theorem dX1_levelAll_24 : decode cX1_levelAll 24 = .ok (.ifCond .eq 7, 3) := by decide +kernel
theorem dX1_levelAll_27 : decode cX1_levelAll 27 = .ok (.iconst 0, 1) := by decide +kernel
theorem dX1_levelAll_28 : decode cX1_levelAll 28 = .ok (.goto 4, 3) := by decide +kernel
theorem dX1_levelAll_31 : decode cX1_levelAll 31 = .ok (.iconst (-1), 1) := by decide +kernel
theorem dX1_levelAll_32 : decode cX1_levelAll 32 = .ok (.iastore, 1) := by decide +kernel
theorem dX1_levelAll_33 : decode cX1_levelAll 33 = .ok (.iinc 1 1, 3) := by decide +kernel
theorem dX1_levelAll_36 : decode cX1_levelAll 36 = .ok (.goto (-34), 3) := by decide +kernel
theorem dX1_levelAll_39 : decode cX1_levelAll 39 = .ok (.iconst 0, 1) := by decide +kernel
theorem dX1_levelAll_40 : decode cX1_levelAll 40 = .ok (.istore_n 1, 1) := by decide +kernel
theorem dX1_levelAll_41 : decode cX1_levelAll 41 = .ok (.iload_n 1, 1) := by decide +kernel
theorem dX1_levelAll_42 : decode cX1_levelAll 42 = .ok (.aload_n 0, 1) := by decide +kernel
theorem dX1_levelAll_43 : decode cX1_levelAll 43 = .ok (.getfield 158, 3) := by decide +kernel
theorem dX1_levelAll_46 : decode cX1_levelAll 46 = .ok (.if_icmp .ge 134, 3) := by decide +kernel
theorem dX1_levelAll_49 : decode cX1_levelAll 49 = .ok (.iconst 0, 1) := by decide +kernel
theorem dX1_levelAll_50 : decode cX1_levelAll 50 = .ok (.istore_n 2, 1) := by decide +kernel
theorem dX1_levelAll_51 : decode cX1_levelAll 51 = .ok (.iload_n 2, 1) := by decide +kernel
theorem dX1_levelAll_52 : decode cX1_levelAll 52 = .ok (.aload_n 0, 1) := by decide +kernel
theorem dX1_levelAll_53 : decode cX1_levelAll 53 = .ok (.getfield 158, 3) := by decide +kernel
theorem dX1_levelAll_56 : decode cX1_levelAll 56 = .ok (.if_icmp .ge 118, 3) := by decide +kernel
theorem dX1_levelAll_59 : decode cX1_levelAll 59 = .ok (.aload_n 0, 1) := by decide +kernel
theorem dX1_levelAll_60 : decode cX1_levelAll 60 = .ok (.getfield 39, 3) := by decide +kernel
theorem dX1_levelAll_63 : decode cX1_levelAll 63 = .ok (.iload_n 2, 1) := by decide +kernel
theorem dX1_levelAll_64 : decode cX1_levelAll 64 = .ok (.iaload, 1) := by decide +kernel
theorem dX1_levelAll_65 : decode cX1_levelAll 65 = .ok (.iconst (-1), 1) := by decide +kernel
theorem dX1_levelAll_66 : decode cX1_levelAll 66 = .ok (.if_icmp .ne 102, 3) := by decide +kernel
theorem dX1_levelAll_69 : decode cX1_levelAll 69 = .ok (.iconst 0, 1) := by decide +kernel
theorem dX1_levelAll_70 : decode cX1_levelAll 70 = .ok (.istore_n 3, 1) := by decide +kernel
theorem dX1_levelAll_71 : decode cX1_levelAll 71 = .ok (.iconst 1, 1) := by decide +kernel
theorem dX1_levelAll_72 : decode cX1_levelAll 72 = .ok (.istore 4, 2) := by decide +kernel
theorem dX1_levelAll_74 : decode cX1_levelAll 74 = .ok (.iconst 0, 1) := by decide +kernel
theorem dX1_levelAll_75 : decode cX1_levelAll 75 = .ok (.istore 5, 2) := by decide +kernel
theorem dX1_levelAll_77 : decode cX1_levelAll 77 = .ok (.iload 5, 2) := by decide +kernel
theorem dX1_levelAll_79 : decode cX1_levelAll 79 = .ok (.bipush 6, 2) := by decide +kernel
theorem dX1_levelAll_81 : decode cX1_levelAll 81 = .ok (.if_icmp .ge 69, 3) := by decide +kernel
theorem dX1_levelAll_84 : decode cX1_levelAll 84 = .ok (.aload_n 0, 1) := by decide +kernel
theorem dX1_levelAll_85 : decode cX1_levelAll 85 = .ok (.iload_n 2, 1) := by decide +kernel
theorem dX1_levelAll_86 : decode cX1_levelAll 86 = .ok (.iload 5, 2) := by decide +kernel
theorem dX1_levelAll_88 : decode cX1_levelAll 88 = .ok (.invokevirtual 213, 3) := by decide +kernel
theorem dX1_levelAll_91 : decode cX1_levelAll 91 = .ok (.ifCond .eq 53, 3) := by decide +kernel
theorem dX1_levelAll_94 : decode cX1_levelAll 94 = .ok (.aload_n 0, 1) := by decide +kernel
theorem dX1_levelAll_95 : decode cX1_levelAll 95 = .ok (.getfield 39, 3) := by decide +kernel
theorem dX1_levelAll_98 : decode cX1_levelAll 98 = .ok (.aload_n 0, 1) := by decide +kernel
theorem dX1_levelAll_99 : decode cX1_levelAll 99 = .ok (.getfield 17, 3) := by decide +kernel
theorem dX1_levelAll_102 : decode cX1_levelAll 102 = .ok (.bipush 6, 2) := by decide +kernel
theorem dX1_levelAll_104 : decode cX1_levelAll 104 = .ok (.iload_n 2, 1) := by decide +kernel
theorem dX1_levelAll_105 : decode cX1_levelAll 105 = .ok (.imul, 1) := by decide +kernel
theorem dX1_levelAll_106 : decode cX1_levelAll 106 = .ok (.iload 5, 2) := by decide +kernel
theorem dX1_levelAll_108 : decode cX1_levelAll 108 = .ok (.iadd, 1) := by decide +kernel
theorem dX1_levelAll_109 : decode cX1_levelAll 109 = .ok (.iaload, 1) := by decide +kernel
theorem dX1_levelAll_110 : decode cX1_levelAll 110 = .ok (.iaload, 1) := by decide +kernel
theorem dX1_levelAll_111 : decode cX1_levelAll 111 = .ok (.istore 6, 2) := by decide +kernel
theorem dX1_levelAll_113 : decode cX1_levelAll 113 = .ok (.iload 4, 2) := by decide +kernel
theorem dX1_levelAll_115 : decode cX1_levelAll 115 = .ok (.ifCond .eq 13, 3) := by decide +kernel
theorem dX1_levelAll_118 : decode cX1_levelAll 118 = .ok (.iload 6, 2) := by decide +kernel
theorem dX1_levelAll_120 : decode cX1_levelAll 120 = .ok (.iconst (-1), 1) := by decide +kernel
theorem dX1_levelAll_121 : decode cX1_levelAll 121 = .ok (.if_icmp .eq 7, 3) := by decide +kernel
theorem dX1_levelAll_124 : decode cX1_levelAll 124 = .ok (.iconst 1, 1) := by decide +kernel
theorem dX1_levelAll_125 : decode cX1_levelAll 125 = .ok (.goto 4, 3) := by decide +kernel
theorem dX1_levelAll_128 : decode cX1_levelAll 128 = .ok (.iconst 0, 1) := by decide +kernel
theorem dX1_levelAll_129 : decode cX1_levelAll 129 = .ok (.istore 4, 2) := by decide +kernel
theorem dX1_levelAll_131 : decode cX1_levelAll 131 = .ok (.iload 6, 2) := by decide +kernel
theorem dX1_levelAll_133 : decode cX1_levelAll 133 = .ok (.iload_n 3, 1) := by decide +kernel
theorem dX1_levelAll_134 : decode cX1_levelAll 134 = .ok (.if_icmp .le 8, 3) := by decide +kernel
theorem dX1_levelAll_137 : decode cX1_levelAll 137 = .ok (.iload 6, 2) := by decide +kernel
theorem dX1_levelAll_139 : decode cX1_levelAll 139 = .ok (.goto 4, 3) := by decide +kernel
theorem dX1_levelAll_142 : decode cX1_levelAll 142 = .ok (.iload_n 3, 1) := by decide +kernel
theorem dX1_levelAll_143 : decode cX1_levelAll 143 = .ok (.istore_n 3, 1) := by decide +kernel
theorem dX1_levelAll_144 : decode cX1_levelAll 144 = .ok (.iinc 5 1, 3) := by decide +kernel
theorem dX1_levelAll_147 : decode cX1_levelAll 147 = .ok (.goto (-70), 3) := by decide +kernel
theorem dX1_levelAll_150 : decode cX1_levelAll 150 = .ok (.aload_n 0, 1) := by decide +kernel
theorem dX1_levelAll_151 : decode cX1_levelAll 151 = .ok (.getfield 39, 3) := by decide +kernel
theorem dX1_levelAll_154 : decode cX1_levelAll 154 = .ok (.iload_n 2, 1) := by decide +kernel
theorem dX1_levelAll_155 : decode cX1_levelAll 155 = .ok (.iload 4, 2) := by decide +kernel
theorem dX1_levelAll_157 : decode cX1_levelAll 157 = .ok (.ifCond .eq 9, 3) := by decide +kernel
theorem dX1_levelAll_160 : decode cX1_levelAll 160 = .ok (.iload_n 3, 1) := by decide +kernel
theorem dX1_levelAll_161 : decode cX1_levelAll 161 = .ok (.iconst 1, 1) := by decide +kernel
theorem dX1_levelAll_162 : decode cX1_levelAll 162 = .ok (.iadd, 1) := by decide +kernel
theorem dX1_levelAll_163 : decode cX1_levelAll 163 = .ok (.goto 4, 3) := by decide +kernel
theorem dX1_levelAll_166 : decode cX1_levelAll 166 = .ok (.iconst (-1), 1) := by decide +kernel
theorem dX1_levelAll_167 : decode cX1_levelAll 167 = .ok (.iastore, 1) := by decide +kernel
theorem dX1_levelAll_168 : decode cX1_levelAll 168 = .ok (.iinc 2 1, 3) := by decide +kernel
theorem dX1_levelAll_171 : decode cX1_levelAll 171 = .ok (.goto (-120), 3) := by decide +kernel
theorem dX1_levelAll_174 : decode cX1_levelAll 174 = .ok (.iinc 1 1, 3) := by decide +kernel
theorem dX1_levelAll_177 : decode cX1_levelAll 177 = .ok (.goto (-136), 3) := by decide +kernel
theorem dX1_levelAll_180 : decode cX1_levelAll 180 = .ok (.return_, 1) := by decide +kernel
theorem dX1_level_0 : decode cX1_level 0 = .ok (.aload_n 0, 1) := by decide +kernel
theorem dX1_level_1 : decode cX1_level 1 = .ok (.iload_n 1, 1) := by decide +kernel
theorem dX1_level_2 : decode cX1_level 2 = .ok (.invokevirtual 198, 3) := by decide +kernel
theorem dX1_level_5 : decode cX1_level 5 = .ok (.ifCond .ne 6, 3) := by decide +kernel
theorem dX1_level_8 : decode cX1_level 8 = .ok (.bipush (-101), 2) := by decide +kernel
theorem dX1_level_10 : decode cX1_level 10 = .ok (.ireturn, 1) := by decide +kernel
theorem dX1_level_11 : decode cX1_level 11 = .ok (.aload_n 0, 1) := by decide +kernel
theorem dX1_level_12 : decode cX1_level 12 = .ok (.invokevirtual 230, 3) := by decide +kernel
theorem dX1_level_15 : decode cX1_level 15 = .ok (.aload_n 0, 1) := by decide +kernel
theorem dX1_level_16 : decode cX1_level 16 = .ok (.getfield 39, 3) := by decide +kernel
theorem dX1_level_19 : decode cX1_level 19 = .ok (.iload_n 1, 1) := by decide +kernel
theorem dX1_level_20 : decode cX1_level 20 = .ok (.iaload, 1) := by decide +kernel
theorem dX1_level_21 : decode cX1_level 21 = .ok (.ireturn, 1) := by decide +kernel
theorem hd_X1_check : yX1_check.cls = RX1 ∧ yX1_check.cls ≠ "java/lang/invoke/MethodHandle" ∧ yX1_check.cls ≠ "java/lang/invoke/VarHandle" ∧ (parseMethodDescriptor yX1_check.desc).map (fun d => d.parameters.length) = some 0 := by decide +kernel
theorem hd_X1_hasInputs : yX1_hasInputs.cls = RX1 ∧ yX1_hasInputs.cls ≠ "java/lang/invoke/MethodHandle" ∧ yX1_hasInputs.cls ≠ "java/lang/invoke/VarHandle" ∧ (parseMethodDescriptor yX1_hasInputs.desc).map (fun d => d.parameters.length) = some 1 := by decide +kernel
theorem hd_X1_isInCircle : yX1_isInCircle.cls = RX1 ∧ yX1_isInCircle.cls ≠ "java/lang/invoke/MethodHandle" ∧ yX1_isInCircle.cls ≠ "java/lang/invoke/VarHandle" ∧ (parseMethodDescriptor yX1_isInCircle.desc).map (fun d => d.parameters.length) = some 1 := by decide +kernel
theorem hd_X1_isModule : yX1_isModule.cls = RX1 ∧ yX1_isModule.cls ≠ "java/lang/invoke/MethodHandle" ∧ yX1_isModule.cls ≠ "java/lang/invoke/VarHandle" ∧ (parseMethodDescriptor yX1_isModule.desc).map (fun d => d.parameters.length) = some 1 := by decide +kernel
theorem hd_X1_levelAll : yX1_levelAll.cls = RX1 ∧ yX1_levelAll.cls ≠ "java/lang/invoke/MethodHandle" ∧ yX1_levelAll.cls ≠ "java/lang/invoke/VarHandle" ∧ (parseMethodDescriptor yX1_levelAll.desc).map (fun d => d.parameters.length) = some 0 := by decide +kernel
theorem hd_X1_remembers : yX1_remembers.cls ≠ "java/lang/invoke/MethodHandle" ∧ yX1_remembers.cls ≠ "java/lang/invoke/VarHandle" ∧ (parseMethodDescriptor yX1_remembers.desc).map (fun d => d.parameters.length) = some 1 := by decide +kernel
theorem mt_X1_hasInputs (l : Launch) (D : va_G) (dA : Nat → ClassId) (ad : Nat → Nat) (C : tp_C) (d : md_T) (m : Nat) (hC : mOK C) (hm : m < 20) : mC l D dA ad yX1_hasInputs cX1_hasInputs 4 (some .boolean) 1 [.int (nI m)] C d (some (.int (bI (hiB C m)))) C d := by
  refine mm_start (by decide) rfl (Nat.le_of_ble_eq_true rfl) ?_
  intro p0 e0 s0 mid bl0 me0 co0 ls S hr hlk G hl
  have hx := S.1; have hb := S.2.1; have hml := S.2.2.1; have hown := S.2.2.2.1; have hts := S.2.2.2.2
  have hl : lv_has ls 4 [(0, .ref (ad 0)), (1, .int (nI m))] := hl
  have hk := hC.k m
  have L1 : ∀ (n_ i : Nat), i ≤ 6 → 6 < i + n_ → ∀ (H : Heap) (locs : List Loc) (ls : Array Slot), mG D dA ad C d s0 H locs → lv_has ls 4 [(3, .int (nI i)), (2, .int (bI (anyB C m i))), (0, .ref (ad 0)), (1, .int (nI m))] → (∀ (H : Heap) (locs : List Loc) (ls : Array Slot), mG D dA ad C d s0 H locs → lv_has ls 4 [(3, .int (nI 6)), (2, .int (bI (anyB C m 6))), (0, .ref (ad 0)), (1, .int (nI m))] → W p0 l e0 (rm_ 1) s0 mid (Value.ref (ad 0) :: [.int (nI m)]).toArray bl0 me0 co0 H locs 0 0 (MQ bl0 (mQ D dA ad (some (.int (bI (hiB C m)))) C d) (Value.ref (ad 0) :: [.int (nI m)]).toArray s0 0 0 (mA ad)) (F0 mid 111 ls [])) → W p0 l e0 (rm_ 1) s0 mid (Value.ref (ad 0) :: [.int (nI m)]).toArray bl0 me0 co0 H locs 0 0 (MQ bl0 (mQ D dA ad (some (.int (bI (hiB C m)))) C d) (Value.ref (ad 0) :: [.int (nI m)]).toArray s0 0 0 (mA ad)) (F0 mid 80 ls []) := by
    intro n_
    induction n_ with
    | zero => intro i h1_ h2_; exact absurd h2_ (by omega)
    | succ n_ ih =>
      intro i h1_ h2_ H locs ls G hl kk
      refine lv_iload_n hx hb dX1_hasInputs_80 rfl (lv_at hl 0 rfl) ?_
      refine lv_bipush (v := nI 6) hx hb dX1_hasInputs_81 (by decide) ?_
      refine nn_cge (tgt := 111) hx hb (by omega) (by omega) dX1_hasInputs_83 (by decide) (fun c_83 => ?_) (fun c_83 => ?_)
      · have hiN : i = 6 := by omega
        subst hiN
        exact kk H locs ls G (lv_sub hl [0, 1, 2, 3] rfl)
      · refine lv_iload_n hx hb dX1_hasInputs_86 rfl (lv_at hl 1 rfl) ?_
        refine bb_ne (tgt := 99) hx hb dX1_hasInputs_87 (by decide) (fun c_87 => ?_) (fun c_87 => ?_)
        · refine lv_iconst (v := nI 1) hx hb dX1_hasInputs_99 (by decide) ?_
          refine lv_goto (tgt := 104) hx hb dX1_hasInputs_100 (by decide) ?_
          refine lv_istore_n (lv' := [(2, .int (nI 1)), (3, .int (nI i)), (0, .ref (ad 0)), (1, .int (nI m))]) hx hb dX1_hasInputs_104 rfl hl (by decide) rfl (fun ls hl => ?_)
          refine lv_iinc (v := nI (i + 1)) (lv' := [(3, .int (nI (i + 1))), (2, .int (nI 1)), (0, .ref (ad 0)), (1, .int (nI m))]) hx hb dX1_hasInputs_105 hl (k := 1) rfl (nI_1 _) (by decide) rfl (fun ls hl => ?_)
          refine lv_goto (tgt := 80) hx hb dX1_hasInputs_108 (by decide) ?_
          exact ih (i + 1) (by omega) (by omega) H locs ls G (lv_eq (lv_sub (l' := [(3, .int (nI (i + 1))), (2, .int (nI 1)), (0, .ref (ad 0)), (1, .int (nI m))]) hl [0, 1, 2, 3] rfl) (by simp [anyB_s, bI0, bI1, c_83, c_87])) kk
        · refine lv_aload_n hx hb dX1_hasInputs_90 rfl (lv_at hl 2 rfl) ?_
          refine lv_iload_n hx hb dX1_hasInputs_91 rfl (lv_at hl 3 rfl) ?_
          refine lv_iload_n hx hb dX1_hasInputs_92 rfl (lv_at hl 0 rfl) ?_
          refine mm_call (As := [.int (nI m), .int (nI i)]) (rest := []) S G (mt_X1_has l D dA ad C d m i hC (by omega) (by omega)) q1513 q1515 qs21 q1516 hd_X1_has ⟨Nat.le_of_ble_eq_true rfl, Nat.le_of_ble_eq_true rfl⟩ rfl hl.1 rfl (Nat.le_of_ble_eq_true rfl) dX1_hasInputs_93 ⟨Nat.zero_le _, Nat.zero_le _⟩ (fun H locs G => ?_)
          refine W.eq (g2 := F0 mid 96 ls [.int (bI ((cF C m i).isSome))]) rfl ?_
          refine bb_eq (tgt := 103) hx hb dX1_hasInputs_96 (by decide) (fun c_96 => ?_) (fun c_96 => ?_)
          · refine lv_iconst (v := nI 0) hx hb dX1_hasInputs_103 (by decide) ?_
            refine lv_istore_n (lv' := [(2, .int (nI 0)), (3, .int (nI i)), (0, .ref (ad 0)), (1, .int (nI m))]) hx hb dX1_hasInputs_104 rfl hl (by decide) rfl (fun ls hl => ?_)
            refine lv_iinc (v := nI (i + 1)) (lv' := [(3, .int (nI (i + 1))), (2, .int (nI 0)), (0, .ref (ad 0)), (1, .int (nI m))]) hx hb dX1_hasInputs_105 hl (k := 1) rfl (nI_1 _) (by decide) rfl (fun ls hl => ?_)
            refine lv_goto (tgt := 80) hx hb dX1_hasInputs_108 (by decide) ?_
            exact ih (i + 1) (by omega) (by omega) H locs ls G (lv_eq (lv_sub (l' := [(3, .int (nI (i + 1))), (2, .int (nI 0)), (0, .ref (ad 0)), (1, .int (nI m))]) hl [0, 1, 2, 3] rfl) (by simp [anyB_s, bI0, bI1, c_83, c_87, c_96])) kk
          · refine lv_iconst (v := nI 1) hx hb dX1_hasInputs_99 (by decide) ?_
            refine lv_goto (tgt := 104) hx hb dX1_hasInputs_100 (by decide) ?_
            refine lv_istore_n (lv' := [(2, .int (nI 1)), (3, .int (nI i)), (0, .ref (ad 0)), (1, .int (nI m))]) hx hb dX1_hasInputs_104 rfl hl (by decide) rfl (fun ls hl => ?_)
            refine lv_iinc (v := nI (i + 1)) (lv' := [(3, .int (nI (i + 1))), (2, .int (nI 1)), (0, .ref (ad 0)), (1, .int (nI m))]) hx hb dX1_hasInputs_105 hl (k := 1) rfl (nI_1 _) (by decide) rfl (fun ls hl => ?_)
            refine lv_goto (tgt := 80) hx hb dX1_hasInputs_108 (by decide) ?_
            exact ih (i + 1) (by omega) (by omega) H locs ls G (lv_eq (lv_sub (l' := [(3, .int (nI (i + 1))), (2, .int (nI 1)), (0, .ref (ad 0)), (1, .int (nI m))]) hl [0, 1, 2, 3] rfl) (by simp [anyB_s, bI0, bI1, c_83, c_87, c_96])) kk
  refine lv_aload_n hx hb dX1_hasInputs_0 rfl (lv_at hl 0 rfl) ?_
  refine mm_get S G 1 (by decide) q1268 rfl (v := .ref (ad 2)) rfl dX1_hasInputs_1 ?_
  refine lv_iload_n hx hb dX1_hasInputs_4 rfl (lv_at hl 1 rfl) ?_
  refine mm_iald S G 1 0 (by decide) (n := 20) rfl rfl (by omega) (by decide) (v := nI (cK C m)) rfl dX1_hasInputs_5 ?_
  rcases (show (cK C m = 0 ∨ cK C m = 2) ∨ (cK C m = 1 ∨ cK C m = 6 ∨ cK C m = 7 ∨ cK C m = 10 ∨ cK C m = 11 ∨ cK C m = 12) ∨ (cK C m = 9) ∨ (cK C m = 13) ∨ (cK C m = 3 ∨ cK C m = 4 ∨ cK C m = 5 ∨ cK C m = 8) by omega) with c_6 | c_6 | c_6 | c_6 | c_6
  · have g_6 : hiG (cK C m) = 0 := by rcases c_6 with h | h <;> simp [hiG, h]
    refine sw_in (off := 70) (tgt := 76) [0, 2] (by rcases c_6 with h | h <;> simp [h]) hx hb dX1_hasInputs_6 (by decide) (by decide) ?_
    refine lv_iconst (v := nI 0) hx hb dX1_hasInputs_76 (by decide) ?_
    refine lv_istore_n (lv' := [(2, .int (nI 0)), (0, .ref (ad 0)), (1, .int (nI m))]) hx hb dX1_hasInputs_77 rfl hl (by decide) rfl (fun ls hl => ?_)
    refine lv_iconst (v := nI 0) hx hb dX1_hasInputs_78 (by decide) ?_
    refine lv_istore_n (lv' := [(3, .int (nI 0)), (2, .int (nI 0)), (0, .ref (ad 0)), (1, .int (nI m))]) hx hb dX1_hasInputs_79 rfl hl (by decide) rfl (fun ls hl => ?_)
    refine L1 7 0 (by omega) (by omega) _ _ ls G (lv_eq (lv_sub (l' := [(3, .int (nI 0)), (2, .int (nI 0)), (0, .ref (ad 0)), (1, .int (nI m))]) hl [0, 1, 2, 3] rfl) (by rfl)) (fun H locs ls G hl => ?_)
    refine lv_iload_n hx hb dX1_hasInputs_111 rfl (lv_at hl 1 rfl) ?_
    exact mm_zret S hr hlk G (by first | rfl | exact bb_nar _) (by simp [hiB, g_6]) rfl rfl dX1_hasInputs_112
  · have g_6 : hiG (cK C m) = 1 := by rcases c_6 with h | h | h | h | h | h <;> simp [hiG, h]
    refine sw_in (off := 107) (tgt := 113) [1, 6, 7, 10, 11, 12] (by rcases c_6 with h | h | h | h | h | h <;> simp [h]) hx hb dX1_hasInputs_6 (by decide) (by decide) ?_
    refine lv_aload_n hx hb dX1_hasInputs_113 rfl (lv_at hl 0 rfl) ?_
    refine lv_iload_n hx hb dX1_hasInputs_114 rfl (lv_at hl 1 rfl) ?_
    refine lv_iconst (v := nI 0) hx hb dX1_hasInputs_115 (by decide) ?_
    refine mm_call (As := [.int (nI m), .int (nI 0)]) (rest := []) S G (mt_X1_has l D dA ad C d m 0 hC (by omega) (by omega)) q1513 q1515 qs21 q1516 hd_X1_has ⟨Nat.le_of_ble_eq_true rfl, Nat.le_of_ble_eq_true rfl⟩ rfl hl.1 rfl (Nat.le_of_ble_eq_true rfl) dX1_hasInputs_116 ⟨Nat.zero_le _, Nat.zero_le _⟩ (fun H locs G => ?_)
    refine W.eq (g2 := F0 mid 119 ls [.int (bI ((cF C m 0).isSome))]) rfl ?_
    exact mm_zret S hr hlk G (by first | rfl | exact bb_nar _) (by simp [hiB, g_6]) rfl rfl dX1_hasInputs_119
  · have g_6 : hiG (cK C m) = 2 := by simp [hiG, c_6]
    refine sw_in (off := 114) (tgt := 120) [9] (by simp [c_6]) hx hb dX1_hasInputs_6 (by decide) (by decide) ?_
    refine lv_aload_n hx hb dX1_hasInputs_120 rfl (lv_at hl 0 rfl) ?_
    refine lv_iload_n hx hb dX1_hasInputs_121 rfl (lv_at hl 1 rfl) ?_
    refine lv_iconst (v := nI 0) hx hb dX1_hasInputs_122 (by decide) ?_
    refine mm_call (As := [.int (nI m), .int (nI 0)]) (rest := []) S G (mt_X1_has l D dA ad C d m 0 hC (by omega) (by omega)) q1513 q1515 qs21 q1516 hd_X1_has ⟨Nat.le_of_ble_eq_true rfl, Nat.le_of_ble_eq_true rfl⟩ rfl hl.1 rfl (Nat.le_of_ble_eq_true rfl) dX1_hasInputs_123 ⟨Nat.zero_le _, Nat.zero_le _⟩ (fun H locs G => ?_)
    refine W.eq (g2 := F0 mid 126 ls [.int (bI ((cF C m 0).isSome))]) rfl ?_
    refine bb_eq (tgt := 151) hx hb dX1_hasInputs_126 (by decide) (fun c_126 => ?_) (fun c_126 => ?_)
    · refine lv_iconst (v := nI 0) hx hb dX1_hasInputs_151 (by decide) ?_
      exact mm_zret S hr hlk G (by first | rfl | exact bb_nar _) (bI_f (by simp [hiB, g_6, c_126])) rfl rfl dX1_hasInputs_152
    · refine lv_aload_n hx hb dX1_hasInputs_129 rfl (lv_at hl 0 rfl) ?_
      refine lv_iload_n hx hb dX1_hasInputs_130 rfl (lv_at hl 1 rfl) ?_
      refine lv_iconst (v := nI 1) hx hb dX1_hasInputs_131 (by decide) ?_
      refine mm_call (As := [.int (nI m), .int (nI 1)]) (rest := []) S G (mt_X1_has l D dA ad C d m 1 hC (by omega) (by omega)) q1513 q1515 qs21 q1516 hd_X1_has ⟨Nat.le_of_ble_eq_true rfl, Nat.le_of_ble_eq_true rfl⟩ rfl hl.1 rfl (Nat.le_of_ble_eq_true rfl) dX1_hasInputs_132 ⟨Nat.zero_le _, Nat.zero_le _⟩ (fun H locs G => ?_)
      refine W.eq (g2 := F0 mid 135 ls [.int (bI ((cF C m 1).isSome))]) rfl ?_
      refine bb_eq (tgt := 151) hx hb dX1_hasInputs_135 (by decide) (fun c_135 => ?_) (fun c_135 => ?_)
      · refine lv_iconst (v := nI 0) hx hb dX1_hasInputs_151 (by decide) ?_
        exact mm_zret S hr hlk G (by first | rfl | exact bb_nar _) (bI_f (by simp [hiB, g_6, c_126, c_135])) rfl rfl dX1_hasInputs_152
      · refine lv_aload_n hx hb dX1_hasInputs_138 rfl (lv_at hl 0 rfl) ?_
        refine lv_iload_n hx hb dX1_hasInputs_139 rfl (lv_at hl 1 rfl) ?_
        refine lv_iconst (v := nI 2) hx hb dX1_hasInputs_140 (by decide) ?_
        refine mm_call (As := [.int (nI m), .int (nI 2)]) (rest := []) S G (mt_X1_has l D dA ad C d m 2 hC (by omega) (by omega)) q1513 q1515 qs21 q1516 hd_X1_has ⟨Nat.le_of_ble_eq_true rfl, Nat.le_of_ble_eq_true rfl⟩ rfl hl.1 rfl (Nat.le_of_ble_eq_true rfl) dX1_hasInputs_141 ⟨Nat.zero_le _, Nat.zero_le _⟩ (fun H locs G => ?_)
        refine W.eq (g2 := F0 mid 144 ls [.int (bI ((cF C m 2).isSome))]) rfl ?_
        refine bb_eq (tgt := 151) hx hb dX1_hasInputs_144 (by decide) (fun c_144 => ?_) (fun c_144 => ?_)
        · refine lv_iconst (v := nI 0) hx hb dX1_hasInputs_151 (by decide) ?_
          exact mm_zret S hr hlk G (by first | rfl | exact bb_nar _) (bI_f (by simp [hiB, g_6, c_126, c_135, c_144])) rfl rfl dX1_hasInputs_152
        · refine lv_iconst (v := nI 1) hx hb dX1_hasInputs_147 (by decide) ?_
          refine lv_goto (tgt := 152) hx hb dX1_hasInputs_148 (by decide) ?_
          exact mm_zret S hr hlk G (by first | rfl | exact bb_nar _) (bI_t (by simp [hiB, g_6, c_126, c_135, c_144])) rfl rfl dX1_hasInputs_152
  · have g_6 : hiG (cK C m) = 3 := by simp [hiG, c_6]
    refine sw_in (off := 147) (tgt := 153) [13] (by simp [c_6]) hx hb dX1_hasInputs_6 (by decide) (by decide) ?_
    refine lv_iconst (v := nI 1) hx hb dX1_hasInputs_153 (by decide) ?_
    exact mm_zret S hr hlk G (by first | rfl | exact bb_nar _) (bI_t (by simp [hiB, g_6])) rfl rfl dX1_hasInputs_154
  · have g_6 : hiG (cK C m) = 4 := by rcases c_6 with h | h | h | h <;> simp [hiG, h]
    refine sw_in (off := 149) (tgt := 155) [3, 4, 5, 8] (by rcases c_6 with h | h | h | h <;> simp [h]) hx hb dX1_hasInputs_6 (by decide) (by decide) ?_
    refine lv_aload_n hx hb dX1_hasInputs_155 rfl (lv_at hl 0 rfl) ?_
    refine lv_iload_n hx hb dX1_hasInputs_156 rfl (lv_at hl 1 rfl) ?_
    refine lv_iconst (v := nI 0) hx hb dX1_hasInputs_157 (by decide) ?_
    refine mm_call (As := [.int (nI m), .int (nI 0)]) (rest := []) S G (mt_X1_has l D dA ad C d m 0 hC (by omega) (by omega)) q1513 q1515 qs21 q1516 hd_X1_has ⟨Nat.le_of_ble_eq_true rfl, Nat.le_of_ble_eq_true rfl⟩ rfl hl.1 rfl (Nat.le_of_ble_eq_true rfl) dX1_hasInputs_158 ⟨Nat.zero_le _, Nat.zero_le _⟩ (fun H locs G => ?_)
    refine W.eq (g2 := F0 mid 161 ls [.int (bI ((cF C m 0).isSome))]) rfl ?_
    refine bb_eq (tgt := 177) hx hb dX1_hasInputs_161 (by decide) (fun c_161 => ?_) (fun c_161 => ?_)
    · refine lv_iconst (v := nI 0) hx hb dX1_hasInputs_177 (by decide) ?_
      exact mm_zret S hr hlk G (by first | rfl | exact bb_nar _) (bI_f (by simp [hiB, g_6, c_161])) rfl rfl dX1_hasInputs_178
    · refine lv_aload_n hx hb dX1_hasInputs_164 rfl (lv_at hl 0 rfl) ?_
      refine lv_iload_n hx hb dX1_hasInputs_165 rfl (lv_at hl 1 rfl) ?_
      refine lv_iconst (v := nI 1) hx hb dX1_hasInputs_166 (by decide) ?_
      refine mm_call (As := [.int (nI m), .int (nI 1)]) (rest := []) S G (mt_X1_has l D dA ad C d m 1 hC (by omega) (by omega)) q1513 q1515 qs21 q1516 hd_X1_has ⟨Nat.le_of_ble_eq_true rfl, Nat.le_of_ble_eq_true rfl⟩ rfl hl.1 rfl (Nat.le_of_ble_eq_true rfl) dX1_hasInputs_167 ⟨Nat.zero_le _, Nat.zero_le _⟩ (fun H locs G => ?_)
      refine W.eq (g2 := F0 mid 170 ls [.int (bI ((cF C m 1).isSome))]) rfl ?_
      refine bb_eq (tgt := 177) hx hb dX1_hasInputs_170 (by decide) (fun c_170 => ?_) (fun c_170 => ?_)
      · refine lv_iconst (v := nI 0) hx hb dX1_hasInputs_177 (by decide) ?_
        exact mm_zret S hr hlk G (by first | rfl | exact bb_nar _) (bI_f (by simp [hiB, g_6, c_161, c_170])) rfl rfl dX1_hasInputs_178
      · refine lv_iconst (v := nI 1) hx hb dX1_hasInputs_173 (by decide) ?_
        refine lv_goto (tgt := 178) hx hb dX1_hasInputs_174 (by decide) ?_
        exact mm_zret S hr hlk G (by first | rfl | exact bb_nar _) (bI_t (by simp [hiB, g_6, c_161, c_170])) rfl rfl dX1_hasInputs_178
theorem mt_X1_isInCircle (l : Launch) (D : va_G) (dA : Nat → ClassId) (ad : Nat → Nat) (C : tp_C) (d : md_T) (m : Nat) (hC : mOK C) (hm : m < cN C) : mC l D dA ad yX1_isInCircle cX1_isInCircle 5 (some .boolean) 1 [.int (nI m)] C d (some (.int (bI (ciB C m d)))) C (ciD C m d) := by
  refine mm_start (by decide) rfl (Nat.le_of_ble_eq_true rfl) ?_
  intro p0 e0 s0 mid bl0 me0 co0 ls S hr hlk G hl
  have hx := S.1; have hb := S.2.1; have hml := S.2.2.1; have hown := S.2.2.2.1; have hts := S.2.2.2.2
  have hl : lv_has ls 5 [(0, .ref (ad 0)), (1, .int (nI m))] := hl
  have hN := hC.n
  have L0 : ∀ (n_ i : Nat), i ≤ cN C → cN C < i + n_ → ∀ (H : Heap) (locs : List Loc) (ls : Array Slot), mG D dA ad C (sAI d 43 (clr (dAI d 43) i)) s0 H locs → lv_has ls 5 [(2, .int (nI i)), (0, .ref (ad 0)), (1, .int (nI m))] → (∀ (H : Heap) (locs : List Loc) (ls : Array Slot), mG D dA ad C (sAI d 43 (clr (dAI d 43) (cN C))) s0 H locs → lv_has ls 5 [(2, .int (nI (cN C))), (0, .ref (ad 0)), (1, .int (nI m))] → W p0 l e0 (rm_ 1) s0 mid (Value.ref (ad 0) :: [.int (nI m)]).toArray bl0 me0 co0 H locs 0 0 (MQ bl0 (mQ D dA ad (some (.int (bI (ciB C m d)))) C (ciD C m d)) (Value.ref (ad 0) :: [.int (nI m)]).toArray s0 0 0 (mA ad)) (F0 mid 37 ls [])) → W p0 l e0 (rm_ 1) s0 mid (Value.ref (ad 0) :: [.int (nI m)]).toArray bl0 me0 co0 H locs 0 0 (MQ bl0 (mQ D dA ad (some (.int (bI (ciB C m d)))) C (ciD C m d)) (Value.ref (ad 0) :: [.int (nI m)]).toArray s0 0 0 (mA ad)) (F0 mid 16 ls []) := by
    intro n_
    induction n_ with
    | zero => intro i h1_ h2_; exact absurd h2_ (by omega)
    | succ n_ ih =>
      intro i h1_ h2_ H locs ls G hl kk
      refine lv_iload_n hx hb dX1_isInCircle_16 rfl (lv_at hl 0 rfl) ?_
      refine lv_aload_n hx hb dX1_isInCircle_17 rfl (lv_at hl 1 rfl) ?_
      refine mm_get S G 0 (by decide) q1267 rfl (v := .int (nI (cN C))) rfl dX1_isInCircle_18 ?_
      refine nn_cge (tgt := 37) hx hb (by omega) (by omega) dX1_isInCircle_21 (by decide) (fun c_21 => ?_) (fun c_21 => ?_)
      · have hiN : i = cN C := by omega
        subst hiN
        exact kk H locs ls G (lv_sub hl [0, 1, 2] rfl)
      · refine lv_aload_n hx hb dX1_isInCircle_24 rfl (lv_at hl 1 rfl) ?_
        refine mm_get S G 43 (by decide) q1310 rfl (v := .ref (ad 44)) rfl dX1_isInCircle_25 ?_
        refine lv_iload_n hx hb dX1_isInCircle_28 rfl (lv_at hl 0 rfl) ?_
        refine lv_iconst (v := nI 0) hx hb dX1_isInCircle_29 (by decide) ?_
        refine mm_zast (b := false) S G 43 rfl (by decide) (n := 20) rfl (by omega) dX1_isInCircle_30 (fun H locs G => ?_)
        refine lv_iinc (v := nI (i + 1)) (lv' := [(2, .int (nI (i + 1))), (0, .ref (ad 0)), (1, .int (nI m))]) hx hb dX1_isInCircle_31 hl (k := 0) rfl (nI_1 _) (by decide) rfl (fun ls hl => ?_)
        refine lv_goto (tgt := 16) hx hb dX1_isInCircle_34 (by decide) ?_
        exact ih (i + 1) (by omega) (by omega) H locs ls (mG_d (by simp only [uAI_sAI]; rfl) G) (lv_sub hl [0, 1, 2] rfl) kk
  have L3 : ∀ (f : Nat → Int32) (t k : Nat) (hk : k < cN C) (ht : t ≤ cN C) (n_ i : Nat), i ≤ 6 → 6 < i + n_ → ∀ (H : Heap) (locs : List Loc) (ls : Array Slot), mG D dA ad C (sAI d 43 (it_ (ciI C k) i f)) s0 H locs → lv_has ls 5 [(4, .int (nI i)), (3, .int (nI k)), (2, .int (nI t)), (0, .ref (ad 0)), (1, .int (nI m))] → (∀ (H : Heap) (locs : List Loc) (ls : Array Slot), mG D dA ad C (sAI d 43 (it_ (ciI C k) 6 f)) s0 H locs → lv_has ls 5 [(4, .int (nI 6)), (3, .int (nI k)), (2, .int (nI t)), (0, .ref (ad 0)), (1, .int (nI m))] → W p0 l e0 (rm_ 1) s0 mid (Value.ref (ad 0) :: [.int (nI m)]).toArray bl0 me0 co0 H locs 0 0 (MQ bl0 (mQ D dA ad (some (.int (bI (ciB C m d)))) C (ciD C m d)) (Value.ref (ad 0) :: [.int (nI m)]).toArray s0 0 0 (mA ad)) (F0 mid 127 ls [])) → W p0 l e0 (rm_ 1) s0 mid (Value.ref (ad 0) :: [.int (nI m)]).toArray bl0 me0 co0 H locs 0 0 (MQ bl0 (mQ D dA ad (some (.int (bI (ciB C m d)))) C (ciD C m d)) (Value.ref (ad 0) :: [.int (nI m)]).toArray s0 0 0 (mA ad)) (F0 mid 86 ls []) := by
    intro f t k hk ht n_
    induction n_ with
    | zero => intro i h1_ h2_; exact absurd h2_ (by omega)
    | succ n_ ih =>
      intro i h1_ h2_ H locs ls G hl kk
      refine lv_iload hx hb dX1_isInCircle_86 (lv_at hl 0 rfl) ?_
      refine lv_bipush (v := nI 6) hx hb dX1_isInCircle_88 (by decide) ?_
      refine nn_cge (tgt := 127) hx hb (by omega) (by omega) dX1_isInCircle_90 (by decide) (fun c_90 => ?_) (fun c_90 => ?_)
      · have hiN : i = 6 := by omega
        subst hiN
        exact kk H locs ls G (lv_sub hl [0, 1, 2, 3, 4] rfl)
      · refine lv_aload_n hx hb dX1_isInCircle_93 rfl (lv_at hl 3 rfl) ?_
        refine lv_iload_n hx hb dX1_isInCircle_94 rfl (lv_at hl 1 rfl) ?_
        refine lv_iload hx hb dX1_isInCircle_95 (lv_at hl 0 rfl) ?_
        refine mm_call (As := [.int (nI k), .int (nI i)]) (rest := []) S G (mt_X1_has l D dA ad C (sAI d 43 (it_ (ciI C k) i f)) k i hC (by omega) (by omega)) q1513 q1515 qs21 q1516 hd_X1_has ⟨Nat.le_of_ble_eq_true rfl, Nat.le_of_ble_eq_true rfl⟩ rfl hl.1 rfl (Nat.le_of_ble_eq_true rfl) dX1_isInCircle_97 ⟨Nat.zero_le _, Nat.zero_le _⟩ (fun H locs G => ?_)
        refine W.eq (g2 := F0 mid 100 ls [.int (bI ((cF C k i).isSome))]) rfl ?_
        refine bb_eq (tgt := 121) hx hb dX1_isInCircle_100 (by decide) (fun c_100 => ?_) (fun c_100 => ?_)
        · have hq := op_none c_100
          refine lv_iinc (v := nI (i + 1)) (lv' := [(4, .int (nI (i + 1))), (3, .int (nI k)), (2, .int (nI t)), (0, .ref (ad 0)), (1, .int (nI m))]) hx hb dX1_isInCircle_121 hl (k := 0) rfl (nI_1 _) (by decide) rfl (fun ls hl => ?_)
          refine lv_goto (tgt := 86) hx hb dX1_isInCircle_124 (by decide) ?_
          exact ih (i + 1) (by omega) (by omega) H locs ls (mG_d (by simp [it_s, ciI, uAI_sAI, hq]) G) (lv_sub hl [0, 1, 2, 3, 4] rfl) kk
        · obtain ⟨q, hq⟩ := op_some c_100
          have hq20 := hC.f20 hq
          refine lv_aload_n hx hb dX1_isInCircle_103 rfl (lv_at hl 3 rfl) ?_
          refine mm_get S G 43 (by decide) q1310 rfl (v := .ref (ad 44)) rfl dX1_isInCircle_104 ?_
          refine lv_aload_n hx hb dX1_isInCircle_107 rfl (lv_at hl 3 rfl) ?_
          refine mm_get S G 3 (by decide) q1270 rfl (v := .ref (ad 4)) rfl dX1_isInCircle_108 ?_
          refine lv_bipush (v := nI 6) hx hb dX1_isInCircle_111 (by decide) ?_
          refine lv_iload_n hx hb dX1_isInCircle_113 rfl (lv_at hl 1 rfl) ?_
          refine nn_mul hx hb dX1_isInCircle_114 ?_
          refine lv_iload hx hb dX1_isInCircle_115 (lv_at hl 0 rfl) ?_
          refine nn_add hx hb dX1_isInCircle_117 ?_
          refine mm_iald S G 3 0 (by decide) (n := 120) rfl rfl (by omega) (by decide) (v := nI q) ((tp_fr (by omega)).trans (by rw [hq]; rfl)) dX1_isInCircle_118 ?_
          refine lv_iconst (v := nI 1) hx hb dX1_isInCircle_119 (by decide) ?_
          refine mm_zast (b := true) S G 43 rfl (by decide) (n := 20) rfl (by omega) dX1_isInCircle_120 (fun H locs G => ?_)
          refine lv_iinc (v := nI (i + 1)) (lv' := [(4, .int (nI (i + 1))), (3, .int (nI k)), (2, .int (nI t)), (0, .ref (ad 0)), (1, .int (nI m))]) hx hb dX1_isInCircle_121 hl (k := 0) rfl (nI_1 _) (by decide) rfl (fun ls hl => ?_)
          refine lv_goto (tgt := 86) hx hb dX1_isInCircle_124 (by decide) ?_
          exact ih (i + 1) (by omega) (by omega) H locs ls (mG_d (by simp [it_s, ciI, uAI_sAI, hq]) G) (lv_sub hl [0, 1, 2, 3, 4] rfl) kk
  have L2 : ∀ (f : Nat → Int32) (t : Nat) (ht : t ≤ cN C) (n_ k : Nat), k ≤ cN C → cN C < k + n_ → ∀ (H : Heap) (locs : List Loc) (ls : Array Slot), mG D dA ad C (sAI d 43 (it_ (ciS C m) k f)) s0 H locs → lv_has ls 5 [(3, .int (nI k)), (2, .int (nI t)), (0, .ref (ad 0)), (1, .int (nI m))] → (∀ (H : Heap) (locs : List Loc) (ls : Array Slot), mG D dA ad C (sAI d 43 (it_ (ciS C m) (cN C) f)) s0 H locs → lv_has ls 5 [(3, .int (nI (cN C))), (2, .int (nI t)), (0, .ref (ad 0)), (1, .int (nI m))] → W p0 l e0 (rm_ 1) s0 mid (Value.ref (ad 0) :: [.int (nI m)]).toArray bl0 me0 co0 H locs 0 0 (MQ bl0 (mQ D dA ad (some (.int (bI (ciB C m d)))) C (ciD C m d)) (Value.ref (ad 0) :: [.int (nI m)]).toArray s0 0 0 (mA ad)) (F0 mid 133 ls [])) → W p0 l e0 (rm_ 1) s0 mid (Value.ref (ad 0) :: [.int (nI m)]).toArray bl0 me0 co0 H locs 0 0 (MQ bl0 (mQ D dA ad (some (.int (bI (ciB C m d)))) C (ciD C m d)) (Value.ref (ad 0) :: [.int (nI m)]).toArray s0 0 0 (mA ad)) (F0 mid 49 ls []) := by
    intro f t ht n_
    induction n_ with
    | zero => intro k h1_ h2_; exact absurd h2_ (by omega)
    | succ n_ ih =>
      intro k h1_ h2_ H locs ls G hl kk
      refine lv_iload_n hx hb dX1_isInCircle_49 rfl (lv_at hl 0 rfl) ?_
      refine lv_aload_n hx hb dX1_isInCircle_50 rfl (lv_at hl 2 rfl) ?_
      refine mm_get S G 0 (by decide) q1267 rfl (v := .int (nI (cN C))) rfl dX1_isInCircle_51 ?_
      refine nn_cge (tgt := 133) hx hb (by omega) (by omega) dX1_isInCircle_54 (by decide) (fun c_54 => ?_) (fun c_54 => ?_)
      · have hiN : k = cN C := by omega
        subst hiN
        exact kk H locs ls G (lv_sub hl [0, 1, 2, 3] rfl)
      · refine lv_iload_n hx hb dX1_isInCircle_57 rfl (lv_at hl 0 rfl) ?_
        refine lv_iload_n hx hb dX1_isInCircle_58 rfl (lv_at hl 3 rfl) ?_
        refine nn_ceq (tgt := 71) hx hb (by omega) (by omega) dX1_isInCircle_59 (by decide) (fun c_59 => ?_) (fun c_59 => ?_)
        · refine lv_aload_n hx hb dX1_isInCircle_71 rfl (lv_at hl 2 rfl) ?_
          refine mm_get S G 1 (by decide) q1268 rfl (v := .ref (ad 2)) rfl dX1_isInCircle_72 ?_
          refine lv_iload_n hx hb dX1_isInCircle_75 rfl (lv_at hl 0 rfl) ?_
          refine mm_iald S G 1 0 (by decide) (n := 20) rfl rfl (by omega) (by decide) (v := nI (cK C k)) rfl dX1_isInCircle_76 ?_
          refine sC_call (As := [.int (nI (cK C k))]) (rest := []) S (st_X1_remembers l (cK C k) (hC.k _)) q1494 q1495 q53 q1496 hd_X1_remembers ⟨Nat.le_of_ble_eq_true rfl, Nat.le_of_ble_eq_true rfl⟩ rfl hl.1 rfl (Nat.le_of_ble_eq_true rfl) dX1_isInCircle_77 ⟨Nat.zero_le _, Nat.zero_le _⟩ ?_
          refine W.eq (g2 := F0 mid 80 ls [.int (bI (rmB (cK C k)))]) rfl ?_
          refine bb_ne (tgt := 127) hx hb dX1_isInCircle_80 (by decide) (fun c_80 => ?_) (fun c_80 => ?_)
          · refine lv_iinc (v := nI (k + 1)) (lv' := [(3, .int (nI (k + 1))), (2, .int (nI t)), (0, .ref (ad 0)), (1, .int (nI m))]) hx hb dX1_isInCircle_127 hl (k := 0) rfl (nI_1 _) (by decide) rfl (fun ls hl => ?_)
            refine lv_goto (tgt := 49) hx hb dX1_isInCircle_130 (by decide) ?_
            exact ih (k + 1) (by omega) (by omega) H locs ls (mG_d (by show _ = sAI d 43 (ciS C m k (it_ (ciS C m) k f)); rw [ciS_eq, if_neg (fun h => nb_tf c_80 h.2)]) G) (lv_sub hl [0, 1, 2, 3] rfl) kk
          · refine lv_iconst (v := nI 0) hx hb dX1_isInCircle_83 (by decide) ?_
            refine lv_istore (lv' := [(4, .int (nI 0)), (3, .int (nI k)), (2, .int (nI t)), (0, .ref (ad 0)), (1, .int (nI m))]) hx hb dX1_isInCircle_84 hl (by decide) rfl (fun ls hl => ?_)
            refine L3 (it_ (ciS C m) k f) t k (by omega) ht 7 0 (by omega) (by omega) _ _ ls (mG_d (by rfl) G) (lv_sub hl [0, 1, 2, 3, 4] rfl) (fun H locs ls G hl => ?_)
            refine lv_iinc (v := nI (k + 1)) (lv' := [(3, .int (nI (k + 1))), (4, .int (nI 6)), (2, .int (nI t)), (0, .ref (ad 0)), (1, .int (nI m))]) hx hb dX1_isInCircle_127 hl (k := 1) rfl (nI_1 _) (by decide) rfl (fun ls hl => ?_)
            refine lv_goto (tgt := 49) hx hb dX1_isInCircle_130 (by decide) ?_
            exact ih (k + 1) (by omega) (by omega) H locs ls (mG_d (by show _ = sAI d 43 (ciS C m k (it_ (ciS C m) k f)); rw [ciS_eq, if_pos ⟨Or.inl c_59, c_80⟩]) G) (lv_sub hl [0, 2, 3, 4] rfl) kk
        · refine lv_aload_n hx hb dX1_isInCircle_62 rfl (lv_at hl 2 rfl) ?_
          refine mm_get S G 43 (by decide) q1310 rfl (v := .ref (ad 44)) rfl dX1_isInCircle_63 ?_
          refine lv_iload_n hx hb dX1_isInCircle_66 rfl (lv_at hl 0 rfl) ?_
          refine mm_zald S G 43 1 (by decide) (n := 20) rfl rfl (by omega) (by decide) (v := bI (it_ (ciS C m) k f k != 0)) rfl dX1_isInCircle_67 ?_
          refine bb_eq (tgt := 127) hx hb dX1_isInCircle_68 (by decide) (fun c_68 => ?_) (fun c_68 => ?_)
          · refine lv_iinc (v := nI (k + 1)) (lv' := [(3, .int (nI (k + 1))), (2, .int (nI t)), (0, .ref (ad 0)), (1, .int (nI m))]) hx hb dX1_isInCircle_127 hl (k := 0) rfl (nI_1 _) (by decide) rfl (fun ls hl => ?_)
            refine lv_goto (tgt := 49) hx hb dX1_isInCircle_130 (by decide) ?_
            exact ih (k + 1) (by omega) (by omega) H locs ls (mG_d (by show _ = sAI d 43 (ciS C m k (it_ (ciS C m) k f)); rw [ciS_eq, if_neg (fun h => h.1.elim c_59 (fun h => nb_tf h c_68))]) G) (lv_sub hl [0, 1, 2, 3] rfl) kk
          · refine lv_aload_n hx hb dX1_isInCircle_71 rfl (lv_at hl 2 rfl) ?_
            refine mm_get S G 1 (by decide) q1268 rfl (v := .ref (ad 2)) rfl dX1_isInCircle_72 ?_
            refine lv_iload_n hx hb dX1_isInCircle_75 rfl (lv_at hl 0 rfl) ?_
            refine mm_iald S G 1 0 (by decide) (n := 20) rfl rfl (by omega) (by decide) (v := nI (cK C k)) rfl dX1_isInCircle_76 ?_
            refine sC_call (As := [.int (nI (cK C k))]) (rest := []) S (st_X1_remembers l (cK C k) (hC.k _)) q1494 q1495 q53 q1496 hd_X1_remembers ⟨Nat.le_of_ble_eq_true rfl, Nat.le_of_ble_eq_true rfl⟩ rfl hl.1 rfl (Nat.le_of_ble_eq_true rfl) dX1_isInCircle_77 ⟨Nat.zero_le _, Nat.zero_le _⟩ ?_
            refine W.eq (g2 := F0 mid 80 ls [.int (bI (rmB (cK C k)))]) rfl ?_
            refine bb_ne (tgt := 127) hx hb dX1_isInCircle_80 (by decide) (fun c_80 => ?_) (fun c_80 => ?_)
            · refine lv_iinc (v := nI (k + 1)) (lv' := [(3, .int (nI (k + 1))), (2, .int (nI t)), (0, .ref (ad 0)), (1, .int (nI m))]) hx hb dX1_isInCircle_127 hl (k := 0) rfl (nI_1 _) (by decide) rfl (fun ls hl => ?_)
              refine lv_goto (tgt := 49) hx hb dX1_isInCircle_130 (by decide) ?_
              exact ih (k + 1) (by omega) (by omega) H locs ls (mG_d (by show _ = sAI d 43 (ciS C m k (it_ (ciS C m) k f)); rw [ciS_eq, if_neg (fun h => nb_tf c_80 h.2)]) G) (lv_sub hl [0, 1, 2, 3] rfl) kk
            · refine lv_iconst (v := nI 0) hx hb dX1_isInCircle_83 (by decide) ?_
              refine lv_istore (lv' := [(4, .int (nI 0)), (3, .int (nI k)), (2, .int (nI t)), (0, .ref (ad 0)), (1, .int (nI m))]) hx hb dX1_isInCircle_84 hl (by decide) rfl (fun ls hl => ?_)
              refine L3 (it_ (ciS C m) k f) t k (by omega) ht 7 0 (by omega) (by omega) _ _ ls (mG_d (by rfl) G) (lv_sub hl [0, 1, 2, 3, 4] rfl) (fun H locs ls G hl => ?_)
              refine lv_iinc (v := nI (k + 1)) (lv' := [(3, .int (nI (k + 1))), (4, .int (nI 6)), (2, .int (nI t)), (0, .ref (ad 0)), (1, .int (nI m))]) hx hb dX1_isInCircle_127 hl (k := 1) rfl (nI_1 _) (by decide) rfl (fun ls hl => ?_)
              refine lv_goto (tgt := 49) hx hb dX1_isInCircle_130 (by decide) ?_
              exact ih (k + 1) (by omega) (by omega) H locs ls (mG_d (by show _ = sAI d 43 (ciS C m k (it_ (ciS C m) k f)); rw [ciS_eq, if_pos ⟨Or.inr c_68, c_80⟩]) G) (lv_sub hl [0, 2, 3, 4] rfl) kk
  have L1 : ∀ (n_ t : Nat), t ≤ (cN C + 1) → (cN C + 1) < t + n_ → ∀ (H : Heap) (locs : List Loc) (ls : Array Slot), mG D dA ad C (sAI d 43 (it_ (ciT C m) t (clr (dAI d 43) (cN C)))) s0 H locs → lv_has ls 5 [(2, .int (nI t)), (0, .ref (ad 0)), (1, .int (nI m))] → (∀ (H : Heap) (locs : List Loc) (ls : Array Slot), mG D dA ad C (sAI d 43 (it_ (ciT C m) (cN C + 1) (clr (dAI d 43) (cN C)))) s0 H locs → lv_has ls 5 [(2, .int (nI (cN C + 1))), (0, .ref (ad 0)), (1, .int (nI m))] → W p0 l e0 (rm_ 1) s0 mid (Value.ref (ad 0) :: [.int (nI m)]).toArray bl0 me0 co0 H locs 0 0 (MQ bl0 (mQ D dA ad (some (.int (bI (ciB C m d)))) C (ciD C m d)) (Value.ref (ad 0) :: [.int (nI m)]).toArray s0 0 0 (mA ad)) (F0 mid 139 ls [])) → W p0 l e0 (rm_ 1) s0 mid (Value.ref (ad 0) :: [.int (nI m)]).toArray bl0 me0 co0 H locs 0 0 (MQ bl0 (mQ D dA ad (some (.int (bI (ciB C m d)))) C (ciD C m d)) (Value.ref (ad 0) :: [.int (nI m)]).toArray s0 0 0 (mA ad)) (F0 mid 39 ls []) := by
    intro n_
    induction n_ with
    | zero => intro t h1_ h2_; exact absurd h2_ (by omega)
    | succ n_ ih =>
      intro t h1_ h2_ H locs ls G hl kk
      refine lv_iload_n hx hb dX1_isInCircle_39 rfl (lv_at hl 0 rfl) ?_
      refine lv_aload_n hx hb dX1_isInCircle_40 rfl (lv_at hl 1 rfl) ?_
      refine mm_get S G 0 (by decide) q1267 rfl (v := .int (nI (cN C))) rfl dX1_isInCircle_41 ?_
      refine nn_cgt (tgt := 139) hx hb (by omega) (by omega) dX1_isInCircle_44 (by decide) (fun c_44 => ?_) (fun c_44 => ?_)
      · have hiN : t = (cN C + 1) := by omega
        subst hiN
        exact kk H locs ls G (lv_sub hl [0, 1, 2] rfl)
      · refine lv_iconst (v := nI 0) hx hb dX1_isInCircle_47 (by decide) ?_
        refine lv_istore_n (lv' := [(3, .int (nI 0)), (2, .int (nI t)), (0, .ref (ad 0)), (1, .int (nI m))]) hx hb dX1_isInCircle_48 rfl hl (by decide) rfl (fun ls hl => ?_)
        refine L2 (it_ (ciT C m) t (clr (dAI d 43) (cN C))) t (by omega) (cN C + 1) 0 (by omega) (by omega) _ _ ls (mG_d (by rfl) G) (lv_sub hl [0, 1, 2, 3] rfl) (fun H locs ls G hl => ?_)
        refine lv_iinc (v := nI (t + 1)) (lv' := [(2, .int (nI (t + 1))), (3, .int (nI (cN C))), (0, .ref (ad 0)), (1, .int (nI m))]) hx hb dX1_isInCircle_133 hl (k := 1) rfl (nI_1 _) (by decide) rfl (fun ls hl => ?_)
        refine lv_goto (tgt := 39) hx hb dX1_isInCircle_136 (by decide) ?_
        exact ih (t + 1) (by omega) (by omega) H locs ls (mG_d (by rfl) G) (lv_sub hl [0, 2, 3] rfl) kk
  refine lv_aload_n hx hb dX1_isInCircle_0 rfl (lv_at hl 0 rfl) ?_
  refine mm_get S G 1 (by decide) q1268 rfl (v := .ref (ad 2)) rfl dX1_isInCircle_1 ?_
  refine lv_iload_n hx hb dX1_isInCircle_4 rfl (lv_at hl 1 rfl) ?_
  refine mm_iald S G 1 0 (by decide) (n := 20) rfl rfl (by omega) (by decide) (v := nI (cK C m)) rfl dX1_isInCircle_5 ?_
  refine sC_call (As := [.int (nI (cK C m))]) (rest := []) S (st_X1_remembers l (cK C m) (hC.k _)) q1494 q1495 q53 q1496 hd_X1_remembers ⟨Nat.le_of_ble_eq_true rfl, Nat.le_of_ble_eq_true rfl⟩ rfl hl.1 rfl (Nat.le_of_ble_eq_true rfl) dX1_isInCircle_6 ⟨Nat.zero_le _, Nat.zero_le _⟩ ?_
  refine W.eq (g2 := F0 mid 9 ls [.int (bI (rmB (cK C m)))]) rfl ?_
  refine bb_eq (tgt := 14) hx hb dX1_isInCircle_9 (by decide) (fun c_9 => ?_) (fun c_9 => ?_)
  · refine lv_iconst (v := nI 0) hx hb dX1_isInCircle_14 (by decide) ?_
    refine lv_istore_n (lv' := [(2, .int (nI 0)), (0, .ref (ad 0)), (1, .int (nI m))]) hx hb dX1_isInCircle_15 rfl hl (by decide) rfl (fun ls hl => ?_)
    refine L0 (cN C + 1) 0 (by omega) (by omega) _ _ ls (mG_d (by exact (sAI_self d 43).symm) G) (lv_sub hl [0, 1, 2] rfl) (fun H locs ls G hl => ?_)
    refine lv_iconst (v := nI 0) hx hb dX1_isInCircle_37 (by decide) ?_
    refine lv_istore_n (lv' := [(2, .int (nI 0)), (0, .ref (ad 0)), (1, .int (nI m))]) hx hb dX1_isInCircle_38 rfl hl (by decide) rfl (fun ls hl => ?_)
    refine L1 (cN C + 2) 0 (by omega) (by omega) _ _ ls (mG_d (by rfl) G) (lv_sub hl [0, 1, 2] rfl) (fun H locs ls G hl => ?_)
    refine lv_aload_n hx hb dX1_isInCircle_139 rfl (lv_at hl 1 rfl) ?_
    refine mm_get S G 43 (by decide) q1310 rfl (v := .ref (ad 44)) rfl dX1_isInCircle_140 ?_
    refine lv_iload_n hx hb dX1_isInCircle_143 rfl (lv_at hl 2 rfl) ?_
    refine mm_zald S G 43 1 (by decide) (n := 20) rfl rfl (by omega) (by decide) (v := bI (dAI (sAI d 43 (it_ (ciT C m) (cN C + 1) (clr (dAI d 43) (cN C)))) 43 m != 0)) rfl dX1_isInCircle_144 ?_
    exact mm_zret S hr hlk G (by first | rfl | exact bb_nar _) (by simp [ciB, ciD, c_9] <;> rfl) rfl (by simp [ciB, ciD, c_9] <;> rfl) dX1_isInCircle_145
  · refine lv_iconst (v := nI 0) hx hb dX1_isInCircle_12 (by decide) ?_
    exact mm_zret S hr hlk G (by first | rfl | exact bb_nar _) (bI_f (by simp [ciB, ciD, c_9] <;> rfl)) rfl (by simp [ciB, ciD, c_9] <;> rfl) dX1_isInCircle_13
theorem mt_X1_check (l : Launch) (D : va_G) (dA : Nat → ClassId) (ad : Nat → Nat) (C : tp_C) (d : md_T) (hC : mOK C) : mC l D dA ad yX1_check cX1_check 2 (some .int) 2 [] C d (some (.int (nI (ckN C d)))) C (ckD C d) := by
  refine mm_start (by decide) rfl (Nat.le_of_ble_eq_true rfl) ?_
  intro p0 e0 s0 mid bl0 me0 co0 ls S hr hlk G hl
  have hx := S.1; have hb := S.2.1; have hml := S.2.2.1; have hown := S.2.2.2.1; have hts := S.2.2.2.2
  have hl : lv_has ls 2 [(0, .ref (ad 0))] := hl
  have hN := hC.n
  have L1 : ∀ (n_ i : Nat), i ≤ cN C → cN C < i + n_ → (∀ k, k < i → ckP1 C k = false) → ∀ (H : Heap) (locs : List Loc) (ls : Array Slot), mG D dA ad C d s0 H locs → lv_has ls 2 [(1, .int (nI i)), (0, .ref (ad 0))] → (∀ (H : Heap) (locs : List Loc) (ls : Array Slot), (∀ k, k < cN C → ckP1 C k = false) → mG D dA ad C d s0 H locs → lv_has ls 2 [(1, .int (nI (cN C))), (0, .ref (ad 0))] → W p0 l e0 (rm_ 2) s0 mid (Value.ref (ad 0) :: []).toArray bl0 me0 co0 H locs 0 0 (MQ bl0 (mQ D dA ad (some (.int (nI (ckN C d)))) C (ckD C d)) (Value.ref (ad 0) :: []).toArray s0 0 0 (mA ad)) (F0 mid 33 ls [])) → W p0 l e0 (rm_ 2) s0 mid (Value.ref (ad 0) :: []).toArray bl0 me0 co0 H locs 0 0 (MQ bl0 (mQ D dA ad (some (.int (nI (ckN C d)))) C (ckD C d)) (Value.ref (ad 0) :: []).toArray s0 0 0 (mA ad)) (F0 mid 2 ls []) := by
    intro n_
    induction n_ with
    | zero => intro i h1_ h2_; exact absurd h2_ (by omega)
    | succ n_ ih =>
      intro i h1_ h2_ hh0 H locs ls G hl kk
      refine lv_iload_n hx hb dX1_check_2 rfl (lv_at hl 0 rfl) ?_
      refine lv_aload_n hx hb dX1_check_3 rfl (lv_at hl 1 rfl) ?_
      refine mm_get S G 0 (by decide) q1267 rfl (v := .int (nI (cN C))) rfl dX1_check_4 ?_
      refine nn_cge (tgt := 33) hx hb (by omega) (by omega) dX1_check_7 (by decide) (fun c_7 => ?_) (fun c_7 => ?_)
      · have hiN : i = cN C := by omega
        subst hiN
        exact kk H locs ls hh0 G (lv_sub hl [0, 1] rfl)
      · refine lv_aload_n hx hb dX1_check_10 rfl (lv_at hl 1 rfl) ?_
        refine lv_iload_n hx hb dX1_check_11 rfl (lv_at hl 0 rfl) ?_
        refine mm_call (As := [.int (nI i)]) (rest := []) S G (mt_X1_hasInputs l D dA ad C d i hC (by omega)) q1509 q1511 qs20 q1512 hd_X1_hasInputs ⟨Nat.le_of_ble_eq_true rfl, Nat.le_of_ble_eq_true rfl⟩ rfl hl.1 rfl (Nat.le_of_ble_eq_true rfl) dX1_check_12 ⟨Nat.zero_le _, Nat.zero_le _⟩ (fun H locs G => ?_)
        refine W.eq (g2 := F0 mid 15 ls [.int (bI (hiB C i))]) rfl ?_
        refine bb_ne (tgt := 27) hx hb dX1_check_15 (by decide) (fun c_15 => ?_) (fun c_15 => ?_)
        · refine lv_iinc (v := nI (i + 1)) (lv' := [(1, .int (nI (i + 1))), (0, .ref (ad 0))]) hx hb dX1_check_27 hl (k := 0) rfl (nI_1 _) (by decide) rfl (fun ls hl => ?_)
          refine lv_goto (tgt := 2) hx hb dX1_check_30 (by decide) ?_
          exact ih (i + 1) (by omega) (by omega) (lt_sB hh0 (by simp [ckP1, c_15])) H locs ls G (lv_sub hl [0, 1] rfl) kk
        · have f1 : fi_ (ckP1 C) (cN C) = some i := fi_some (by omega) (by simp [ckP1, c_15]) hh0
          refine lv_aload_n hx hb dX1_check_18 rfl (lv_at hl 1 rfl) ?_
          refine lv_iconst (v := nI 1) hx hb dX1_check_19 (by decide) ?_
          refine mm_puti S G 16 rfl (by decide) q1283 rfl rfl rfl dX1_check_20 (fun H locs G => ?_)
          refine lv_iconst (v := nI 1) hx hb dX1_check_23 (by decide) ?_
          refine lv_iload_n hx hb dX1_check_24 rfl (lv_at hl 0 rfl) ?_
          refine nn_add hx hb dX1_check_25 ?_
          exact mm_iret S hr hlk G (by simp [ckN, ckD, f1]) rfl (by simp [ckN, ckD, f1]) dX1_check_26
  have L2 : ∀ (f1 : fi_ (ckP1 C) (cN C) = none) (n_ i : Nat), i ≤ cN C → cN C < i + n_ → (∀ k, k < i → ckP2 C k = false) → ∀ (H : Heap) (locs : List Loc) (ls : Array Slot), mG D dA ad C d s0 H locs → lv_has ls 2 [(1, .int (nI i)), (0, .ref (ad 0))] → (∀ (H : Heap) (locs : List Loc) (ls : Array Slot), (∀ k, k < cN C → ckP2 C k = false) → mG D dA ad C d s0 H locs → lv_has ls 2 [(1, .int (nI (cN C))), (0, .ref (ad 0))] → W p0 l e0 (rm_ 2) s0 mid (Value.ref (ad 0) :: []).toArray bl0 me0 co0 H locs 0 0 (MQ bl0 (mQ D dA ad (some (.int (nI (ckN C d)))) C (ckD C d)) (Value.ref (ad 0) :: []).toArray s0 0 0 (mA ad)) (F0 mid 79 ls [])) → W p0 l e0 (rm_ 2) s0 mid (Value.ref (ad 0) :: []).toArray bl0 me0 co0 H locs 0 0 (MQ bl0 (mQ D dA ad (some (.int (nI (ckN C d)))) C (ckD C d)) (Value.ref (ad 0) :: []).toArray s0 0 0 (mA ad)) (F0 mid 35 ls []) := by
    intro f1 n_
    induction n_ with
    | zero => intro i h1_ h2_; exact absurd h2_ (by omega)
    | succ n_ ih =>
      intro i h1_ h2_ hh0 H locs ls G hl kk
      have hp8 := hC.p i
      have hk14 := hC.k i
      refine lv_iload_n hx hb dX1_check_35 rfl (lv_at hl 0 rfl) ?_
      refine lv_aload_n hx hb dX1_check_36 rfl (lv_at hl 1 rfl) ?_
      refine mm_get S G 0 (by decide) q1267 rfl (v := .int (nI (cN C))) rfl dX1_check_37 ?_
      refine nn_cge (tgt := 79) hx hb (by omega) (by omega) dX1_check_40 (by decide) (fun c_40 => ?_) (fun c_40 => ?_)
      · have hiN : i = cN C := by omega
        subst hiN
        exact kk H locs ls hh0 G (lv_sub hl [0, 1] rfl)
      · refine lv_aload_n hx hb dX1_check_43 rfl (lv_at hl 1 rfl) ?_
        refine mm_get S G 1 (by decide) q1268 rfl (v := .ref (ad 2)) rfl dX1_check_44 ?_
        refine lv_iload_n hx hb dX1_check_47 rfl (lv_at hl 0 rfl) ?_
        refine mm_iald S G 1 0 (by decide) (n := 20) rfl rfl (by omega) (by decide) (v := nI (cK C i)) rfl dX1_check_48 ?_
        refine lv_bipush (v := nI 7) hx hb dX1_check_49 (by decide) ?_
        refine nn_cne (tgt := 73) hx hb (by omega) (by omega) dX1_check_51 (by decide) (fun c_51 => ?_) (fun c_51 => ?_)
        · refine lv_iinc (v := nI (i + 1)) (lv' := [(1, .int (nI (i + 1))), (0, .ref (ad 0))]) hx hb dX1_check_73 hl (k := 0) rfl (nI_1 _) (by decide) rfl (fun ls hl => ?_)
          refine lv_goto (tgt := 35) hx hb dX1_check_76 (by decide) ?_
          exact ih (i + 1) (by omega) (by omega) (lt_sB hh0 (by simp [ckP2]; omega)) H locs ls G (lv_sub hl [0, 1] rfl) kk
        · refine lv_aload_n hx hb dX1_check_54 rfl (lv_at hl 1 rfl) ?_
          refine mm_get S G 6 (by decide) q1273 rfl (v := .ref (ad 7)) rfl dX1_check_55 ?_
          refine lv_iload_n hx hb dX1_check_58 rfl (lv_at hl 0 rfl) ?_
          refine mm_iald S G 6 0 (by decide) (n := 20) rfl rfl (by omega) (by decide) (v := nI (cP C i)) rfl dX1_check_59 ?_
          refine lv_iconst (v := nI 2) hx hb dX1_check_60 (by decide) ?_
          refine nn_cge (tgt := 73) hx hb (by omega) (by omega) dX1_check_61 (by decide) (fun c_61 => ?_) (fun c_61 => ?_)
          · refine lv_iinc (v := nI (i + 1)) (lv' := [(1, .int (nI (i + 1))), (0, .ref (ad 0))]) hx hb dX1_check_73 hl (k := 0) rfl (nI_1 _) (by decide) rfl (fun ls hl => ?_)
            refine lv_goto (tgt := 35) hx hb dX1_check_76 (by decide) ?_
            exact ih (i + 1) (by omega) (by omega) (lt_sB hh0 (by simp [ckP2]; omega)) H locs ls G (lv_sub hl [0, 1] rfl) kk
          · have f2 : fi_ (ckP2 C) (cN C) = some i := fi_some (by omega) (by simp [ckP2, c_51]; omega) hh0
            refine lv_aload_n hx hb dX1_check_64 rfl (lv_at hl 1 rfl) ?_
            refine lv_iconst (v := nI 2) hx hb dX1_check_65 (by decide) ?_
            refine mm_puti S G 16 rfl (by decide) q1283 rfl rfl rfl dX1_check_66 (fun H locs G => ?_)
            refine lv_iconst (v := nI 1) hx hb dX1_check_69 (by decide) ?_
            refine lv_iload_n hx hb dX1_check_70 rfl (lv_at hl 0 rfl) ?_
            refine nn_add hx hb dX1_check_71 ?_
            exact mm_iret S hr hlk G (by simp [ckN, ckD, f1, f2]) rfl (by simp [ckN, ckD, f1, f2]) dX1_check_72
  have L3 : ∀ (f1 : fi_ (ckP1 C) (cN C) = none) (f2 : fi_ (ckP2 C) (cN C) = none) (n_ i : Nat), i ≤ cN C → cN C < i + n_ → (∀ k, k < i → ckP3 C d k = false) → ∀ (H : Heap) (locs : List Loc) (ls : Array Slot), mG D dA ad C (ciL C d i) s0 H locs → lv_has ls 2 [(1, .int (nI i)), (0, .ref (ad 0))] → (∀ (H : Heap) (locs : List Loc) (ls : Array Slot), (∀ k, k < cN C → ckP3 C d k = false) → mG D dA ad C (ciL C d (cN C)) s0 H locs → lv_has ls 2 [(1, .int (nI (cN C))), (0, .ref (ad 0))] → W p0 l e0 (rm_ 2) s0 mid (Value.ref (ad 0) :: []).toArray bl0 me0 co0 H locs 0 0 (MQ bl0 (mQ D dA ad (some (.int (nI (ckN C d)))) C (ckD C d)) (Value.ref (ad 0) :: []).toArray s0 0 0 (mA ad)) (F0 mid 112 ls [])) → W p0 l e0 (rm_ 2) s0 mid (Value.ref (ad 0) :: []).toArray bl0 me0 co0 H locs 0 0 (MQ bl0 (mQ D dA ad (some (.int (nI (ckN C d)))) C (ckD C d)) (Value.ref (ad 0) :: []).toArray s0 0 0 (mA ad)) (F0 mid 81 ls []) := by
    intro f1 f2 n_
    induction n_ with
    | zero => intro i h1_ h2_; exact absurd h2_ (by omega)
    | succ n_ ih =>
      intro i h1_ h2_ hh0 H locs ls G hl kk
      refine lv_iload_n hx hb dX1_check_81 rfl (lv_at hl 0 rfl) ?_
      refine lv_aload_n hx hb dX1_check_82 rfl (lv_at hl 1 rfl) ?_
      refine mm_get S G 0 (by decide) q1267 rfl (v := .int (nI (cN C))) rfl dX1_check_83 ?_
      refine nn_cge (tgt := 112) hx hb (by omega) (by omega) dX1_check_86 (by decide) (fun c_86 => ?_) (fun c_86 => ?_)
      · have hiN : i = cN C := by omega
        subst hiN
        exact kk H locs ls hh0 G (lv_sub hl [0, 1] rfl)
      · refine lv_aload_n hx hb dX1_check_89 rfl (lv_at hl 1 rfl) ?_
        refine lv_iload_n hx hb dX1_check_90 rfl (lv_at hl 0 rfl) ?_
        refine mm_call (As := [.int (nI i)]) (rest := []) S G (mt_X1_isInCircle l D dA ad C (ciL C d i) i hC (by omega)) q1517 q1519 qs22 q1520 hd_X1_isInCircle ⟨Nat.le_of_ble_eq_true rfl, Nat.le_of_ble_eq_true rfl⟩ rfl hl.1 rfl (Nat.le_of_ble_eq_true rfl) dX1_check_91 ⟨Nat.zero_le _, Nat.zero_le _⟩ (fun H locs G => ?_)
        refine W.eq (g2 := F0 mid 94 ls [.int (bI (ciB C i (ciL C d i)))]) rfl ?_
        refine bb_eq (tgt := 106) hx hb dX1_check_94 (by decide) (fun c_94 => ?_) (fun c_94 => ?_)
        · refine lv_iinc (v := nI (i + 1)) (lv' := [(1, .int (nI (i + 1))), (0, .ref (ad 0))]) hx hb dX1_check_106 hl (k := 0) rfl (nI_1 _) (by decide) rfl (fun ls hl => ?_)
          refine lv_goto (tgt := 81) hx hb dX1_check_109 (by decide) ?_
          exact ih (i + 1) (by omega) (by omega) (lt_sB hh0 c_94) H locs ls (mG_d (by rfl) G) (lv_sub hl [0, 1] rfl) kk
        · have f3 : fi_ (ckP3 C d) (cN C) = some i := fi_some (by omega) c_94 hh0
          refine lv_aload_n hx hb dX1_check_97 rfl (lv_at hl 1 rfl) ?_
          refine lv_iconst (v := nI 3) hx hb dX1_check_98 (by decide) ?_
          refine mm_puti S G 16 rfl (by decide) q1283 rfl rfl rfl dX1_check_99 (fun H locs G => ?_)
          refine lv_iconst (v := nI 1) hx hb dX1_check_102 (by decide) ?_
          refine lv_iload_n hx hb dX1_check_103 rfl (lv_at hl 0 rfl) ?_
          refine nn_add hx hb dX1_check_104 ?_
          exact mm_iret S hr hlk G (by simp [ckN, ckD, f1, f2, f3, ciL_s]) rfl (by simp [ckN, ckD, f1, f2, f3, ciL_s]) dX1_check_105
  refine lv_iconst (v := nI 0) hx hb dX1_check_0 (by decide) ?_
  refine lv_istore_n (lv' := [(1, .int (nI 0)), (0, .ref (ad 0))]) hx hb dX1_check_1 rfl hl (by decide) rfl (fun ls hl => ?_)
  refine L1 (cN C + 1) 0 (by omega) (by omega) (fun k hk => by omega) _ _ ls G (lv_sub hl [0, 1] rfl) (fun H locs ls hh1 G hl => ?_)
  have f1 := fi_none hh1
  refine lv_iconst (v := nI 0) hx hb dX1_check_33 (by decide) ?_
  refine lv_istore_n (lv' := [(1, .int (nI 0)), (0, .ref (ad 0))]) hx hb dX1_check_34 rfl hl (by decide) rfl (fun ls hl => ?_)
  refine L2 f1 (cN C + 1) 0 (by omega) (by omega) (fun k hk => by omega) _ _ ls G (lv_sub hl [0, 1] rfl) (fun H locs ls hh1 G hl => ?_)
  have f2 := fi_none hh1
  refine lv_iconst (v := nI 0) hx hb dX1_check_79 (by decide) ?_
  refine lv_istore_n (lv' := [(1, .int (nI 0)), (0, .ref (ad 0))]) hx hb dX1_check_80 rfl hl (by decide) rfl (fun ls hl => ?_)
  refine L3 f1 f2 (cN C + 1) 0 (by omega) (by omega) (fun k hk => by omega) _ _ ls (mG_d (by rfl) G) (lv_sub hl [0, 1] rfl) (fun H locs ls hh1 G hl => ?_)
  have f3 := fi_none hh1
  refine lv_aload_n hx hb dX1_check_112 rfl (lv_at hl 1 rfl) ?_
  refine lv_iconst (v := nI 0) hx hb dX1_check_113 (by decide) ?_
  refine mm_puti S G 16 rfl (by decide) q1283 rfl rfl rfl dX1_check_114 (fun H locs G => ?_)
  refine lv_iconst (v := nI 0) hx hb dX1_check_117 (by decide) ?_
  exact mm_iret S hr hlk G (by simp [ckN, ckD, f1, f2, f3, ciL_s]) rfl (by simp [ckN, ckD, f1, f2, f3, ciL_s]) dX1_check_118
theorem mt_X1_wrong (l : Launch) (D : va_G) (dA : Nat → ClassId) (ad : Nat → Nat) (C : tp_C) (d : md_T) (hC : mOK C) : mC l D dA ad yX1_wrong cX1_wrong 3 (some .int) 3 [] C d (some (.int (nI (ckN C d)))) C (uI (ckD C d) 16 (dI d 16)) := by
  refine mm_start (by decide) rfl (Nat.le_of_ble_eq_true rfl) ?_
  intro p0 e0 s0 mid bl0 me0 co0 ls S hr hlk G hl
  have hx := S.1; have hb := S.2.1; have hml := S.2.2.1; have hown := S.2.2.2.1; have hts := S.2.2.2.2
  have hl : lv_has ls 3 [(0, .ref (ad 0))] := hl
  refine lv_aload_n hx hb dX1_wrong_0 rfl (lv_at hl 0 rfl) ?_
  refine mm_get S G 16 (by decide) q1283 rfl (v := .int (dI d 16)) rfl dX1_wrong_1 ?_
  refine lv_istore_n (lv' := [(1, .int (dI d 16)), (0, .ref (ad 0))]) hx hb dX1_wrong_4 rfl hl (by decide) rfl (fun ls hl => ?_)
  refine lv_aload_n hx hb dX1_wrong_5 rfl (lv_at hl 1 rfl) ?_
  refine mm_call (As := []) (rest := []) S G (mt_X1_check l D dA ad C d hC) q1541 q1506 q1507 q1508 hd_X1_check ⟨Nat.le_of_ble_eq_true rfl, Nat.le_of_ble_eq_true rfl⟩ rfl hl.1 rfl (Nat.le_of_ble_eq_true rfl) dX1_wrong_6 ⟨Nat.zero_le _, Nat.zero_le _⟩ (fun H locs G => ?_)
  refine W.eq (g2 := F0 mid 9 ls [.int (nI (ckN C d))]) rfl ?_
  refine lv_istore_n (lv' := [(2, .int (nI (ckN C d))), (1, .int (dI d 16)), (0, .ref (ad 0))]) hx hb dX1_wrong_9 rfl hl (by decide) rfl (fun ls hl => ?_)
  refine lv_aload_n hx hb dX1_wrong_10 rfl (lv_at hl 2 rfl) ?_
  refine lv_iload_n hx hb dX1_wrong_11 rfl (lv_at hl 1 rfl) ?_
  refine mm_puti S G 16 rfl (by decide) q1283 rfl rfl rfl dX1_wrong_12 (fun H locs G => ?_)
  refine lv_iload_n hx hb dX1_wrong_15 rfl (lv_at hl 0 rfl) ?_
  exact mm_iret S hr hlk G rfl rfl rfl dX1_wrong_16
theorem mt_X1_broken (l : Launch) (D : va_G) (dA : Nat → ClassId) (ad : Nat → Nat) (C : tp_C) (d : md_T) : mC l D dA ad yX1_broken cX1_broken 1 (some .int) 0 [] C d (some (.int (dI d 16))) C d := by
  refine mm_start (by decide) rfl (Nat.le_of_ble_eq_true rfl) ?_
  intro p0 e0 s0 mid bl0 me0 co0 ls S hr hlk G hl
  have hx := S.1; have hb := S.2.1; have hml := S.2.2.1; have hown := S.2.2.2.1; have hts := S.2.2.2.2
  have hl : lv_has ls 1 [(0, .ref (ad 0))] := hl
  refine lv_aload_n hx hb dX1_broken_0 rfl (lv_at hl 0 rfl) ?_
  refine mm_get S G 16 (by decide) q1283 rfl (v := .int (dI d 16)) rfl dX1_broken_1 ?_
  exact mm_iret S hr hlk G rfl rfl rfl dX1_broken_4
theorem mt_X1_levelAll (l : Launch) (D : va_G) (dA : Nat → ClassId) (ad : Nat → Nat) (C : tp_C) (d : md_T) (hC : mOK C) : mC l D dA ad yX1_levelAll cX1_levelAll 7 none 1 [] C d none C (leD C d) := by
  refine mm_start (by decide) rfl (Nat.le_of_ble_eq_true rfl) ?_
  intro p0 e0 s0 mid bl0 me0 co0 ls S hr hlk G hl
  have hx := S.1; have hb := S.2.1; have hml := S.2.2.1; have hown := S.2.2.2.1; have hts := S.2.2.2.2
  have hl : lv_has ls 7 [(0, .ref (ad 0))] := hl
  have hN := hC.n
  have L0 : ∀ (n_ i : Nat), i ≤ cN C → cN C < i + n_ → ∀ (H : Heap) (locs : List Loc) (ls : Array Slot), mG D dA ad C (sAI d 10 (le0 C (dAI d 10) i)) s0 H locs → lv_has ls 7 [(1, .int (nI i)), (0, .ref (ad 0))] → (∀ (H : Heap) (locs : List Loc) (ls : Array Slot), mG D dA ad C (sAI d 10 (le0 C (dAI d 10) (cN C))) s0 H locs → lv_has ls 7 [(1, .int (nI (cN C))), (0, .ref (ad 0))] → W p0 l e0 (rm_ 1) s0 mid (Value.ref (ad 0) :: []).toArray bl0 me0 co0 H locs 0 0 (MQ bl0 (mQ D dA ad none C (leD C d)) (Value.ref (ad 0) :: []).toArray s0 0 0 (mA ad)) (F0 mid 39 ls [])) → W p0 l e0 (rm_ 1) s0 mid (Value.ref (ad 0) :: []).toArray bl0 me0 co0 H locs 0 0 (MQ bl0 (mQ D dA ad none C (leD C d)) (Value.ref (ad 0) :: []).toArray s0 0 0 (mA ad)) (F0 mid 2 ls []) := by
    intro n_
    induction n_ with
    | zero => intro i h1_ h2_; exact absurd h2_ (by omega)
    | succ n_ ih =>
      intro i h1_ h2_ H locs ls G hl kk
      refine lv_iload_n hx hb dX1_levelAll_2 rfl (lv_at hl 0 rfl) ?_
      refine lv_aload_n hx hb dX1_levelAll_3 rfl (lv_at hl 1 rfl) ?_
      refine mm_get S G 0 (by decide) q1267 rfl (v := .int (nI (cN C))) rfl dX1_levelAll_4 ?_
      refine nn_cge (tgt := 39) hx hb (by omega) (by omega) dX1_levelAll_7 (by decide) (fun c_7 => ?_) (fun c_7 => ?_)
      · have hiN : i = cN C := by omega
        subst hiN
        exact kk H locs ls G (lv_sub hl [0, 1] rfl)
      · refine lv_aload_n hx hb dX1_levelAll_10 rfl (lv_at hl 1 rfl) ?_
        refine mm_get S G 10 (by decide) q1277 rfl (v := .ref (ad 11)) rfl dX1_levelAll_11 ?_
        refine lv_iload_n hx hb dX1_levelAll_14 rfl (lv_at hl 0 rfl) ?_
        refine lv_aload_n hx hb dX1_levelAll_15 rfl (lv_at hl 1 rfl) ?_
        refine mm_get S G 1 (by decide) q1268 rfl (v := .ref (ad 2)) rfl dX1_levelAll_16 ?_
        refine lv_iload_n hx hb dX1_levelAll_19 rfl (lv_at hl 0 rfl) ?_
        refine mm_iald S G 1 0 (by decide) (n := 20) rfl rfl (by omega) (by decide) (v := nI (cK C i)) rfl dX1_levelAll_20 ?_
        refine sC_call (As := [.int (nI (cK C i))]) (rest := [.int (nI i), .ref (ad 11)]) S (st_X1_remembers l (cK C i) (hC.k _)) q1494 q1495 q53 q1496 hd_X1_remembers ⟨Nat.le_of_ble_eq_true rfl, Nat.le_of_ble_eq_true rfl⟩ rfl hl.1 rfl (Nat.le_of_ble_eq_true rfl) dX1_levelAll_21 ⟨Nat.zero_le _, Nat.zero_le _⟩ ?_
        refine W.eq (g2 := F0 mid 24 ls [.int (bI (rmB (cK C i))), .int (nI i), .ref (ad 11)]) rfl ?_
        refine bb_eq (tgt := 31) hx hb dX1_levelAll_24 (by decide) (fun c_24 => ?_) (fun c_24 => ?_)
        · refine lv_iconst (v := (-1)) hx hb dX1_levelAll_31 (by decide) ?_
          refine mm_iast S G 10 rfl (by decide) (n := 20) rfl (by omega) dX1_levelAll_32 (fun H locs G => ?_)
          refine lv_iinc (v := nI (i + 1)) (lv' := [(1, .int (nI (i + 1))), (0, .ref (ad 0))]) hx hb dX1_levelAll_33 hl (k := 0) rfl (nI_1 _) (by decide) rfl (fun ls hl => ?_)
          refine lv_goto (tgt := 2) hx hb dX1_levelAll_36 (by decide) ?_
          exact ih (i + 1) (by omega) (by omega) H locs ls (mG_d (by simp only [uAI_sAI]; simp [le0_s, c_7, c_24]) G) (lv_sub hl [0, 1] rfl) kk
        · refine lv_iconst (v := nI 0) hx hb dX1_levelAll_27 (by decide) ?_
          refine lv_goto (tgt := 32) hx hb dX1_levelAll_28 (by decide) ?_
          refine mm_iast S G 10 rfl (by decide) (n := 20) rfl (by omega) dX1_levelAll_32 (fun H locs G => ?_)
          refine lv_iinc (v := nI (i + 1)) (lv' := [(1, .int (nI (i + 1))), (0, .ref (ad 0))]) hx hb dX1_levelAll_33 hl (k := 0) rfl (nI_1 _) (by decide) rfl (fun ls hl => ?_)
          refine lv_goto (tgt := 2) hx hb dX1_levelAll_36 (by decide) ?_
          exact ih (i + 1) (by omega) (by omega) H locs ls (mG_d (by simp only [uAI_sAI]; simp [le0_s, c_7, c_24]) G) (lv_sub hl [0, 1] rfl) kk
  have L3 : ∀ (f : Nat → Int32) (t k : Nat) (hk : k < cN C) (ht : t < cN C) (n_ i : Nat), i ≤ 6 → 6 < i + n_ → ∀ (H : Heap) (locs : List Loc) (ls : Array Slot), mG D dA ad C (sAI d 10 f) s0 H locs → lv_has ls 7 [(5, .int (nI i)), (4, .int (bI ((leA C f k i).2))), (3, .int ((leA C f k i).1)), (2, .int (nI k)), (1, .int (nI t)), (0, .ref (ad 0))] → (∀ (H : Heap) (locs : List Loc) (ls : Array Slot), mG D dA ad C (sAI d 10 f) s0 H locs → lv_has ls 7 [(5, .int (nI 6)), (4, .int (bI ((leA C f k 6).2))), (3, .int ((leA C f k 6).1)), (2, .int (nI k)), (1, .int (nI t)), (0, .ref (ad 0))] → W p0 l e0 (rm_ 1) s0 mid (Value.ref (ad 0) :: []).toArray bl0 me0 co0 H locs 0 0 (MQ bl0 (mQ D dA ad none C (leD C d)) (Value.ref (ad 0) :: []).toArray s0 0 0 (mA ad)) (F0 mid 150 ls [])) → W p0 l e0 (rm_ 1) s0 mid (Value.ref (ad 0) :: []).toArray bl0 me0 co0 H locs 0 0 (MQ bl0 (mQ D dA ad none C (leD C d)) (Value.ref (ad 0) :: []).toArray s0 0 0 (mA ad)) (F0 mid 77 ls []) := by
    intro f t k hk ht n_
    induction n_ with
    | zero => intro i h1_ h2_; exact absurd h2_ (by omega)
    | succ n_ ih =>
      intro i h1_ h2_ H locs ls G hl kk
      refine lv_iload hx hb dX1_levelAll_77 (lv_at hl 0 rfl) ?_
      refine lv_bipush (v := nI 6) hx hb dX1_levelAll_79 (by decide) ?_
      refine nn_cge (tgt := 150) hx hb (by omega) (by omega) dX1_levelAll_81 (by decide) (fun c_81 => ?_) (fun c_81 => ?_)
      · have hiN : i = 6 := by omega
        subst hiN
        exact kk H locs ls G (lv_sub hl [0, 1, 2, 3, 4, 5] rfl)
      · refine lv_aload_n hx hb dX1_levelAll_84 rfl (lv_at hl 5 rfl) ?_
        refine lv_iload_n hx hb dX1_levelAll_85 rfl (lv_at hl 3 rfl) ?_
        refine lv_iload hx hb dX1_levelAll_86 (lv_at hl 0 rfl) ?_
        refine mm_call (As := [.int (nI k), .int (nI i)]) (rest := []) S G (mt_X1_has l D dA ad C (sAI d 10 f) k i hC (by omega) (by omega)) q1513 q1515 qs21 q1516 hd_X1_has ⟨Nat.le_of_ble_eq_true rfl, Nat.le_of_ble_eq_true rfl⟩ rfl hl.1 rfl (Nat.le_of_ble_eq_true rfl) dX1_levelAll_88 ⟨Nat.zero_le _, Nat.zero_le _⟩ (fun H locs G => ?_)
        refine W.eq (g2 := F0 mid 91 ls [.int (bI ((cF C k i).isSome))]) rfl ?_
        refine bb_eq (tgt := 144) hx hb dX1_levelAll_91 (by decide) (fun c_91 => ?_) (fun c_91 => ?_)
        · have hq := op_none c_91
          refine lv_iinc (v := nI (i + 1)) (lv' := [(5, .int (nI (i + 1))), (4, .int (bI ((leA C f k i).2))), (3, .int ((leA C f k i).1)), (2, .int (nI k)), (1, .int (nI t)), (0, .ref (ad 0))]) hx hb dX1_levelAll_144 hl (k := 0) rfl (nI_1 _) (by decide) rfl (fun ls hl => ?_)
          refine lv_goto (tgt := 77) hx hb dX1_levelAll_147 (by decide) ?_
          exact ih (i + 1) (by omega) (by omega) H locs ls (mG_d (by rfl) G) (lv_eq (lv_sub (l' := [(5, .int (nI (i + 1))), (4, .int (bI ((leA C f k i).2))), (3, .int ((leA C f k i).1)), (2, .int (nI k)), (1, .int (nI t)), (0, .ref (ad 0))]) hl [0, 1, 2, 3, 4, 5] rfl) (by simp [leA_s, leS, hq, bI0, bI1, c_81, c_91])) kk
        · obtain ⟨q, hq⟩ := op_some c_91
          have hq20 := hC.f20 hq
          refine lv_aload_n hx hb dX1_levelAll_94 rfl (lv_at hl 5 rfl) ?_
          refine mm_get S G 10 (by decide) q1277 rfl (v := .ref (ad 11)) rfl dX1_levelAll_95 ?_
          refine lv_aload_n hx hb dX1_levelAll_98 rfl (lv_at hl 5 rfl) ?_
          refine mm_get S G 3 (by decide) q1270 rfl (v := .ref (ad 4)) rfl dX1_levelAll_99 ?_
          refine lv_bipush (v := nI 6) hx hb dX1_levelAll_102 (by decide) ?_
          refine lv_iload_n hx hb dX1_levelAll_104 rfl (lv_at hl 3 rfl) ?_
          refine nn_mul hx hb dX1_levelAll_105 ?_
          refine lv_iload hx hb dX1_levelAll_106 (lv_at hl 0 rfl) ?_
          refine nn_add hx hb dX1_levelAll_108 ?_
          refine mm_iald S G 3 0 (by decide) (n := 120) rfl rfl (by omega) (by decide) (v := nI q) ((tp_fr (by omega)).trans (by rw [hq]; rfl)) dX1_levelAll_109 ?_
          refine mm_iald S G 10 0 (by decide) (n := 20) rfl rfl (by omega) (by decide) (v := f q) rfl dX1_levelAll_110 ?_
          refine lv_istore (lv' := [(6, .int (f q)), (5, .int (nI i)), (4, .int (bI ((leA C f k i).2))), (3, .int ((leA C f k i).1)), (2, .int (nI k)), (1, .int (nI t)), (0, .ref (ad 0))]) hx hb dX1_levelAll_111 hl (by decide) rfl (fun ls hl => ?_)
          refine lv_iload hx hb dX1_levelAll_113 (lv_at hl 2 rfl) ?_
          refine bb_eq (tgt := 128) hx hb dX1_levelAll_115 (by decide) (fun c_115 => ?_) (fun c_115 => ?_)
          · refine lv_iconst (v := nI 0) hx hb dX1_levelAll_128 (by decide) ?_
            refine lv_istore (lv' := [(4, .int (nI 0)), (6, .int (f q)), (5, .int (nI i)), (3, .int ((leA C f k i).1)), (2, .int (nI k)), (1, .int (nI t)), (0, .ref (ad 0))]) hx hb dX1_levelAll_129 hl (by decide) rfl (fun ls hl => ?_)
            refine lv_iload hx hb dX1_levelAll_131 (lv_at hl 1 rfl) ?_
            refine lv_iload_n hx hb dX1_levelAll_133 rfl (lv_at hl 3 rfl) ?_
            refine lv_icmp_le (tgt := 142) hx hb dX1_levelAll_134 (by decide) (fun c_134 => ?_) (fun c_134 => ?_)
            · refine lv_iload_n hx hb dX1_levelAll_142 rfl (lv_at hl 3 rfl) ?_
              refine lv_istore_n (lv' := [(3, .int ((leA C f k i).1)), (4, .int (nI 0)), (6, .int (f q)), (5, .int (nI i)), (2, .int (nI k)), (1, .int (nI t)), (0, .ref (ad 0))]) hx hb dX1_levelAll_143 rfl hl (by decide) rfl (fun ls hl => ?_)
              refine lv_iinc (v := nI (i + 1)) (lv' := [(5, .int (nI (i + 1))), (3, .int ((leA C f k i).1)), (4, .int (nI 0)), (6, .int (f q)), (2, .int (nI k)), (1, .int (nI t)), (0, .ref (ad 0))]) hx hb dX1_levelAll_144 hl (k := 3) rfl (nI_1 _) (by decide) rfl (fun ls hl => ?_)
              refine lv_goto (tgt := 77) hx hb dX1_levelAll_147 (by decide) ?_
              exact ih (i + 1) (by omega) (by omega) H locs ls (mG_d (by rfl) G) (lv_eq (lv_sub (l' := [(5, .int (nI (i + 1))), (4, .int (nI 0)), (3, .int ((leA C f k i).1)), (2, .int (nI k)), (1, .int (nI t)), (0, .ref (ad 0))]) hl [0, 2, 1, 4, 5, 6] rfl) (by simp [leA_s, leS, hq, bI0, bI1, c_81, c_91, c_115, c_134])) kk
            · refine lv_iload hx hb dX1_levelAll_137 (lv_at hl 1 rfl) ?_
              refine lv_goto (tgt := 143) hx hb dX1_levelAll_139 (by decide) ?_
              refine lv_istore_n (lv' := [(3, .int (f q)), (4, .int (nI 0)), (6, .int (f q)), (5, .int (nI i)), (2, .int (nI k)), (1, .int (nI t)), (0, .ref (ad 0))]) hx hb dX1_levelAll_143 rfl hl (by decide) rfl (fun ls hl => ?_)
              refine lv_iinc (v := nI (i + 1)) (lv' := [(5, .int (nI (i + 1))), (3, .int (f q)), (4, .int (nI 0)), (6, .int (f q)), (2, .int (nI k)), (1, .int (nI t)), (0, .ref (ad 0))]) hx hb dX1_levelAll_144 hl (k := 3) rfl (nI_1 _) (by decide) rfl (fun ls hl => ?_)
              refine lv_goto (tgt := 77) hx hb dX1_levelAll_147 (by decide) ?_
              exact ih (i + 1) (by omega) (by omega) H locs ls (mG_d (by rfl) G) (lv_eq (lv_sub (l' := [(5, .int (nI (i + 1))), (4, .int (nI 0)), (3, .int (f q)), (2, .int (nI k)), (1, .int (nI t)), (0, .ref (ad 0))]) hl [0, 2, 1, 4, 5, 6] rfl) (by simp [leA_s, leS, hq, bI0, bI1, c_81, c_91, c_115, c_134])) kk
          · refine lv_iload hx hb dX1_levelAll_118 (lv_at hl 0 rfl) ?_
            refine lv_iconst (v := (-1)) hx hb dX1_levelAll_120 (by decide) ?_
            refine lv_icmp_eq (tgt := 128) hx hb dX1_levelAll_121 (by decide) (fun c_121 => ?_) (fun c_121 => ?_)
            · refine lv_iconst (v := nI 0) hx hb dX1_levelAll_128 (by decide) ?_
              refine lv_istore (lv' := [(4, .int (nI 0)), (6, .int (f q)), (5, .int (nI i)), (3, .int ((leA C f k i).1)), (2, .int (nI k)), (1, .int (nI t)), (0, .ref (ad 0))]) hx hb dX1_levelAll_129 hl (by decide) rfl (fun ls hl => ?_)
              refine lv_iload hx hb dX1_levelAll_131 (lv_at hl 1 rfl) ?_
              refine lv_iload_n hx hb dX1_levelAll_133 rfl (lv_at hl 3 rfl) ?_
              refine lv_icmp_le (tgt := 142) hx hb dX1_levelAll_134 (by decide) (fun c_134 => ?_) (fun c_134 => ?_)
              · rw [c_121] at c_134
                refine lv_iload_n hx hb dX1_levelAll_142 rfl (lv_at hl 3 rfl) ?_
                refine lv_istore_n (lv' := [(3, .int ((leA C f k i).1)), (4, .int (nI 0)), (6, .int (f q)), (5, .int (nI i)), (2, .int (nI k)), (1, .int (nI t)), (0, .ref (ad 0))]) hx hb dX1_levelAll_143 rfl hl (by decide) rfl (fun ls hl => ?_)
                refine lv_iinc (v := nI (i + 1)) (lv' := [(5, .int (nI (i + 1))), (3, .int ((leA C f k i).1)), (4, .int (nI 0)), (6, .int (f q)), (2, .int (nI k)), (1, .int (nI t)), (0, .ref (ad 0))]) hx hb dX1_levelAll_144 hl (k := 3) rfl (nI_1 _) (by decide) rfl (fun ls hl => ?_)
                refine lv_goto (tgt := 77) hx hb dX1_levelAll_147 (by decide) ?_
                exact ih (i + 1) (by omega) (by omega) H locs ls (mG_d (by rfl) G) (lv_eq (lv_sub (l' := [(5, .int (nI (i + 1))), (4, .int (nI 0)), (3, .int ((leA C f k i).1)), (2, .int (nI k)), (1, .int (nI t)), (0, .ref (ad 0))]) hl [0, 2, 1, 4, 5, 6] rfl) (by simp [leA_s, leS, hq, bI0, bI1, c_81, c_91, c_115, c_121, c_134])) kk
              · rw [c_121] at c_134
                refine lv_iload hx hb dX1_levelAll_137 (lv_at hl 1 rfl) ?_
                refine lv_goto (tgt := 143) hx hb dX1_levelAll_139 (by decide) ?_
                refine lv_istore_n (lv' := [(3, .int (f q)), (4, .int (nI 0)), (6, .int (f q)), (5, .int (nI i)), (2, .int (nI k)), (1, .int (nI t)), (0, .ref (ad 0))]) hx hb dX1_levelAll_143 rfl hl (by decide) rfl (fun ls hl => ?_)
                refine lv_iinc (v := nI (i + 1)) (lv' := [(5, .int (nI (i + 1))), (3, .int (f q)), (4, .int (nI 0)), (6, .int (f q)), (2, .int (nI k)), (1, .int (nI t)), (0, .ref (ad 0))]) hx hb dX1_levelAll_144 hl (k := 3) rfl (nI_1 _) (by decide) rfl (fun ls hl => ?_)
                refine lv_goto (tgt := 77) hx hb dX1_levelAll_147 (by decide) ?_
                exact ih (i + 1) (by omega) (by omega) H locs ls (mG_d (by rfl) G) (lv_eq (lv_sub (l' := [(5, .int (nI (i + 1))), (4, .int (nI 0)), (3, .int (f q)), (2, .int (nI k)), (1, .int (nI t)), (0, .ref (ad 0))]) hl [0, 2, 1, 4, 5, 6] rfl) (by simp [leA_s, leS, hq, bI0, bI1, c_81, c_91, c_115, c_121, c_134])) kk
            · refine lv_iconst (v := nI 1) hx hb dX1_levelAll_124 (by decide) ?_
              refine lv_goto (tgt := 129) hx hb dX1_levelAll_125 (by decide) ?_
              refine lv_istore (lv' := [(4, .int (nI 1)), (6, .int (f q)), (5, .int (nI i)), (3, .int ((leA C f k i).1)), (2, .int (nI k)), (1, .int (nI t)), (0, .ref (ad 0))]) hx hb dX1_levelAll_129 hl (by decide) rfl (fun ls hl => ?_)
              refine lv_iload hx hb dX1_levelAll_131 (lv_at hl 1 rfl) ?_
              refine lv_iload_n hx hb dX1_levelAll_133 rfl (lv_at hl 3 rfl) ?_
              refine lv_icmp_le (tgt := 142) hx hb dX1_levelAll_134 (by decide) (fun c_134 => ?_) (fun c_134 => ?_)
              · refine lv_iload_n hx hb dX1_levelAll_142 rfl (lv_at hl 3 rfl) ?_
                refine lv_istore_n (lv' := [(3, .int ((leA C f k i).1)), (4, .int (nI 1)), (6, .int (f q)), (5, .int (nI i)), (2, .int (nI k)), (1, .int (nI t)), (0, .ref (ad 0))]) hx hb dX1_levelAll_143 rfl hl (by decide) rfl (fun ls hl => ?_)
                refine lv_iinc (v := nI (i + 1)) (lv' := [(5, .int (nI (i + 1))), (3, .int ((leA C f k i).1)), (4, .int (nI 1)), (6, .int (f q)), (2, .int (nI k)), (1, .int (nI t)), (0, .ref (ad 0))]) hx hb dX1_levelAll_144 hl (k := 3) rfl (nI_1 _) (by decide) rfl (fun ls hl => ?_)
                refine lv_goto (tgt := 77) hx hb dX1_levelAll_147 (by decide) ?_
                exact ih (i + 1) (by omega) (by omega) H locs ls (mG_d (by rfl) G) (lv_eq (lv_sub (l' := [(5, .int (nI (i + 1))), (4, .int (nI 1)), (3, .int ((leA C f k i).1)), (2, .int (nI k)), (1, .int (nI t)), (0, .ref (ad 0))]) hl [0, 2, 1, 4, 5, 6] rfl) (by simp [leA_s, leS, hq, bI0, bI1, c_81, c_91, c_115, c_121, c_134])) kk
              · refine lv_iload hx hb dX1_levelAll_137 (lv_at hl 1 rfl) ?_
                refine lv_goto (tgt := 143) hx hb dX1_levelAll_139 (by decide) ?_
                refine lv_istore_n (lv' := [(3, .int (f q)), (4, .int (nI 1)), (6, .int (f q)), (5, .int (nI i)), (2, .int (nI k)), (1, .int (nI t)), (0, .ref (ad 0))]) hx hb dX1_levelAll_143 rfl hl (by decide) rfl (fun ls hl => ?_)
                refine lv_iinc (v := nI (i + 1)) (lv' := [(5, .int (nI (i + 1))), (3, .int (f q)), (4, .int (nI 1)), (6, .int (f q)), (2, .int (nI k)), (1, .int (nI t)), (0, .ref (ad 0))]) hx hb dX1_levelAll_144 hl (k := 3) rfl (nI_1 _) (by decide) rfl (fun ls hl => ?_)
                refine lv_goto (tgt := 77) hx hb dX1_levelAll_147 (by decide) ?_
                exact ih (i + 1) (by omega) (by omega) H locs ls (mG_d (by rfl) G) (lv_eq (lv_sub (l' := [(5, .int (nI (i + 1))), (4, .int (nI 1)), (3, .int (f q)), (2, .int (nI k)), (1, .int (nI t)), (0, .ref (ad 0))]) hl [0, 2, 1, 4, 5, 6] rfl) (by simp [leA_s, leS, hq, bI0, bI1, c_81, c_91, c_115, c_121, c_134])) kk
  have L2 : ∀ (f : Nat → Int32) (t : Nat) (ht : t < cN C) (n_ k : Nat), k ≤ cN C → cN C < k + n_ → ∀ (H : Heap) (locs : List Loc) (ls : Array Slot), mG D dA ad C (sAI d 10 (it_ (leM C) k f)) s0 H locs → lv_has ls 7 [(2, .int (nI k)), (1, .int (nI t)), (0, .ref (ad 0))] → (∀ (H : Heap) (locs : List Loc) (ls : Array Slot), mG D dA ad C (sAI d 10 (it_ (leM C) (cN C) f)) s0 H locs → lv_has ls 7 [(2, .int (nI (cN C))), (1, .int (nI t)), (0, .ref (ad 0))] → W p0 l e0 (rm_ 1) s0 mid (Value.ref (ad 0) :: []).toArray bl0 me0 co0 H locs 0 0 (MQ bl0 (mQ D dA ad none C (leD C d)) (Value.ref (ad 0) :: []).toArray s0 0 0 (mA ad)) (F0 mid 174 ls [])) → W p0 l e0 (rm_ 1) s0 mid (Value.ref (ad 0) :: []).toArray bl0 me0 co0 H locs 0 0 (MQ bl0 (mQ D dA ad none C (leD C d)) (Value.ref (ad 0) :: []).toArray s0 0 0 (mA ad)) (F0 mid 51 ls []) := by
    intro f t ht n_
    induction n_ with
    | zero => intro k h1_ h2_; exact absurd h2_ (by omega)
    | succ n_ ih =>
      intro k h1_ h2_ H locs ls G hl kk
      refine lv_iload_n hx hb dX1_levelAll_51 rfl (lv_at hl 0 rfl) ?_
      refine lv_aload_n hx hb dX1_levelAll_52 rfl (lv_at hl 2 rfl) ?_
      refine mm_get S G 0 (by decide) q1267 rfl (v := .int (nI (cN C))) rfl dX1_levelAll_53 ?_
      refine nn_cge (tgt := 174) hx hb (by omega) (by omega) dX1_levelAll_56 (by decide) (fun c_56 => ?_) (fun c_56 => ?_)
      · have hiN : k = cN C := by omega
        subst hiN
        exact kk H locs ls G (lv_sub hl [0, 1, 2] rfl)
      · refine lv_aload_n hx hb dX1_levelAll_59 rfl (lv_at hl 2 rfl) ?_
        refine mm_get S G 10 (by decide) q1277 rfl (v := .ref (ad 11)) rfl dX1_levelAll_60 ?_
        refine lv_iload_n hx hb dX1_levelAll_63 rfl (lv_at hl 0 rfl) ?_
        refine mm_iald S G 10 0 (by decide) (n := 20) rfl rfl (by omega) (by decide) (v := it_ (leM C) k f k) rfl dX1_levelAll_64 ?_
        refine lv_iconst (v := (-1)) hx hb dX1_levelAll_65 (by decide) ?_
        refine lv_icmp_ne (tgt := 168) hx hb dX1_levelAll_66 (by decide) (fun c_66 => ?_) (fun c_66 => ?_)
        · refine lv_iinc (v := nI (k + 1)) (lv' := [(2, .int (nI (k + 1))), (1, .int (nI t)), (0, .ref (ad 0))]) hx hb dX1_levelAll_168 hl (k := 0) rfl (nI_1 _) (by decide) rfl (fun ls hl => ?_)
          refine lv_goto (tgt := 51) hx hb dX1_levelAll_171 (by decide) ?_
          exact ih (k + 1) (by omega) (by omega) H locs ls (mG_d (by simp [it_s, leM, uAI_sAI, c_56, c_66]) G) (lv_sub hl [0, 1, 2] rfl) kk
        · refine lv_iconst (v := nI 0) hx hb dX1_levelAll_69 (by decide) ?_
          refine lv_istore_n (lv' := [(3, .int (nI 0)), (2, .int (nI k)), (1, .int (nI t)), (0, .ref (ad 0))]) hx hb dX1_levelAll_70 rfl hl (by decide) rfl (fun ls hl => ?_)
          refine lv_iconst (v := nI 1) hx hb dX1_levelAll_71 (by decide) ?_
          refine lv_istore (lv' := [(4, .int (nI 1)), (3, .int (nI 0)), (2, .int (nI k)), (1, .int (nI t)), (0, .ref (ad 0))]) hx hb dX1_levelAll_72 hl (by decide) rfl (fun ls hl => ?_)
          refine lv_iconst (v := nI 0) hx hb dX1_levelAll_74 (by decide) ?_
          refine lv_istore (lv' := [(5, .int (nI 0)), (4, .int (nI 1)), (3, .int (nI 0)), (2, .int (nI k)), (1, .int (nI t)), (0, .ref (ad 0))]) hx hb dX1_levelAll_75 hl (by decide) rfl (fun ls hl => ?_)
          refine L3 (it_ (leM C) k f) t k (by omega) ht 7 0 (by omega) (by omega) _ _ ls G (lv_eq (lv_sub (l' := [(5, .int (nI 0)), (4, .int (nI 1)), (3, .int (nI 0)), (2, .int (nI k)), (1, .int (nI t)), (0, .ref (ad 0))]) hl [0, 1, 2, 3, 4, 5] rfl) (by rfl)) (fun H locs ls G hl => ?_)
          refine lv_aload_n hx hb dX1_levelAll_150 rfl (lv_at hl 5 rfl) ?_
          refine mm_get S G 10 (by decide) q1277 rfl (v := .ref (ad 11)) rfl dX1_levelAll_151 ?_
          refine lv_iload_n hx hb dX1_levelAll_154 rfl (lv_at hl 3 rfl) ?_
          refine lv_iload hx hb dX1_levelAll_155 (lv_at hl 1 rfl) ?_
          refine bb_eq (tgt := 166) hx hb dX1_levelAll_157 (by decide) (fun c_157 => ?_) (fun c_157 => ?_)
          · refine lv_iconst (v := (-1)) hx hb dX1_levelAll_166 (by decide) ?_
            refine mm_iast S G 10 rfl (by decide) (n := 20) rfl (by omega) dX1_levelAll_167 (fun H locs G => ?_)
            refine lv_iinc (v := nI (k + 1)) (lv' := [(2, .int (nI (k + 1))), (5, .int (nI 6)), (4, .int (bI ((leA C (it_ (leM C) k f) k 6).2))), (3, .int ((leA C (it_ (leM C) k f) k 6).1)), (1, .int (nI t)), (0, .ref (ad 0))]) hx hb dX1_levelAll_168 hl (k := 3) rfl (nI_1 _) (by decide) rfl (fun ls hl => ?_)
            refine lv_goto (tgt := 51) hx hb dX1_levelAll_171 (by decide) ?_
            exact ih (k + 1) (by omega) (by omega) H locs ls (mG_d (by simp [it_s, leM, uAI_sAI, c_56, c_66, c_157]) G) (lv_sub hl [0, 4, 5] rfl) kk
          · refine lv_iload_n hx hb dX1_levelAll_160 rfl (lv_at hl 2 rfl) ?_
            refine lv_iconst (v := nI 1) hx hb dX1_levelAll_161 (by decide) ?_
            refine lv_iadd hx hb dX1_levelAll_162 ?_
            refine lv_goto (tgt := 167) hx hb dX1_levelAll_163 (by decide) ?_
            refine mm_iast S G 10 rfl (by decide) (n := 20) rfl (by omega) dX1_levelAll_167 (fun H locs G => ?_)
            refine lv_iinc (v := nI (k + 1)) (lv' := [(2, .int (nI (k + 1))), (5, .int (nI 6)), (4, .int (bI ((leA C (it_ (leM C) k f) k 6).2))), (3, .int ((leA C (it_ (leM C) k f) k 6).1)), (1, .int (nI t)), (0, .ref (ad 0))]) hx hb dX1_levelAll_168 hl (k := 3) rfl (nI_1 _) (by decide) rfl (fun ls hl => ?_)
            refine lv_goto (tgt := 51) hx hb dX1_levelAll_171 (by decide) ?_
            exact ih (k + 1) (by omega) (by omega) H locs ls (mG_d (by simp [it_s, leM, uAI_sAI, c_56, c_66, c_157]) G) (lv_sub hl [0, 4, 5] rfl) kk
  have L1 : ∀ (n_ t : Nat), t ≤ cN C → cN C < t + n_ → ∀ (H : Heap) (locs : List Loc) (ls : Array Slot), mG D dA ad C (sAI d 10 (it_ (leT C) t (le0 C (dAI d 10) (cN C)))) s0 H locs → lv_has ls 7 [(1, .int (nI t)), (0, .ref (ad 0))] → (∀ (H : Heap) (locs : List Loc) (ls : Array Slot), mG D dA ad C (sAI d 10 (it_ (leT C) (cN C) (le0 C (dAI d 10) (cN C)))) s0 H locs → lv_has ls 7 [(1, .int (nI (cN C))), (0, .ref (ad 0))] → W p0 l e0 (rm_ 1) s0 mid (Value.ref (ad 0) :: []).toArray bl0 me0 co0 H locs 0 0 (MQ bl0 (mQ D dA ad none C (leD C d)) (Value.ref (ad 0) :: []).toArray s0 0 0 (mA ad)) (F0 mid 180 ls [])) → W p0 l e0 (rm_ 1) s0 mid (Value.ref (ad 0) :: []).toArray bl0 me0 co0 H locs 0 0 (MQ bl0 (mQ D dA ad none C (leD C d)) (Value.ref (ad 0) :: []).toArray s0 0 0 (mA ad)) (F0 mid 41 ls []) := by
    intro n_
    induction n_ with
    | zero => intro t h1_ h2_; exact absurd h2_ (by omega)
    | succ n_ ih =>
      intro t h1_ h2_ H locs ls G hl kk
      refine lv_iload_n hx hb dX1_levelAll_41 rfl (lv_at hl 0 rfl) ?_
      refine lv_aload_n hx hb dX1_levelAll_42 rfl (lv_at hl 1 rfl) ?_
      refine mm_get S G 0 (by decide) q1267 rfl (v := .int (nI (cN C))) rfl dX1_levelAll_43 ?_
      refine nn_cge (tgt := 180) hx hb (by omega) (by omega) dX1_levelAll_46 (by decide) (fun c_46 => ?_) (fun c_46 => ?_)
      · have hiN : t = cN C := by omega
        subst hiN
        exact kk H locs ls G (lv_sub hl [0, 1] rfl)
      · refine lv_iconst (v := nI 0) hx hb dX1_levelAll_49 (by decide) ?_
        refine lv_istore_n (lv' := [(2, .int (nI 0)), (1, .int (nI t)), (0, .ref (ad 0))]) hx hb dX1_levelAll_50 rfl hl (by decide) rfl (fun ls hl => ?_)
        refine L2 (it_ (leT C) t (le0 C (dAI d 10) (cN C))) t (by omega) (cN C + 1) 0 (by omega) (by omega) _ _ ls (mG_d (by rfl) G) (lv_sub hl [0, 1, 2] rfl) (fun H locs ls G hl => ?_)
        refine lv_iinc (v := nI (t + 1)) (lv' := [(1, .int (nI (t + 1))), (2, .int (nI (cN C))), (0, .ref (ad 0))]) hx hb dX1_levelAll_174 hl (k := 1) rfl (nI_1 _) (by decide) rfl (fun ls hl => ?_)
        refine lv_goto (tgt := 41) hx hb dX1_levelAll_177 (by decide) ?_
        exact ih (t + 1) (by omega) (by omega) H locs ls (mG_d (by rfl) G) (lv_sub hl [0, 2] rfl) kk
  refine lv_iconst (v := nI 0) hx hb dX1_levelAll_0 (by decide) ?_
  refine lv_istore_n (lv' := [(1, .int (nI 0)), (0, .ref (ad 0))]) hx hb dX1_levelAll_1 rfl hl (by decide) rfl (fun ls hl => ?_)
  refine L0 (cN C + 1) 0 (by omega) (by omega) _ _ ls (mG_d (by exact (sAI_self d 10).symm) G) (lv_sub hl [0, 1] rfl) (fun H locs ls G hl => ?_)
  refine lv_iconst (v := nI 0) hx hb dX1_levelAll_39 (by decide) ?_
  refine lv_istore_n (lv' := [(1, .int (nI 0)), (0, .ref (ad 0))]) hx hb dX1_levelAll_40 rfl hl (by decide) rfl (fun ls hl => ?_)
  refine L1 (cN C + 1) 0 (by omega) (by omega) _ _ ls (mG_d (by rfl) G) (lv_sub hl [0, 1] rfl) (fun H locs ls G hl => ?_)
  exact mm_vret S hr hlk G rfl (by rfl) dX1_levelAll_180
theorem mt_X1_level (l : Launch) (D : va_G) (dA : Nat → ClassId) (ad : Nat → Nat) (C : tp_C) (d : md_T) (m : Int32) (hC : mOK C) : mC l D dA ad yX1_level cX1_level 2 (some .int) 2 [.int m] C d (some (.int (if imB C m then leF C (dAI d 10) (ixN m) else (-101)))) C (if imB C m then leD C d else d) := by
  refine mm_start (by decide) rfl (Nat.le_of_ble_eq_true rfl) ?_
  intro p0 e0 s0 mid bl0 me0 co0 ls S hr hlk G hl
  have hx := S.1; have hb := S.2.1; have hml := S.2.2.1; have hown := S.2.2.2.1; have hts := S.2.2.2.2
  have hl : lv_has ls 2 [(0, .ref (ad 0)), (1, .int m)] := hl
  have hN := hC.n
  refine lv_aload_n hx hb dX1_level_0 rfl (lv_at hl 0 rfl) ?_
  refine lv_iload_n hx hb dX1_level_1 rfl (lv_at hl 1 rfl) ?_
  refine mm_call (As := [.int m]) (rest := []) S G (mt_X1_isModule l D dA ad C d m) q1478 q1480 qs19 q1481 hd_X1_isModule ⟨Nat.le_of_ble_eq_true rfl, Nat.le_of_ble_eq_true rfl⟩ rfl hl.1 rfl (Nat.le_of_ble_eq_true rfl) dX1_level_2 ⟨Nat.zero_le _, Nat.zero_le _⟩ (fun H locs G => ?_)
  refine W.eq (g2 := F0 mid 5 ls [.int (bI (inB m (nI 0) (nI (cN C) - nI 1)))]) rfl ?_
  refine bb_ne (tgt := 11) hx hb dX1_level_5 (by decide) (fun c_5 => ?_) (fun c_5 => ?_)
  · obtain ⟨j, hj, rfl⟩ := im_nat c_5 hN
    have ij_j : ixN (nI j) = j := ixN_nI (by omega)
    refine lv_aload_n hx hb dX1_level_11 rfl (lv_at hl 0 rfl) ?_
    refine mm_call (As := []) (rest := []) S G (mt_X1_levelAll l D dA ad C d hC) q1529 q1531 qs23 q1532 hd_X1_levelAll ⟨Nat.le_of_ble_eq_true rfl, Nat.le_of_ble_eq_true rfl⟩ rfl hl.1 rfl (Nat.le_of_ble_eq_true rfl) dX1_level_12 ⟨Nat.zero_le _, Nat.zero_le _⟩ (fun H locs G => ?_)
    refine W.eq (g2 := F0 mid 15 ls []) rfl ?_
    refine lv_aload_n hx hb dX1_level_15 rfl (lv_at hl 0 rfl) ?_
    refine mm_get S G 10 (by decide) q1277 rfl (v := .ref (ad 11)) rfl dX1_level_16 ?_
    refine lv_iload_n hx hb dX1_level_19 rfl (lv_at hl 1 rfl) ?_
    refine mm_iald S G 10 0 (by decide) (n := 20) rfl rfl (by omega) (by decide) (v := leF C (dAI d 10) j) rfl dX1_level_20 ?_
    exact mm_iret S hr hlk G (by simp [imB, c_5, ij_j]) rfl (by simp [imB, c_5, ij_j]) dX1_level_21
  · refine lv_bipush (v := (-101)) hx hb dX1_level_8 (by decide) ?_
    exact mm_iret S hr hlk G (by simp [imB, c_5]) rfl (by simp [imB, c_5]) dX1_level_10
