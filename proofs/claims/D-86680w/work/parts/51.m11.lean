set_option maxRecDepth 100000
set_option maxHeartbeats 4000000
theorem dX1_count_0 : decode cX1_count 0 = .ok (.iconst 0, 1) := by decide +kernel
theorem dX1_count_1 : decode cX1_count 1 = .ok (.istore_n 2, 1) := by decide +kernel
theorem dX1_count_2 : decode cX1_count 2 = .ok (.iload_n 1, 1) := by decide +kernel
theorem dX1_count_3 : decode cX1_count 3 = .ok (.tableswitch 183 0 7 #[45, 50, 55, 89, 132, 168, 173, 178], 45) := by decide +kernel
theorem dX1_count_48 : decode cX1_count 48 = .ok (.aload_n 0, 1) := by decide +kernel
theorem dX1_count_49 : decode cX1_count 49 = .ok (.getfield 158, 3) := by decide +kernel
theorem dX1_count_52 : decode cX1_count 52 = .ok (.ireturn, 1) := by decide +kernel
theorem dX1_count_53 : decode cX1_count 53 = .ok (.aload_n 0, 1) := by decide +kernel
theorem dX1_count_54 : decode cX1_count 54 = .ok (.getfield 332, 3) := by decide +kernel
theorem dX1_count_57 : decode cX1_count 57 = .ok (.ireturn, 1) := by decide +kernel
theorem dX1_count_58 : decode cX1_count 58 = .ok (.iconst 0, 1) := by decide +kernel
theorem dX1_count_59 : decode cX1_count 59 = .ok (.istore_n 3, 1) := by decide +kernel
theorem dX1_count_60 : decode cX1_count 60 = .ok (.iload_n 3, 1) := by decide +kernel
theorem dX1_count_61 : decode cX1_count 61 = .ok (.bipush 120, 2) := by decide +kernel
theorem dX1_count_63 : decode cX1_count 63 = .ok (.if_icmp .ge 27, 3) := by decide +kernel
theorem dX1_count_66 : decode cX1_count 66 = .ok (.iload_n 2, 1) := by decide +kernel
theorem dX1_count_67 : decode cX1_count 67 = .ok (.aload_n 0, 1) := by decide +kernel
theorem dX1_count_68 : decode cX1_count 68 = .ok (.getfield 17, 3) := by decide +kernel
theorem dX1_count_71 : decode cX1_count 71 = .ok (.iload_n 3, 1) := by decide +kernel
theorem dX1_count_72 : decode cX1_count 72 = .ok (.iaload, 1) := by decide +kernel
theorem dX1_count_73 : decode cX1_count 73 = .ok (.iconst (-1), 1) := by decide +kernel
theorem dX1_count_74 : decode cX1_count 74 = .ok (.if_icmp .ne 7, 3) := by decide +kernel
theorem dX1_count_77 : decode cX1_count 77 = .ok (.iconst 0, 1) := by decide +kernel
theorem dX1_count_78 : decode cX1_count 78 = .ok (.goto 4, 3) := by decide +kernel
theorem dX1_count_81 : decode cX1_count 81 = .ok (.iconst 1, 1) := by decide +kernel
theorem dX1_count_82 : decode cX1_count 82 = .ok (.iadd, 1) := by decide +kernel
theorem dX1_count_83 : decode cX1_count 83 = .ok (.istore_n 2, 1) := by decide +kernel
theorem dX1_count_84 : decode cX1_count 84 = .ok (.iinc 3 1, 3) := by decide +kernel
theorem dX1_count_87 : decode cX1_count 87 = .ok (.goto (-27), 3) := by decide +kernel
theorem dX1_count_90 : decode cX1_count 90 = .ok (.iload_n 2, 1) := by decide +kernel
theorem dX1_count_91 : decode cX1_count 91 = .ok (.ireturn, 1) := by decide +kernel
theorem dX1_count_92 : decode cX1_count 92 = .ok (.aload_n 0, 1) := by decide +kernel
theorem dX1_count_93 : decode cX1_count 93 = .ok (.invokevirtual 230, 3) := by decide +kernel
theorem dX1_count_96 : decode cX1_count 96 = .ok (.iconst 0, 1) := by decide +kernel
theorem dX1_count_97 : decode cX1_count 97 = .ok (.istore_n 3, 1) := by decide +kernel
theorem dX1_count_98 : decode cX1_count 98 = .ok (.iload_n 3, 1) := by decide +kernel
theorem dX1_count_99 : decode cX1_count 99 = .ok (.aload_n 0, 1) := by decide +kernel
theorem dX1_count_100 : decode cX1_count 100 = .ok (.getfield 158, 3) := by decide +kernel
theorem dX1_count_103 : decode cX1_count 103 = .ok (.if_icmp .ge 30, 3) := by decide +kernel
theorem dX1_count_106 : decode cX1_count 106 = .ok (.aload_n 0, 1) := by decide +kernel
theorem dX1_count_107 : decode cX1_count 107 = .ok (.getfield 39, 3) := by decide +kernel
theorem dX1_count_110 : decode cX1_count 110 = .ok (.iload_n 3, 1) := by decide +kernel
theorem dX1_count_111 : decode cX1_count 111 = .ok (.iaload, 1) := by decide +kernel
theorem dX1_count_112 : decode cX1_count 112 = .ok (.iload_n 2, 1) := by decide +kernel
theorem dX1_count_113 : decode cX1_count 113 = .ok (.if_icmp .le 12, 3) := by decide +kernel
theorem dX1_count_116 : decode cX1_count 116 = .ok (.aload_n 0, 1) := by decide +kernel
theorem dX1_count_117 : decode cX1_count 117 = .ok (.getfield 39, 3) := by decide +kernel
theorem dX1_count_120 : decode cX1_count 120 = .ok (.iload_n 3, 1) := by decide +kernel
theorem dX1_count_121 : decode cX1_count 121 = .ok (.iaload, 1) := by decide +kernel
theorem dX1_count_122 : decode cX1_count 122 = .ok (.goto 4, 3) := by decide +kernel
theorem dX1_count_125 : decode cX1_count 125 = .ok (.iload_n 2, 1) := by decide +kernel
theorem dX1_count_126 : decode cX1_count 126 = .ok (.istore_n 2, 1) := by decide +kernel
theorem dX1_count_127 : decode cX1_count 127 = .ok (.iinc 3 1, 3) := by decide +kernel
theorem dX1_count_130 : decode cX1_count 130 = .ok (.goto (-32), 3) := by decide +kernel
theorem dX1_count_133 : decode cX1_count 133 = .ok (.iload_n 2, 1) := by decide +kernel
theorem dX1_count_134 : decode cX1_count 134 = .ok (.ireturn, 1) := by decide +kernel
theorem dX1_count_135 : decode cX1_count 135 = .ok (.iconst 0, 1) := by decide +kernel
theorem dX1_count_136 : decode cX1_count 136 = .ok (.istore_n 3, 1) := by decide +kernel
theorem dX1_count_137 : decode cX1_count 137 = .ok (.iload_n 3, 1) := by decide +kernel
theorem dX1_count_138 : decode cX1_count 138 = .ok (.aload_n 0, 1) := by decide +kernel
theorem dX1_count_139 : decode cX1_count 139 = .ok (.getfield 158, 3) := by decide +kernel
theorem dX1_count_142 : decode cX1_count 142 = .ok (.if_icmp .ge 27, 3) := by decide +kernel
theorem dX1_count_145 : decode cX1_count 145 = .ok (.iload_n 2, 1) := by decide +kernel
theorem dX1_count_146 : decode cX1_count 146 = .ok (.aload_n 0, 1) := by decide +kernel
theorem dX1_count_147 : decode cX1_count 147 = .ok (.getfield 68, 3) := by decide +kernel
theorem dX1_count_150 : decode cX1_count 150 = .ok (.iload_n 3, 1) := by decide +kernel
theorem dX1_count_151 : decode cX1_count 151 = .ok (.iaload, 1) := by decide +kernel
theorem dX1_count_152 : decode cX1_count 152 = .ok (.iconst (-1), 1) := by decide +kernel
theorem dX1_count_153 : decode cX1_count 153 = .ok (.if_icmp .ne 7, 3) := by decide +kernel
theorem dX1_count_156 : decode cX1_count 156 = .ok (.iconst 0, 1) := by decide +kernel
theorem dX1_count_157 : decode cX1_count 157 = .ok (.goto 4, 3) := by decide +kernel
theorem dX1_count_160 : decode cX1_count 160 = .ok (.iconst 1, 1) := by decide +kernel
theorem dX1_count_161 : decode cX1_count 161 = .ok (.iadd, 1) := by decide +kernel
theorem dX1_count_162 : decode cX1_count 162 = .ok (.istore_n 2, 1) := by decide +kernel
theorem dX1_count_163 : decode cX1_count 163 = .ok (.iinc 3 1, 3) := by decide +kernel
theorem dX1_count_166 : decode cX1_count 166 = .ok (.goto (-29), 3) := by decide +kernel
theorem dX1_count_169 : decode cX1_count 169 = .ok (.iload_n 2, 1) := by decide +kernel
theorem dX1_count_170 : decode cX1_count 170 = .ok (.ireturn, 1) := by decide +kernel
theorem dX1_count_171 : decode cX1_count 171 = .ok (.aload_n 0, 1) := by decide +kernel
theorem dX1_count_172 : decode cX1_count 172 = .ok (.getfield 350, 3) := by decide +kernel
theorem dX1_count_175 : decode cX1_count 175 = .ok (.ireturn, 1) := by decide +kernel
theorem dX1_count_176 : decode cX1_count 176 = .ok (.aload_n 0, 1) := by decide +kernel
theorem dX1_count_177 : decode cX1_count 177 = .ok (.getfield 210, 3) := by decide +kernel
theorem dX1_count_180 : decode cX1_count 180 = .ok (.ireturn, 1) := by decide +kernel
theorem dX1_count_181 : decode cX1_count 181 = .ok (.aload_n 0, 1) := by decide +kernel
theorem dX1_count_182 : decode cX1_count 182 = .ok (.getfield 42, 3) := by decide +kernel
theorem dX1_count_185 : decode cX1_count 185 = .ok (.ireturn, 1) := by decide +kernel
theorem dX1_count_186 : decode cX1_count 186 = .ok (.bipush (-102), 2) := by decide +kernel
theorem dX1_count_188 : decode cX1_count 188 = .ok (.ireturn, 1) := by decide +kernel
theorem dX1_beginAll_0 : decode cX1_beginAll 0 = .ok (.aload_n 0, 1) := by decide +kernel
theorem dX1_beginAll_1 : decode cX1_beginAll 1 = .ok (.invokevirtual 230, 3) := by decide +kernel
theorem dX1_beginAll_4 : decode cX1_beginAll 4 = .ok (.aload_n 0, 1) := by decide +kernel
theorem dX1_beginAll_5 : decode cX1_beginAll 5 = .ok (.iconst 0, 1) := by decide +kernel
theorem dX1_beginAll_6 : decode cX1_beginAll 6 = .ok (.putfield 322, 3) := by decide +kernel
theorem dX1_beginAll_9 : decode cX1_beginAll 9 = .ok (.aload_n 0, 1) := by decide +kernel
theorem dX1_beginAll_10 : decode cX1_beginAll 10 = .ok (.iconst 0, 1) := by decide +kernel
theorem dX1_beginAll_11 : decode cX1_beginAll 11 = .ok (.putfield 233, 3) := by decide +kernel
theorem dX1_beginAll_14 : decode cX1_beginAll 14 = .ok (.iconst 0, 1) := by decide +kernel
theorem dX1_beginAll_15 : decode cX1_beginAll 15 = .ok (.istore_n 1, 1) := by decide +kernel
theorem dX1_beginAll_16 : decode cX1_beginAll 16 = .ok (.iload_n 1, 1) := by decide +kernel
theorem dX1_beginAll_17 : decode cX1_beginAll 17 = .ok (.aload_n 0, 1) := by decide +kernel
theorem dX1_beginAll_18 : decode cX1_beginAll 18 = .ok (.getfield 158, 3) := by decide +kernel
theorem dX1_beginAll_21 : decode cX1_beginAll 21 = .ok (.if_icmp .ge 125, 3) := by decide +kernel
theorem dX1_beginAll_24 : decode cX1_beginAll 24 = .ok (.aload_n 0, 1) := by decide +kernel
theorem dX1_beginAll_25 : decode cX1_beginAll 25 = .ok (.getfield 68, 3) := by decide +kernel
theorem dX1_beginAll_28 : decode cX1_beginAll 28 = .ok (.iload_n 1, 1) := by decide +kernel
theorem dX1_beginAll_29 : decode cX1_beginAll 29 = .ok (.iconst (-1), 1) := by decide +kernel
theorem dX1_beginAll_30 : decode cX1_beginAll 30 = .ok (.iastore, 1) := by decide +kernel
theorem dX1_beginAll_31 : decode cX1_beginAll 31 = .ok (.aload_n 0, 1) := by decide +kernel
theorem dX1_beginAll_32 : decode cX1_beginAll 32 = .ok (.getfield 71, 3) := by decide +kernel
theorem dX1_beginAll_35 : decode cX1_beginAll 35 = .ok (.iload_n 1, 1) := by decide +kernel
theorem dX1_beginAll_36 : decode cX1_beginAll 36 = .ok (.dconst 0, 1) := by decide +kernel
theorem dX1_beginAll_37 : decode cX1_beginAll 37 = .ok (.dastore, 1) := by decide +kernel
theorem dX1_beginAll_38 : decode cX1_beginAll 38 = .ok (.aload_n 0, 1) := by decide +kernel
theorem dX1_beginAll_39 : decode cX1_beginAll 39 = .ok (.getfield 46, 3) := by decide +kernel
theorem dX1_beginAll_42 : decode cX1_beginAll 42 = .ok (.iload_n 1, 1) := by decide +kernel
theorem dX1_beginAll_43 : decode cX1_beginAll 43 = .ok (.aload_n 0, 1) := by decide +kernel
theorem dX1_beginAll_44 : decode cX1_beginAll 44 = .ok (.getfield 24, 3) := by decide +kernel
theorem dX1_beginAll_47 : decode cX1_beginAll 47 = .ok (.iload_n 1, 1) := by decide +kernel
theorem dX1_beginAll_48 : decode cX1_beginAll 48 = .ok (.daload, 1) := by decide +kernel
theorem dX1_beginAll_49 : decode cX1_beginAll 49 = .ok (.dastore, 1) := by decide +kernel
theorem dX1_beginAll_50 : decode cX1_beginAll 50 = .ok (.aload_n 0, 1) := by decide +kernel
theorem dX1_beginAll_51 : decode cX1_beginAll 51 = .ok (.getfield 49, 3) := by decide +kernel
theorem dX1_beginAll_54 : decode cX1_beginAll 54 = .ok (.iload_n 1, 1) := by decide +kernel
theorem dX1_beginAll_55 : decode cX1_beginAll 55 = .ok (.aload_n 0, 1) := by decide +kernel
theorem dX1_beginAll_56 : decode cX1_beginAll 56 = .ok (.getfield 24, 3) := by decide +kernel
theorem dX1_beginAll_59 : decode cX1_beginAll 59 = .ok (.iload_n 1, 1) := by decide +kernel
theorem dX1_beginAll_60 : decode cX1_beginAll 60 = .ok (.daload, 1) := by decide +kernel
theorem dX1_beginAll_61 : decode cX1_beginAll 61 = .ok (.d2f, 1) := by decide +kernel
theorem dX1_beginAll_62 : decode cX1_beginAll 62 = .ok (.fastore, 1) := by decide +kernel
theorem dX1_beginAll_63 : decode cX1_beginAll 63 = .ok (.aload_n 0, 1) := by decide +kernel
theorem dX1_beginAll_64 : decode cX1_beginAll 64 = .ok (.getfield 65, 3) := by decide +kernel
theorem dX1_beginAll_67 : decode cX1_beginAll 67 = .ok (.iload_n 1, 1) := by decide +kernel
theorem dX1_beginAll_68 : decode cX1_beginAll 68 = .ok (.aload_n 0, 1) := by decide +kernel
theorem dX1_beginAll_69 : decode cX1_beginAll 69 = .ok (.getfield 7, 3) := by decide +kernel
theorem dX1_beginAll_72 : decode cX1_beginAll 72 = .ok (.iload_n 1, 1) := by decide +kernel
theorem dX1_beginAll_73 : decode cX1_beginAll 73 = .ok (.iaload, 1) := by decide +kernel
theorem dX1_beginAll_74 : decode cX1_beginAll 74 = .ok (.bipush 13, 2) := by decide +kernel
theorem dX1_beginAll_76 : decode cX1_beginAll 76 = .ok (.if_icmp .ne 13, 3) := by decide +kernel
theorem dX1_beginAll_79 : decode cX1_beginAll 79 = .ok (.aload_n 0, 1) := by decide +kernel
theorem dX1_beginAll_80 : decode cX1_beginAll 80 = .ok (.getfield 13, 3) := by decide +kernel
theorem dX1_beginAll_83 : decode cX1_beginAll 83 = .ok (.iload_n 1, 1) := by decide +kernel
theorem dX1_beginAll_84 : decode cX1_beginAll 84 = .ok (.daload, 1) := by decide +kernel
theorem dX1_beginAll_85 : decode cX1_beginAll 85 = .ok (.d2i, 1) := by decide +kernel
theorem dX1_beginAll_86 : decode cX1_beginAll 86 = .ok (.goto 4, 3) := by decide +kernel
theorem dX1_beginAll_89 : decode cX1_beginAll 89 = .ok (.iconst 0, 1) := by decide +kernel
theorem dX1_beginAll_90 : decode cX1_beginAll 90 = .ok (.iastore, 1) := by decide +kernel
theorem dX1_beginAll_91 : decode cX1_beginAll 91 = .ok (.iconst 0, 1) := by decide +kernel
theorem dX1_beginAll_92 : decode cX1_beginAll 92 = .ok (.istore_n 2, 1) := by decide +kernel
theorem dX1_beginAll_93 : decode cX1_beginAll 93 = .ok (.iload_n 2, 1) := by decide +kernel
theorem dX1_beginAll_94 : decode cX1_beginAll 94 = .ok (.bipush 16, 2) := by decide +kernel
theorem dX1_beginAll_96 : decode cX1_beginAll 96 = .ok (.if_icmp .ge 44, 3) := by decide +kernel
theorem dX1_beginAll_99 : decode cX1_beginAll 99 = .ok (.aload_n 0, 1) := by decide +kernel
theorem dX1_beginAll_100 : decode cX1_beginAll 100 = .ok (.getfield 59, 3) := by decide +kernel
theorem dX1_beginAll_103 : decode cX1_beginAll 103 = .ok (.bipush 16, 2) := by decide +kernel
theorem dX1_beginAll_105 : decode cX1_beginAll 105 = .ok (.iload_n 1, 1) := by decide +kernel
theorem dX1_beginAll_106 : decode cX1_beginAll 106 = .ok (.imul, 1) := by decide +kernel
theorem dX1_beginAll_107 : decode cX1_beginAll 107 = .ok (.iload_n 2, 1) := by decide +kernel
theorem dX1_beginAll_108 : decode cX1_beginAll 108 = .ok (.iadd, 1) := by decide +kernel
theorem dX1_beginAll_109 : decode cX1_beginAll 109 = .ok (.aload_n 0, 1) := by decide +kernel
theorem dX1_beginAll_110 : decode cX1_beginAll 110 = .ok (.getfield 24, 3) := by decide +kernel
theorem dX1_beginAll_113 : decode cX1_beginAll 113 = .ok (.iload_n 1, 1) := by decide +kernel
theorem dX1_beginAll_114 : decode cX1_beginAll 114 = .ok (.daload, 1) := by decide +kernel
theorem dX1_beginAll_115 : decode cX1_beginAll 115 = .ok (.dastore, 1) := by decide +kernel
theorem dX1_beginAll_116 : decode cX1_beginAll 116 = .ok (.aload_n 0, 1) := by decide +kernel
theorem dX1_beginAll_117 : decode cX1_beginAll 117 = .ok (.getfield 62, 3) := by decide +kernel
theorem dX1_beginAll_120 : decode cX1_beginAll 120 = .ok (.bipush 16, 2) := by decide +kernel
theorem dX1_beginAll_122 : decode cX1_beginAll 122 = .ok (.iload_n 1, 1) := by decide +kernel
theorem dX1_beginAll_123 : decode cX1_beginAll 123 = .ok (.imul, 1) := by decide +kernel
theorem dX1_beginAll_124 : decode cX1_beginAll 124 = .ok (.iload_n 2, 1) := by decide +kernel
theorem dX1_beginAll_125 : decode cX1_beginAll 125 = .ok (.iadd, 1) := by decide +kernel
theorem dX1_beginAll_126 : decode cX1_beginAll 126 = .ok (.aload_n 0, 1) := by decide +kernel
theorem dX1_beginAll_127 : decode cX1_beginAll 127 = .ok (.getfield 24, 3) := by decide +kernel
theorem dX1_beginAll_130 : decode cX1_beginAll 130 = .ok (.iload_n 1, 1) := by decide +kernel
theorem dX1_beginAll_131 : decode cX1_beginAll 131 = .ok (.daload, 1) := by decide +kernel
theorem dX1_beginAll_132 : decode cX1_beginAll 132 = .ok (.d2f, 1) := by decide +kernel
theorem dX1_beginAll_133 : decode cX1_beginAll 133 = .ok (.fastore, 1) := by decide +kernel
theorem dX1_beginAll_134 : decode cX1_beginAll 134 = .ok (.iinc 2 1, 3) := by decide +kernel
theorem dX1_beginAll_137 : decode cX1_beginAll 137 = .ok (.goto (-44), 3) := by decide +kernel
theorem dX1_beginAll_140 : decode cX1_beginAll 140 = .ok (.iinc 1 1, 3) := by decide +kernel
theorem dX1_beginAll_143 : decode cX1_beginAll 143 = .ok (.goto (-127), 3) := by decide +kernel
theorem dX1_beginAll_146 : decode cX1_beginAll 146 = .ok (.aload_n 0, 1) := by decide +kernel
theorem dX1_beginAll_147 : decode cX1_beginAll 147 = .ok (.invokevirtual 311, 3) := by decide +kernel
theorem dX1_beginAll_150 : decode cX1_beginAll 150 = .ok (.iconst 0, 1) := by decide +kernel
theorem dX1_beginAll_151 : decode cX1_beginAll 151 = .ok (.istore_n 1, 1) := by decide +kernel
theorem dX1_beginAll_152 : decode cX1_beginAll 152 = .ok (.iload_n 1, 1) := by decide +kernel
theorem dX1_beginAll_153 : decode cX1_beginAll 153 = .ok (.aload_n 0, 1) := by decide +kernel
theorem dX1_beginAll_154 : decode cX1_beginAll 154 = .ok (.getfield 158, 3) := by decide +kernel
theorem dX1_beginAll_157 : decode cX1_beginAll 157 = .ok (.if_icmp .ge 39, 3) := by decide +kernel
theorem dX1_beginAll_160 : decode cX1_beginAll 160 = .ok (.aload_n 0, 1) := by decide +kernel
theorem dX1_beginAll_161 : decode cX1_beginAll 161 = .ok (.iload_n 1, 1) := by decide +kernel
theorem dX1_beginAll_162 : decode cX1_beginAll 162 = .ok (.invokevirtual 325, 3) := by decide +kernel
theorem dX1_beginAll_165 : decode cX1_beginAll 165 = .ok (.aload_n 0, 1) := by decide +kernel
theorem dX1_beginAll_166 : decode cX1_beginAll 166 = .ok (.getfield 74, 3) := by decide +kernel
theorem dX1_beginAll_169 : decode cX1_beginAll 169 = .ok (.iload_n 1, 1) := by decide +kernel
theorem dX1_beginAll_170 : decode cX1_beginAll 170 = .ok (.aload_n 0, 1) := by decide +kernel
theorem dX1_beginAll_171 : decode cX1_beginAll 171 = .ok (.getfield 7, 3) := by decide +kernel
theorem dX1_beginAll_174 : decode cX1_beginAll 174 = .ok (.iload_n 1, 1) := by decide +kernel
theorem dX1_beginAll_175 : decode cX1_beginAll 175 = .ok (.iaload, 1) := by decide +kernel
theorem dX1_beginAll_176 : decode cX1_beginAll 176 = .ok (.iconst 2, 1) := by decide +kernel
theorem dX1_beginAll_177 : decode cX1_beginAll 177 = .ok (.if_icmp .ne 11, 3) := by decide +kernel
theorem dX1_beginAll_180 : decode cX1_beginAll 180 = .ok (.aload_n 0, 1) := by decide +kernel
theorem dX1_beginAll_181 : decode cX1_beginAll 181 = .ok (.iload_n 1, 1) := by decide +kernel
theorem dX1_beginAll_182 : decode cX1_beginAll 182 = .ok (.invokevirtual 264, 3) := by decide +kernel
theorem dX1_beginAll_185 : decode cX1_beginAll 185 = .ok (.goto 4, 3) := by decide +kernel
theorem dX1_beginAll_188 : decode cX1_beginAll 188 = .ok (.dconst 0, 1) := by decide +kernel
theorem dX1_beginAll_189 : decode cX1_beginAll 189 = .ok (.dastore, 1) := by decide +kernel
theorem dX1_beginAll_190 : decode cX1_beginAll 190 = .ok (.iinc 1 1, 3) := by decide +kernel
theorem dX1_beginAll_193 : decode cX1_beginAll 193 = .ok (.goto (-41), 3) := by decide +kernel
theorem dX1_beginAll_196 : decode cX1_beginAll 196 = .ok (.return_, 1) := by decide +kernel
theorem mt_X1_count (l : Launch) (D : va_G) (dA : Nat → ClassId) (ad : Nat → Nat) (C : tp_C) (d : md_T) (a : Int32) (hC : mOK C) : mC l D dA ad yX1_count cX1_count 4 (some .int) 2 [.int a] C d (some (.int (coI C d a))) C (coD C d a) := by
  refine mm_start (by decide) rfl (Nat.le_of_ble_eq_true rfl) ?_
  intro p0 e0 s0 mid bl0 me0 co0 ls S hr hlk G hl
  have hx := S.1; have hb := S.2.1; have hml := S.2.2.1; have hown := S.2.2.2.1; have hts := S.2.2.2.2
  have hl : lv_has ls 4 [(0, .ref (ad 0)), (1, .int a)] := hl
  have hN := hC.n
  have L2 : ∀ (n_ i : Nat), i ≤ c120 → c120 < i + n_ → ∀ (H : Heap) (locs : List Loc) (ls : Array Slot), mG D dA ad C d s0 H locs → lv_has ls 4 [(3, .int (nI i)), (2, .int (nI (ctF C i))), (0, .ref (ad 0))] → (∀ (H : Heap) (locs : List Loc) (ls : Array Slot), mG D dA ad C d s0 H locs → lv_has ls 4 [(3, .int (nI c120)), (2, .int (nI (ctF C c120))), (0, .ref (ad 0))] → W p0 l e0 (rm_ 2) s0 mid (Value.ref (ad 0) :: [.int a]).toArray bl0 me0 co0 H locs 0 0 (MQ bl0 (mQ D dA ad (some (.int (coI C d a))) C (coD C d a)) (Value.ref (ad 0) :: [.int a]).toArray s0 0 0 (mA ad)) (F0 mid 90 ls [])) → W p0 l e0 (rm_ 2) s0 mid (Value.ref (ad 0) :: [.int a]).toArray bl0 me0 co0 H locs 0 0 (MQ bl0 (mQ D dA ad (some (.int (coI C d a))) C (coD C d a)) (Value.ref (ad 0) :: [.int a]).toArray s0 0 0 (mA ad)) (F0 mid 60 ls []) := by
    intro n_
    induction n_ with
    | zero => intro i h1_ h2_; exact absurd h2_ (by omega)
    | succ n_ ih =>
      intro i h1_ h2_ H locs ls G hl kk
      have h120 : c120 = 120 := rfl
      have hle := ctF_le C i
      refine lv_iload_n hx hb dX1_count_60 rfl (lv_at hl 0 rfl) ?_
      refine lv_bipush (v := nI 120) hx hb dX1_count_61 (by decide) ?_
      refine nn_cge (tgt := 90) hx hb (by omega) (by omega) dX1_count_63 (by decide) (fun c_63 => ?_) (fun c_63 => ?_)
      · have hiN : i = c120 := by omega
        subst hiN
        exact kk H locs ls G (lv_sub hl [0, 1, 2] rfl)
      · refine lv_iload_n hx hb dX1_count_66 rfl (lv_at hl 1 rfl) ?_
        refine lv_aload_n hx hb dX1_count_67 rfl (lv_at hl 2 rfl) ?_
        refine mm_get S G 3 (by decide) q1270 rfl (v := .ref (ad 4)) rfl dX1_count_68 ?_
        refine lv_iload_n hx hb dX1_count_71 rfl (lv_at hl 0 rfl) ?_
        refine mm_iald S G 3 0 (by decide) (n := 120) rfl rfl (by omega) (by decide) (v := oI (cF C (i / 6) (i % 6))) rfl dX1_count_72 ?_
        refine lv_iconst (v := (-1)) hx hb dX1_count_73 (by decide) ?_
        refine oo_cne (tgt := 81) hx hb hC.f31 dX1_count_74 (by decide) (fun k_74 c_74 => ?_) (fun c_74 => ?_)
        · refine lv_iconst (v := nI 1) hx hb dX1_count_81 (by decide) ?_
          refine nn_add hx hb dX1_count_82 ?_
          refine lv_istore_n (lv' := [(2, .int (nI (ctF C i + 1))), (3, .int (nI i)), (0, .ref (ad 0))]) hx hb dX1_count_83 rfl hl (by decide) rfl (fun ls hl => ?_)
          refine lv_iinc (v := nI (i + 1)) (lv' := [(3, .int (nI (i + 1))), (2, .int (nI (ctF C i + 1))), (0, .ref (ad 0))]) hx hb dX1_count_84 hl (k := 1) rfl (nI_1 _) (by decide) rfl (fun ls hl => ?_)
          refine lv_goto (tgt := 60) hx hb dX1_count_87 (by decide) ?_
          exact ih (i + 1) (by omega) (by omega) H locs ls G (lv_eq (lv_sub (l' := [(3, .int (nI (i + 1))), (2, .int (nI (ctF C i + 1))), (0, .ref (ad 0))]) hl [0, 1, 2] rfl) (by simp [ctF_s, c_63, c_74])) kk
        · refine lv_iconst (v := nI 0) hx hb dX1_count_77 (by decide) ?_
          refine lv_goto (tgt := 82) hx hb dX1_count_78 (by decide) ?_
          refine nn_add hx hb dX1_count_82 ?_
          refine lv_istore_n (lv' := [(2, .int (nI (ctF C i + 0))), (3, .int (nI i)), (0, .ref (ad 0))]) hx hb dX1_count_83 rfl hl (by decide) rfl (fun ls hl => ?_)
          refine lv_iinc (v := nI (i + 1)) (lv' := [(3, .int (nI (i + 1))), (2, .int (nI (ctF C i + 0))), (0, .ref (ad 0))]) hx hb dX1_count_84 hl (k := 1) rfl (nI_1 _) (by decide) rfl (fun ls hl => ?_)
          refine lv_goto (tgt := 60) hx hb dX1_count_87 (by decide) ?_
          exact ih (i + 1) (by omega) (by omega) H locs ls G (lv_eq (lv_sub (l' := [(3, .int (nI (i + 1))), (2, .int (nI (ctF C i + 0))), (0, .ref (ad 0))]) hl [0, 1, 2] rfl) (by simp [ctF_s, c_63, c_74])) kk
  have L3 : ∀ (n_ i : Nat), i ≤ cN C → cN C < i + n_ → ∀ (H : Heap) (locs : List Loc) (ls : Array Slot), mG D dA ad C (leD C d) s0 H locs → lv_has ls 4 [(3, .int (nI i)), (2, .int (rmx (leF C (dAI d 10)) i)), (0, .ref (ad 0))] → (∀ (H : Heap) (locs : List Loc) (ls : Array Slot), mG D dA ad C (leD C d) s0 H locs → lv_has ls 4 [(3, .int (nI (cN C))), (2, .int (rmx (leF C (dAI d 10)) (cN C))), (0, .ref (ad 0))] → W p0 l e0 (rm_ 2) s0 mid (Value.ref (ad 0) :: [.int a]).toArray bl0 me0 co0 H locs 0 0 (MQ bl0 (mQ D dA ad (some (.int (coI C d a))) C (coD C d a)) (Value.ref (ad 0) :: [.int a]).toArray s0 0 0 (mA ad)) (F0 mid 133 ls [])) → W p0 l e0 (rm_ 2) s0 mid (Value.ref (ad 0) :: [.int a]).toArray bl0 me0 co0 H locs 0 0 (MQ bl0 (mQ D dA ad (some (.int (coI C d a))) C (coD C d a)) (Value.ref (ad 0) :: [.int a]).toArray s0 0 0 (mA ad)) (F0 mid 98 ls []) := by
    intro n_
    induction n_ with
    | zero => intro i h1_ h2_; exact absurd h2_ (by omega)
    | succ n_ ih =>
      intro i h1_ h2_ H locs ls G hl kk
      refine lv_iload_n hx hb dX1_count_98 rfl (lv_at hl 0 rfl) ?_
      refine lv_aload_n hx hb dX1_count_99 rfl (lv_at hl 2 rfl) ?_
      refine mm_get S G 0 (by decide) q1267 rfl (v := .int (nI (cN C))) rfl dX1_count_100 ?_
      refine nn_cge (tgt := 133) hx hb (by omega) (by omega) dX1_count_103 (by decide) (fun c_103 => ?_) (fun c_103 => ?_)
      · have hiN : i = cN C := by omega
        subst hiN
        exact kk H locs ls G (lv_sub hl [0, 1, 2] rfl)
      · refine lv_aload_n hx hb dX1_count_106 rfl (lv_at hl 2 rfl) ?_
        refine mm_get S G 10 (by decide) q1277 rfl (v := .ref (ad 11)) rfl dX1_count_107 ?_
        refine lv_iload_n hx hb dX1_count_110 rfl (lv_at hl 0 rfl) ?_
        refine mm_iald S G 10 0 (by decide) (n := 20) rfl rfl (by omega) (by decide) (v := leF C (dAI d 10) i) rfl dX1_count_111 ?_
        refine lv_iload_n hx hb dX1_count_112 rfl (lv_at hl 1 rfl) ?_
        refine lv_icmp_le (tgt := 125) hx hb dX1_count_113 (by decide) (fun c_113 => ?_) (fun c_113 => ?_)
        · refine lv_iload_n hx hb dX1_count_125 rfl (lv_at hl 1 rfl) ?_
          refine lv_istore_n (lv' := [(2, .int (rmx (leF C (dAI d 10)) i)), (3, .int (nI i)), (0, .ref (ad 0))]) hx hb dX1_count_126 rfl hl (by decide) rfl (fun ls hl => ?_)
          refine lv_iinc (v := nI (i + 1)) (lv' := [(3, .int (nI (i + 1))), (2, .int (rmx (leF C (dAI d 10)) i)), (0, .ref (ad 0))]) hx hb dX1_count_127 hl (k := 1) rfl (nI_1 _) (by decide) rfl (fun ls hl => ?_)
          refine lv_goto (tgt := 98) hx hb dX1_count_130 (by decide) ?_
          exact ih (i + 1) (by omega) (by omega) H locs ls G (lv_eq (lv_sub (l' := [(3, .int (nI (i + 1))), (2, .int (rmx (leF C (dAI d 10)) i)), (0, .ref (ad 0))]) hl [0, 1, 2] rfl) (by simp [rmx_s, c_103, c_113])) kk
        · refine lv_aload_n hx hb dX1_count_116 rfl (lv_at hl 2 rfl) ?_
          refine mm_get S G 10 (by decide) q1277 rfl (v := .ref (ad 11)) rfl dX1_count_117 ?_
          refine lv_iload_n hx hb dX1_count_120 rfl (lv_at hl 0 rfl) ?_
          refine mm_iald S G 10 0 (by decide) (n := 20) rfl rfl (by omega) (by decide) (v := leF C (dAI d 10) i) rfl dX1_count_121 ?_
          refine lv_goto (tgt := 126) hx hb dX1_count_122 (by decide) ?_
          refine lv_istore_n (lv' := [(2, .int (leF C (dAI d 10) i)), (3, .int (nI i)), (0, .ref (ad 0))]) hx hb dX1_count_126 rfl hl (by decide) rfl (fun ls hl => ?_)
          refine lv_iinc (v := nI (i + 1)) (lv' := [(3, .int (nI (i + 1))), (2, .int (leF C (dAI d 10) i)), (0, .ref (ad 0))]) hx hb dX1_count_127 hl (k := 1) rfl (nI_1 _) (by decide) rfl (fun ls hl => ?_)
          refine lv_goto (tgt := 98) hx hb dX1_count_130 (by decide) ?_
          exact ih (i + 1) (by omega) (by omega) H locs ls G (lv_eq (lv_sub (l' := [(3, .int (nI (i + 1))), (2, .int (leF C (dAI d 10) i)), (0, .ref (ad 0))]) hl [0, 1, 2] rfl) (by simp [rmx_s, c_103, c_113])) kk
  have L4 : ∀ (n_ i : Nat), i ≤ cN C → cN C < i + n_ → ∀ (H : Heap) (locs : List Loc) (ls : Array Slot), mG D dA ad C d s0 H locs → lv_has ls 4 [(3, .int (nI i)), (2, .int (nI (ctL d i))), (0, .ref (ad 0))] → (∀ (H : Heap) (locs : List Loc) (ls : Array Slot), mG D dA ad C d s0 H locs → lv_has ls 4 [(3, .int (nI (cN C))), (2, .int (nI (ctL d (cN C)))), (0, .ref (ad 0))] → W p0 l e0 (rm_ 2) s0 mid (Value.ref (ad 0) :: [.int a]).toArray bl0 me0 co0 H locs 0 0 (MQ bl0 (mQ D dA ad (some (.int (coI C d a))) C (coD C d a)) (Value.ref (ad 0) :: [.int a]).toArray s0 0 0 (mA ad)) (F0 mid 169 ls [])) → W p0 l e0 (rm_ 2) s0 mid (Value.ref (ad 0) :: [.int a]).toArray bl0 me0 co0 H locs 0 0 (MQ bl0 (mQ D dA ad (some (.int (coI C d a))) C (coD C d a)) (Value.ref (ad 0) :: [.int a]).toArray s0 0 0 (mA ad)) (F0 mid 137 ls []) := by
    intro n_
    induction n_ with
    | zero => intro i h1_ h2_; exact absurd h2_ (by omega)
    | succ n_ ih =>
      intro i h1_ h2_ H locs ls G hl kk
      have hle := ctL_le d i
      refine lv_iload_n hx hb dX1_count_137 rfl (lv_at hl 0 rfl) ?_
      refine lv_aload_n hx hb dX1_count_138 rfl (lv_at hl 2 rfl) ?_
      refine mm_get S G 0 (by decide) q1267 rfl (v := .int (nI (cN C))) rfl dX1_count_139 ?_
      refine nn_cge (tgt := 169) hx hb (by omega) (by omega) dX1_count_142 (by decide) (fun c_142 => ?_) (fun c_142 => ?_)
      · have hiN : i = cN C := by omega
        subst hiN
        exact kk H locs ls G (lv_sub hl [0, 1, 2] rfl)
      · refine lv_iload_n hx hb dX1_count_145 rfl (lv_at hl 1 rfl) ?_
        refine lv_aload_n hx hb dX1_count_146 rfl (lv_at hl 2 rfl) ?_
        refine mm_get S G 24 (by decide) q1291 rfl (v := .ref (ad 25)) rfl dX1_count_147 ?_
        refine lv_iload_n hx hb dX1_count_150 rfl (lv_at hl 0 rfl) ?_
        refine mm_iald S G 24 0 (by decide) (n := 20) rfl rfl (by omega) (by decide) (v := dAI d 24 i) rfl dX1_count_151 ?_
        refine lv_iconst (v := (-1)) hx hb dX1_count_152 (by decide) ?_
        refine lv_icmp_ne (tgt := 160) hx hb dX1_count_153 (by decide) (fun c_153 => ?_) (fun c_153 => ?_)
        · refine lv_iconst (v := nI 1) hx hb dX1_count_160 (by decide) ?_
          refine nn_add hx hb dX1_count_161 ?_
          refine lv_istore_n (lv' := [(2, .int (nI (ctL d i + 1))), (3, .int (nI i)), (0, .ref (ad 0))]) hx hb dX1_count_162 rfl hl (by decide) rfl (fun ls hl => ?_)
          refine lv_iinc (v := nI (i + 1)) (lv' := [(3, .int (nI (i + 1))), (2, .int (nI (ctL d i + 1))), (0, .ref (ad 0))]) hx hb dX1_count_163 hl (k := 1) rfl (nI_1 _) (by decide) rfl (fun ls hl => ?_)
          refine lv_goto (tgt := 137) hx hb dX1_count_166 (by decide) ?_
          exact ih (i + 1) (by omega) (by omega) H locs ls G (lv_eq (lv_sub (l' := [(3, .int (nI (i + 1))), (2, .int (nI (ctL d i + 1))), (0, .ref (ad 0))]) hl [0, 1, 2] rfl) (by simp [ctL_s, c_142, c_153])) kk
        · refine lv_iconst (v := nI 0) hx hb dX1_count_156 (by decide) ?_
          refine lv_goto (tgt := 161) hx hb dX1_count_157 (by decide) ?_
          refine nn_add hx hb dX1_count_161 ?_
          refine lv_istore_n (lv' := [(2, .int (nI (ctL d i + 0))), (3, .int (nI i)), (0, .ref (ad 0))]) hx hb dX1_count_162 rfl hl (by decide) rfl (fun ls hl => ?_)
          refine lv_iinc (v := nI (i + 1)) (lv' := [(3, .int (nI (i + 1))), (2, .int (nI (ctL d i + 0))), (0, .ref (ad 0))]) hx hb dX1_count_163 hl (k := 1) rfl (nI_1 _) (by decide) rfl (fun ls hl => ?_)
          refine lv_goto (tgt := 137) hx hb dX1_count_166 (by decide) ?_
          exact ih (i + 1) (by omega) (by omega) H locs ls G (lv_eq (lv_sub (l' := [(3, .int (nI (i + 1))), (2, .int (nI (ctL d i + 0))), (0, .ref (ad 0))]) hl [0, 1, 2] rfl) (by simp [ctL_s, c_142, c_153])) kk
  refine lv_iconst (v := nI 0) hx hb dX1_count_0 (by decide) ?_
  refine lv_istore_n (lv' := [(2, .int (nI 0)), (0, .ref (ad 0)), (1, .int a)]) hx hb dX1_count_1 rfl hl (by decide) rfl (fun ls hl => ?_)
  refine lv_iload_n hx hb dX1_count_2 rfl (lv_at hl 2 rfl) ?_
  rcases sw8 a with ⟨j, hj, rfl⟩ | ⟨c_3, c_3b⟩
  · have e_in : inB (nI j) (nI 0) (nI 7) = true := inB_spec.mpr ⟨nI_le (by omega) (by omega), nI_le hj (by decide)⟩
    rcases (show j = 0 ∨ j = 1 ∨ j = 2 ∨ j = 3 ∨ j = 4 ∨ j = 5 ∨ j = 6 ∨ j = 7 by omega) with rfl | rfl | rfl | rfl | rfl | rfl | rfl | rfl
    · refine sw_in (off := 45) (tgt := 48) [0] (by simp) hx hb dX1_count_3 (by decide) (by decide) ?_
      refine lv_aload_n hx hb dX1_count_48 rfl (lv_at hl 1 rfl) ?_
      refine mm_get S G 0 (by decide) q1267 rfl (v := .int (nI (cN C))) rfl dX1_count_49 ?_
      exact mm_iret S hr hlk G (by first | (simp [coI, coD, e_in]; done) | rfl | decide | (simp [coI, coD, e_in] <;> rfl)) rfl (by first | (simp [coI, coD, e_in]; done) | rfl | decide | (simp [coI, coD, e_in] <;> rfl)) dX1_count_52
    · refine sw_in (off := 50) (tgt := 53) [1] (by simp) hx hb dX1_count_3 (by decide) (by decide) ?_
      refine lv_aload_n hx hb dX1_count_53 rfl (lv_at hl 1 rfl) ?_
      refine mm_get S G 37 (by decide) q1304 rfl (v := .int (nI (cZ C))) rfl dX1_count_54 ?_
      exact mm_iret S hr hlk G (by first | (simp [coI, coD, e_in]; done) | rfl | decide | (simp [coI, coD, e_in] <;> rfl)) rfl (by first | (simp [coI, coD, e_in]; done) | rfl | decide | (simp [coI, coD, e_in] <;> rfl)) dX1_count_57
    · refine sw_in (off := 55) (tgt := 58) [2] (by simp) hx hb dX1_count_3 (by decide) (by decide) ?_
      refine lv_iconst (v := nI 0) hx hb dX1_count_58 (by decide) ?_
      refine lv_istore_n (lv' := [(3, .int (nI 0)), (2, .int (nI 0)), (0, .ref (ad 0)), (1, .int (nI 2))]) hx hb dX1_count_59 rfl hl (by decide) rfl (fun ls hl => ?_)
      refine L2 (c120 + 1) 0 (by omega) (by omega) _ _ ls G (lv_eq (lv_sub (l' := [(3, .int (nI 0)), (2, .int (nI 0)), (0, .ref (ad 0))]) hl [0, 1, 2] rfl) (by rfl)) (fun H locs ls G hl => ?_)
      refine lv_iload_n hx hb dX1_count_90 rfl (lv_at hl 1 rfl) ?_
      exact mm_iret S hr hlk G (by first | (simp [coI, coD, e_in]; done) | rfl | decide | (simp [coI, coD, e_in] <;> rfl)) rfl (by first | (simp [coI, coD, e_in]; done) | rfl | decide | (simp [coI, coD, e_in] <;> rfl)) dX1_count_91
    · refine sw_in (off := 89) (tgt := 92) [3] (by simp) hx hb dX1_count_3 (by decide) (by decide) ?_
      refine lv_aload_n hx hb dX1_count_92 rfl (lv_at hl 1 rfl) ?_
      refine mm_call (As := []) (rest := []) S G (mt_X1_levelAll l D dA ad C d hC) q1529 q1531 qs23 q1532 hd_X1_levelAll ⟨Nat.le_of_ble_eq_true rfl, Nat.le_of_ble_eq_true rfl⟩ rfl hl.1 rfl (Nat.le_of_ble_eq_true rfl) dX1_count_93 ⟨Nat.zero_le _, Nat.zero_le _⟩ (fun H locs G => ?_)
      refine W.eq (g2 := F0 mid 96 ls []) rfl ?_
      refine lv_iconst (v := nI 0) hx hb dX1_count_96 (by decide) ?_
      refine lv_istore_n (lv' := [(3, .int (nI 0)), (2, .int (nI 0)), (0, .ref (ad 0)), (1, .int (nI 3))]) hx hb dX1_count_97 rfl hl (by decide) rfl (fun ls hl => ?_)
      refine L3 (cN C + 1) 0 (by omega) (by omega) _ _ ls G (lv_eq (lv_sub (l' := [(3, .int (nI 0)), (2, .int (nI 0)), (0, .ref (ad 0))]) hl [0, 1, 2] rfl) (by rfl)) (fun H locs ls G hl => ?_)
      refine lv_iload_n hx hb dX1_count_133 rfl (lv_at hl 1 rfl) ?_
      exact mm_iret S hr hlk G (by first | (simp [coI, coD, e_in]; done) | rfl | decide | (simp [coI, coD, e_in] <;> rfl)) rfl (by first | (simp [coI, coD, e_in]; done) | rfl | decide | (simp [coI, coD, e_in] <;> rfl)) dX1_count_134
    · refine sw_in (off := 132) (tgt := 135) [4] (by simp) hx hb dX1_count_3 (by decide) (by decide) ?_
      refine lv_iconst (v := nI 0) hx hb dX1_count_135 (by decide) ?_
      refine lv_istore_n (lv' := [(3, .int (nI 0)), (2, .int (nI 0)), (0, .ref (ad 0)), (1, .int (nI 4))]) hx hb dX1_count_136 rfl hl (by decide) rfl (fun ls hl => ?_)
      refine L4 (cN C + 1) 0 (by omega) (by omega) _ _ ls G (lv_eq (lv_sub (l' := [(3, .int (nI 0)), (2, .int (nI 0)), (0, .ref (ad 0))]) hl [0, 1, 2] rfl) (by rfl)) (fun H locs ls G hl => ?_)
      refine lv_iload_n hx hb dX1_count_169 rfl (lv_at hl 1 rfl) ?_
      exact mm_iret S hr hlk G (by first | (simp [coI, coD, e_in]; done) | rfl | decide | (simp [coI, coD, e_in] <;> rfl)) rfl (by first | (simp [coI, coD, e_in]; done) | rfl | decide | (simp [coI, coD, e_in] <;> rfl)) dX1_count_170
    · refine sw_in (off := 168) (tgt := 171) [5] (by simp) hx hb dX1_count_3 (by decide) (by decide) ?_
      refine lv_aload_n hx hb dX1_count_171 rfl (lv_at hl 1 rfl) ?_
      refine mm_get S G 15 (by decide) q1282 rfl (v := .int (dI d 15)) rfl dX1_count_172 ?_
      exact mm_iret S hr hlk G (by first | (simp [coI, coD, e_in]; done) | rfl | decide | (simp [coI, coD, e_in] <;> rfl)) rfl (by first | (simp [coI, coD, e_in]; done) | rfl | decide | (simp [coI, coD, e_in] <;> rfl)) dX1_count_175
    · refine sw_in (off := 173) (tgt := 176) [6] (by simp) hx hb dX1_count_3 (by decide) (by decide) ?_
      refine lv_aload_n hx hb dX1_count_176 rfl (lv_at hl 1 rfl) ?_
      refine mm_get S G 13 (by decide) q1280 rfl (v := .int (nI (cR C))) rfl dX1_count_177 ?_
      exact mm_iret S hr hlk G (by first | (simp [coI, coD, e_in]; done) | rfl | decide | (simp [coI, coD, e_in] <;> rfl)) rfl (by first | (simp [coI, coD, e_in]; done) | rfl | decide | (simp [coI, coD, e_in] <;> rfl)) dX1_count_180
    · refine sw_in (off := 178) (tgt := 181) [7] (by simp) hx hb dX1_count_3 (by decide) (by decide) ?_
      refine lv_aload_n hx hb dX1_count_181 rfl (lv_at hl 1 rfl) ?_
      refine mm_get S G 14 (by decide) q1281 rfl (v := .int (nI (cH C))) rfl dX1_count_182 ?_
      exact mm_iret S hr hlk G (by first | (simp [coI, coD, e_in]; done) | rfl | decide | (simp [coI, coD, e_in] <;> rfl)) rfl (by first | (simp [coI, coD, e_in]; done) | rfl | decide | (simp [coI, coD, e_in] <;> rfl)) dX1_count_185
  · refine lv_tableOut (tgt := 186) hx hb dX1_count_3 c_3b (by decide) ?_
    refine lv_bipush (v := (-102)) hx hb dX1_count_186 (by decide) ?_
    exact mm_iret S hr hlk G (by first | (simp [coI, c_3]; done) | (simp only [coD]; rw [if_neg]; intro e; rw [e] at c_3; cases c_3)) rfl (by first | (simp [coI, c_3]; done) | (simp only [coD]; rw [if_neg]; intro e; rw [e] at c_3; cases c_3)) dX1_count_188
theorem mt_X1_beginAll (l : Launch) (D : va_G) (dA : Nat → ClassId) (ad : Nat → Nat) (C : tp_C) (d : md_T) (hC : mOK C) (hV : vOK C) (hW : vfOK C) (hA : aOK C) (hL : lvOK (dAI d 10)) (hI : iOK C (dAI d 10) d) : mC l D dA ad yX1_beginAll cX1_beginAll 3 none 5 [] C d none C (beD C d) := by
  refine mm_start (by decide) rfl (Nat.le_of_ble_eq_true rfl) ?_
  intro p0 e0 s0 mid bl0 me0 co0 ls S hr hlk G hl
  have hx := S.1; have hb := S.2.1; have hml := S.2.2.1; have hown := S.2.2.2.1; have hts := S.2.2.2.2
  have hl : lv_has ls 3 [(0, .ref (ad 0))] := hl
  have hN := hC.n
  have L2 : ∀ (f : md_T) (m : Nat) (hm : m < cN C) (n_ k : Nat), k ≤ 16 → 16 < k + n_ → ∀ (H : Heap) (locs : List Loc) (ls : Array Slot), mG D dA ad C (rbI f m k (cB C m)) s0 H locs → lv_has ls 3 [(2, .int (nI k)), (1, .int (nI m)), (0, .ref (ad 0))] → (∀ (H : Heap) (locs : List Loc) (ls : Array Slot), mG D dA ad C (rbI f m 16 (cB C m)) s0 H locs → lv_has ls 3 [(2, .int (nI 16)), (1, .int (nI m)), (0, .ref (ad 0))] → W p0 l e0 (rm_ 5) s0 mid (Value.ref (ad 0) :: []).toArray bl0 me0 co0 H locs 0 0 (MQ bl0 (mQ D dA ad none C (beD C d)) (Value.ref (ad 0) :: []).toArray s0 0 0 (mA ad)) (F0 mid 140 ls [])) → W p0 l e0 (rm_ 5) s0 mid (Value.ref (ad 0) :: []).toArray bl0 me0 co0 H locs 0 0 (MQ bl0 (mQ D dA ad none C (beD C d)) (Value.ref (ad 0) :: []).toArray s0 0 0 (mA ad)) (F0 mid 93 ls []) := by
    intro f m hm n_
    induction n_ with
    | zero => intro k h1_ h2_; exact absurd h2_ (by omega)
    | succ n_ ih =>
      intro k h1_ h2_ H locs ls G hl kk
      refine lv_iload_n hx hb dX1_beginAll_93 rfl (lv_at hl 0 rfl) ?_
      refine lv_bipush (v := nI 16) hx hb dX1_beginAll_94 (by decide) ?_
      refine nn_cge (tgt := 140) hx hb (by omega) (by omega) dX1_beginAll_96 (by decide) (fun c_96 => ?_) (fun c_96 => ?_)
      · have hiN : k = 16 := by omega
        subst hiN
        exact kk H locs ls G (lv_sub hl [0, 1, 2] rfl)
      · refine lv_aload_n hx hb dX1_beginAll_99 rfl (lv_at hl 2 rfl) ?_
        refine mm_get S G 21 (by decide) q1288 rfl (v := .ref (ad 22)) rfl dX1_beginAll_100 ?_
        refine lv_bipush (v := nI 16) hx hb dX1_beginAll_103 (by decide) ?_
        refine lv_iload_n hx hb dX1_beginAll_105 rfl (lv_at hl 1 rfl) ?_
        refine nn_mul hx hb dX1_beginAll_106 ?_
        refine lv_iload_n hx hb dX1_beginAll_107 rfl (lv_at hl 0 rfl) ?_
        refine nn_add hx hb dX1_beginAll_108 ?_
        refine lv_aload_n hx hb dX1_beginAll_109 rfl (lv_at hl 2 rfl) ?_
        refine mm_get S G 5 (by decide) q1272 rfl (v := .ref (ad 6)) rfl dX1_beginAll_110 ?_
        refine lv_iload_n hx hb dX1_beginAll_113 rfl (lv_at hl 1 rfl) ?_
        refine mm_dald S G 5 2 (by decide) (n := 20) rfl rfl (by omega) (by decide) (v := cB C m) rfl dX1_beginAll_114 ?_
        refine mm_dast S G 21 rfl (by decide) (n := 320) rfl (by omega) dX1_beginAll_115 (fun H locs G => ?_)
        refine lv_aload_n hx hb dX1_beginAll_116 rfl (lv_at hl 2 rfl) ?_
        refine mm_get S G 22 (by decide) q1289 rfl (v := .ref (ad 23)) rfl dX1_beginAll_117 ?_
        refine lv_bipush (v := nI 16) hx hb dX1_beginAll_120 (by decide) ?_
        refine lv_iload_n hx hb dX1_beginAll_122 rfl (lv_at hl 1 rfl) ?_
        refine nn_mul hx hb dX1_beginAll_123 ?_
        refine lv_iload_n hx hb dX1_beginAll_124 rfl (lv_at hl 0 rfl) ?_
        refine nn_add hx hb dX1_beginAll_125 ?_
        refine lv_aload_n hx hb dX1_beginAll_126 rfl (lv_at hl 2 rfl) ?_
        refine mm_get S G 5 (by decide) q1272 rfl (v := .ref (ad 6)) rfl dX1_beginAll_127 ?_
        refine lv_iload_n hx hb dX1_beginAll_130 rfl (lv_at hl 1 rfl) ?_
        refine mm_dald S G 5 2 (by decide) (n := 20) rfl rfl (by omega) (by decide) (v := cB C m) rfl dX1_beginAll_131 ?_
        refine lv_d2f hx hb dX1_beginAll_132 (nF_d2f (bD_n (hV.b m))) ?_
        refine mm_fast S G 22 rfl (by decide) (n := 320) rfl (by omega) dX1_beginAll_133 (fun H locs G => ?_)
        refine lv_iinc (v := nI (k + 1)) (lv' := [(2, .int (nI (k + 1))), (1, .int (nI m)), (0, .ref (ad 0))]) hx hb dX1_beginAll_134 hl (k := 0) rfl (nI_1 _) (by decide) rfl (fun ls hl => ?_)
        refine lv_goto (tgt := 93) hx hb dX1_beginAll_137 (by decide) ?_
        exact ih (k + 1) (by omega) (by omega) H locs ls (mG_d (by exact rbI_s f m k (cB C m)) G) (lv_sub hl [0, 1, 2] rfl) kk
  have L1 : ∀ (n_ m : Nat), m ≤ cN C → cN C < m + n_ → ∀ (H : Heap) (locs : List Loc) (ls : Array Slot), mG D dA ad C (bgN C m (be0 C d)) s0 H locs → lv_has ls 3 [(1, .int (nI m)), (0, .ref (ad 0))] → (∀ (H : Heap) (locs : List Loc) (ls : Array Slot), mG D dA ad C (bgN C (cN C) (be0 C d)) s0 H locs → lv_has ls 3 [(1, .int (nI (cN C))), (0, .ref (ad 0))] → W p0 l e0 (rm_ 5) s0 mid (Value.ref (ad 0) :: []).toArray bl0 me0 co0 H locs 0 0 (MQ bl0 (mQ D dA ad none C (beD C d)) (Value.ref (ad 0) :: []).toArray s0 0 0 (mA ad)) (F0 mid 146 ls [])) → W p0 l e0 (rm_ 5) s0 mid (Value.ref (ad 0) :: []).toArray bl0 me0 co0 H locs 0 0 (MQ bl0 (mQ D dA ad none C (beD C d)) (Value.ref (ad 0) :: []).toArray s0 0 0 (mA ad)) (F0 mid 16 ls []) := by
    intro n_
    induction n_ with
    | zero => intro m h1_ h2_; exact absurd h2_ (by omega)
    | succ n_ ih =>
      intro m h1_ h2_ H locs ls G hl kk
      have hk14 := hC.k m
      refine lv_iload_n hx hb dX1_beginAll_16 rfl (lv_at hl 0 rfl) ?_
      refine lv_aload_n hx hb dX1_beginAll_17 rfl (lv_at hl 1 rfl) ?_
      refine mm_get S G 0 (by decide) q1267 rfl (v := .int (nI (cN C))) rfl dX1_beginAll_18 ?_
      refine nn_cge (tgt := 146) hx hb (by omega) (by omega) dX1_beginAll_21 (by decide) (fun c_21 => ?_) (fun c_21 => ?_)
      · have hiN : m = cN C := by omega
        subst hiN
        exact kk H locs ls G (lv_sub hl [0, 1] rfl)
      · refine lv_aload_n hx hb dX1_beginAll_24 rfl (lv_at hl 1 rfl) ?_
        refine mm_get S G 24 (by decide) q1291 rfl (v := .ref (ad 25)) rfl dX1_beginAll_25 ?_
        refine lv_iload_n hx hb dX1_beginAll_28 rfl (lv_at hl 0 rfl) ?_
        refine lv_iconst (v := (-1)) hx hb dX1_beginAll_29 (by decide) ?_
        refine mm_iast S G 24 rfl (by decide) (n := 20) rfl (by omega) dX1_beginAll_30 (fun H locs G => ?_)
        refine lv_aload_n hx hb dX1_beginAll_31 rfl (lv_at hl 1 rfl) ?_
        refine mm_get S G 25 (by decide) q1292 rfl (v := .ref (ad 26)) rfl dX1_beginAll_32 ?_
        refine lv_iload_n hx hb dX1_beginAll_35 rfl (lv_at hl 0 rfl) ?_
        refine lv_dconst0 hx hb dX1_beginAll_36 ?_
        refine mm_dast S G 25 rfl (by decide) (n := 20) rfl (by omega) dX1_beginAll_37 (fun H locs G => ?_)
        refine lv_aload_n hx hb dX1_beginAll_38 rfl (lv_at hl 1 rfl) ?_
        refine mm_get S G 17 (by decide) q1284 rfl (v := .ref (ad 18)) rfl dX1_beginAll_39 ?_
        refine lv_iload_n hx hb dX1_beginAll_42 rfl (lv_at hl 0 rfl) ?_
        refine lv_aload_n hx hb dX1_beginAll_43 rfl (lv_at hl 1 rfl) ?_
        refine mm_get S G 5 (by decide) q1272 rfl (v := .ref (ad 6)) rfl dX1_beginAll_44 ?_
        refine lv_iload_n hx hb dX1_beginAll_47 rfl (lv_at hl 0 rfl) ?_
        refine mm_dald S G 5 2 (by decide) (n := 20) rfl rfl (by omega) (by decide) (v := cB C m) rfl dX1_beginAll_48 ?_
        refine mm_dast S G 17 rfl (by decide) (n := 20) rfl (by omega) dX1_beginAll_49 (fun H locs G => ?_)
        refine lv_aload_n hx hb dX1_beginAll_50 rfl (lv_at hl 1 rfl) ?_
        refine mm_get S G 18 (by decide) q1285 rfl (v := .ref (ad 19)) rfl dX1_beginAll_51 ?_
        refine lv_iload_n hx hb dX1_beginAll_54 rfl (lv_at hl 0 rfl) ?_
        refine lv_aload_n hx hb dX1_beginAll_55 rfl (lv_at hl 1 rfl) ?_
        refine mm_get S G 5 (by decide) q1272 rfl (v := .ref (ad 6)) rfl dX1_beginAll_56 ?_
        refine lv_iload_n hx hb dX1_beginAll_59 rfl (lv_at hl 0 rfl) ?_
        refine mm_dald S G 5 2 (by decide) (n := 20) rfl rfl (by omega) (by decide) (v := cB C m) rfl dX1_beginAll_60 ?_
        refine lv_d2f hx hb dX1_beginAll_61 (nF_d2f (bD_n (hV.b m))) ?_
        refine mm_fast S G 18 rfl (by decide) (n := 20) rfl (by omega) dX1_beginAll_62 (fun H locs G => ?_)
        refine lv_aload_n hx hb dX1_beginAll_63 rfl (lv_at hl 1 rfl) ?_
        refine mm_get S G 23 (by decide) q1290 rfl (v := .ref (ad 24)) rfl dX1_beginAll_64 ?_
        refine lv_iload_n hx hb dX1_beginAll_67 rfl (lv_at hl 0 rfl) ?_
        refine lv_aload_n hx hb dX1_beginAll_68 rfl (lv_at hl 1 rfl) ?_
        refine mm_get S G 1 (by decide) q1268 rfl (v := .ref (ad 2)) rfl dX1_beginAll_69 ?_
        refine lv_iload_n hx hb dX1_beginAll_72 rfl (lv_at hl 0 rfl) ?_
        refine mm_iald S G 1 0 (by decide) (n := 20) rfl rfl (by omega) (by decide) (v := nI (cK C m)) rfl dX1_beginAll_73 ?_
        refine lv_bipush (v := nI 13) hx hb dX1_beginAll_74 (by decide) ?_
        refine nn_cne (tgt := 89) hx hb (by omega) (by omega) dX1_beginAll_76 (by decide) (fun c_76 => ?_) (fun c_76 => ?_)
        · refine lv_iconst (v := nI 0) hx hb dX1_beginAll_89 (by decide) ?_
          refine w_st (st' := [.int (sd0 C m), .int (nI m), .ref (ad 24)]) (by simp [sd0, c_21, c_76]) ?_
          refine mm_iast S G 23 rfl (by decide) (n := 20) rfl (by omega) dX1_beginAll_90 (fun H locs G => ?_)
          have G : mG D dA ad C (bg5 C m (bgN C m (be0 C d))) s0 H locs := G
          refine lv_iconst (v := nI 0) hx hb dX1_beginAll_91 (by decide) ?_
          refine lv_istore_n (lv' := [(2, .int (nI 0)), (1, .int (nI m)), (0, .ref (ad 0))]) hx hb dX1_beginAll_92 rfl hl (by decide) rfl (fun ls hl => ?_)
          refine L2 (bg5 C m (bgN C m (be0 C d))) m (by omega) 17 0 (by omega) (by omega) _ _ ls (mG_d (by exact (rbI_0 _ _ _).symm) G) (lv_sub hl [0, 1, 2] rfl) (fun H locs ls G hl => ?_)
          refine lv_iinc (v := nI (m + 1)) (lv' := [(1, .int (nI (m + 1))), (2, .int (nI 16)), (0, .ref (ad 0))]) hx hb dX1_beginAll_140 hl (k := 1) rfl (nI_1 _) (by decide) rfl (fun ls hl => ?_)
          refine lv_goto (tgt := 16) hx hb dX1_beginAll_143 (by decide) ?_
          exact ih (m + 1) (by omega) (by omega) H locs ls (mG_d (by rfl) G) (lv_sub hl [0, 2] rfl) kk
        · refine lv_aload_n hx hb dX1_beginAll_79 rfl (lv_at hl 1 rfl) ?_
          refine mm_get S G 2 (by decide) q1269 rfl (v := .ref (ad 3)) rfl dX1_beginAll_80 ?_
          refine lv_iload_n hx hb dX1_beginAll_83 rfl (lv_at hl 0 rfl) ?_
          refine mm_dald S G 2 2 (by decide) (n := 20) rfl rfl (by omega) (by decide) (v := cS C m) rfl dX1_beginAll_84 ?_
          refine lv_d2i hx hb dX1_beginAll_85 ?_
          refine w_st (st' := [.int (sd0 C m), .int (nI m), .ref (ad 24)]) (by simp [sd0, c_21, c_76]) ?_
          refine lv_goto (tgt := 90) hx hb dX1_beginAll_86 (by decide) ?_
          refine mm_iast S G 23 rfl (by decide) (n := 20) rfl (by omega) dX1_beginAll_90 (fun H locs G => ?_)
          have G : mG D dA ad C (bg5 C m (bgN C m (be0 C d))) s0 H locs := G
          refine lv_iconst (v := nI 0) hx hb dX1_beginAll_91 (by decide) ?_
          refine lv_istore_n (lv' := [(2, .int (nI 0)), (1, .int (nI m)), (0, .ref (ad 0))]) hx hb dX1_beginAll_92 rfl hl (by decide) rfl (fun ls hl => ?_)
          refine L2 (bg5 C m (bgN C m (be0 C d))) m (by omega) 17 0 (by omega) (by omega) _ _ ls (mG_d (by exact (rbI_0 _ _ _).symm) G) (lv_sub hl [0, 1, 2] rfl) (fun H locs ls G hl => ?_)
          refine lv_iinc (v := nI (m + 1)) (lv' := [(1, .int (nI (m + 1))), (2, .int (nI 16)), (0, .ref (ad 0))]) hx hb dX1_beginAll_140 hl (k := 1) rfl (nI_1 _) (by decide) rfl (fun ls hl => ?_)
          refine lv_goto (tgt := 16) hx hb dX1_beginAll_143 (by decide) ?_
          exact ih (m + 1) (by omega) (by omega) H locs ls (mG_d (by rfl) G) (lv_sub hl [0, 2] rfl) kk
  have L3 : ∀ (i3 : iOK C (leF C (dAI d 10)) (be1 C d)) (n_ m : Nat), m ≤ cN C → cN C < m + n_ → ∀ (H : Heap) (locs : List Loc) (ls : Array Slot), mG D dA ad C (beN C m (be1 C d)) s0 H locs → lv_has ls 3 [(1, .int (nI m)), (0, .ref (ad 0))] → (∀ (H : Heap) (locs : List Loc) (ls : Array Slot), mG D dA ad C (beN C (cN C) (be1 C d)) s0 H locs → lv_has ls 3 [(1, .int (nI (cN C))), (0, .ref (ad 0))] → W p0 l e0 (rm_ 5) s0 mid (Value.ref (ad 0) :: []).toArray bl0 me0 co0 H locs 0 0 (MQ bl0 (mQ D dA ad none C (beD C d)) (Value.ref (ad 0) :: []).toArray s0 0 0 (mA ad)) (F0 mid 196 ls [])) → W p0 l e0 (rm_ 5) s0 mid (Value.ref (ad 0) :: []).toArray bl0 me0 co0 H locs 0 0 (MQ bl0 (mQ D dA ad none C (beD C d)) (Value.ref (ad 0) :: []).toArray s0 0 0 (mA ad)) (F0 mid 152 ls []) := by
    intro i3 n_
    induction n_ with
    | zero => intro m h1_ h2_; exact absurd h2_ (by omega)
    | succ n_ ih =>
      intro m h1_ h2_ H locs ls G hl kk
      have hk14 := hC.k m
      refine lv_iload_n hx hb dX1_beginAll_152 rfl (lv_at hl 0 rfl) ?_
      refine lv_aload_n hx hb dX1_beginAll_153 rfl (lv_at hl 1 rfl) ?_
      refine mm_get S G 0 (by decide) q1267 rfl (v := .int (nI (cN C))) rfl dX1_beginAll_154 ?_
      refine nn_cge (tgt := 196) hx hb (by omega) (by omega) dX1_beginAll_157 (by decide) (fun c_157 => ?_) (fun c_157 => ?_)
      · have hiN : m = cN C := by omega
        subst hiN
        exact kk H locs ls G (lv_sub hl [0, 1] rfl)
      · refine lv_aload_n hx hb dX1_beginAll_160 rfl (lv_at hl 1 rfl) ?_
        refine lv_iload_n hx hb dX1_beginAll_161 rfl (lv_at hl 0 rfl) ?_
        refine mm_call (As := [.int (nI m)]) (rest := []) S G (mt_X1_differ l D dA ad C (beN C m (be1 C d)) m (by omega) (iOK_beN i3 m).r) q1607 q1609 qs38 q1610 hd_X1_differ ⟨Nat.le_of_ble_eq_true rfl, Nat.le_of_ble_eq_true rfl⟩ rfl hl.1 rfl (Nat.le_of_ble_eq_true rfl) dX1_beginAll_162 ⟨Nat.zero_le _, Nat.zero_le _⟩ (fun H locs G => ?_)
        refine W.eq (g2 := F0 mid 165 ls []) rfl ?_
        refine lv_aload_n hx hb dX1_beginAll_165 rfl (lv_at hl 1 rfl) ?_
        refine mm_get S G 26 (by decide) q1293 rfl (v := .ref (ad 27)) rfl dX1_beginAll_166 ?_
        refine lv_iload_n hx hb dX1_beginAll_169 rfl (lv_at hl 0 rfl) ?_
        refine lv_aload_n hx hb dX1_beginAll_170 rfl (lv_at hl 1 rfl) ?_
        refine mm_get S G 1 (by decide) q1268 rfl (v := .ref (ad 2)) rfl dX1_beginAll_171 ?_
        refine lv_iload_n hx hb dX1_beginAll_174 rfl (lv_at hl 0 rfl) ?_
        refine mm_iald S G 1 0 (by decide) (n := 20) rfl rfl (by omega) (by decide) (v := nI (cK C m)) rfl dX1_beginAll_175 ?_
        refine lv_iconst (v := nI 2) hx hb dX1_beginAll_176 (by decide) ?_
        refine nn_cne (tgt := 188) hx hb (by omega) (by omega) dX1_beginAll_177 (by decide) (fun c_177 => ?_) (fun c_177 => ?_)
        · refine lv_dconst0 hx hb dX1_beginAll_188 ?_
          refine mm_dast S G 26 rfl (by decide) (n := 20) rfl (by omega) dX1_beginAll_189 (fun H locs G => ?_)
          refine lv_iinc (v := nI (m + 1)) (lv' := [(1, .int (nI (m + 1))), (0, .ref (ad 0))]) hx hb dX1_beginAll_190 hl (k := 0) rfl (nI_1 _) (by decide) rfl (fun ls hl => ?_)
          refine lv_goto (tgt := 152) hx hb dX1_beginAll_193 (by decide) ?_
          exact ih (m + 1) (by omega) (by omega) H locs ls (mG_d (by show _ = beS C m (beN C m (be1 C d)); unfold beS beV; rw [if_neg c_177]; try rfl) G) (lv_sub hl [0, 1] rfl) kk
        · refine lv_aload_n hx hb dX1_beginAll_180 rfl (lv_at hl 1 rfl) ?_
          refine lv_iload_n hx hb dX1_beginAll_181 rfl (lv_at hl 0 rfl) ?_
          refine mm_call (As := [.int (nI m)]) (rest := [.int (nI m), .ref (ad 27)]) S G (mt_X1_sum l D dA ad C (dfS m (beN C m (be1 C d))) m hC (by omega) (show ∀ k, bD 1075 (dAD (beN C m (be1 C d)) 19 k) from (iOK_beN i3 m).r.rd)) q1558 q1560 qs29 q1561 hd_X1_sum ⟨Nat.le_of_ble_eq_true rfl, Nat.le_of_ble_eq_true rfl⟩ rfl hl.1 rfl (Nat.le_of_ble_eq_true rfl) dX1_beginAll_182 ⟨Nat.zero_le _, Nat.zero_le _⟩ (fun H locs G => ?_)
          refine W.eq (g2 := F0 mid 185 ls [.double (suD C (dAD (dfS m (beN C m (be1 C d))) 19) m), .int (nI m), .ref (ad 27)]) rfl ?_
          refine lv_goto (tgt := 189) hx hb dX1_beginAll_185 (by decide) ?_
          refine mm_dast S G 26 rfl (by decide) (n := 20) rfl (by omega) dX1_beginAll_189 (fun H locs G => ?_)
          refine lv_iinc (v := nI (m + 1)) (lv' := [(1, .int (nI (m + 1))), (0, .ref (ad 0))]) hx hb dX1_beginAll_190 hl (k := 0) rfl (nI_1 _) (by decide) rfl (fun ls hl => ?_)
          refine lv_goto (tgt := 152) hx hb dX1_beginAll_193 (by decide) ?_
          exact ih (m + 1) (by omega) (by omega) H locs ls (mG_d (by show _ = beS C m (beN C m (be1 C d)); unfold beS beV; rw [if_pos c_177]; try rfl) G) (lv_sub hl [0, 1] rfl) kk
  refine lv_aload_n hx hb dX1_beginAll_0 rfl (lv_at hl 0 rfl) ?_
  refine mm_call (As := []) (rest := []) S G (mt_X1_levelAll l D dA ad C d hC) q1529 q1531 qs23 q1532 hd_X1_levelAll ⟨Nat.le_of_ble_eq_true rfl, Nat.le_of_ble_eq_true rfl⟩ rfl hl.1 rfl (Nat.le_of_ble_eq_true rfl) dX1_beginAll_1 ⟨Nat.zero_le _, Nat.zero_le _⟩ (fun H locs G => ?_)
  refine W.eq (g2 := F0 mid 4 ls []) rfl ?_
  refine lv_aload_n hx hb dX1_beginAll_4 rfl (lv_at hl 0 rfl) ?_
  refine lv_iconst (v := nI 0) hx hb dX1_beginAll_5 (by decide) ?_
  refine mm_puti S G 12 rfl (by decide) q1279 rfl rfl rfl dX1_beginAll_6 (fun H locs G => ?_)
  refine lv_aload_n hx hb dX1_beginAll_9 rfl (lv_at hl 0 rfl) ?_
  refine lv_iconst (v := nI 0) hx hb dX1_beginAll_10 (by decide) ?_
  refine mm_puti S G 44 rfl (by decide) q1311 rfl rfl rfl dX1_beginAll_11 (fun H locs G => ?_)
  have G : mG D dA ad C (be0 C d) s0 H locs := G
  refine lv_iconst (v := nI 0) hx hb dX1_beginAll_14 (by decide) ?_
  refine lv_istore_n (lv' := [(1, .int (nI 0)), (0, .ref (ad 0))]) hx hb dX1_beginAll_15 rfl hl (by decide) rfl (fun ls hl => ?_)
  refine L1 (cN C + 1) 0 (by omega) (by omega) _ _ ls (mG_d (by rfl) G) (lv_sub hl [0, 1] rfl) (fun H locs ls G hl => ?_)
  have i2 := iOK_bgN hV hW (iOK_be0 hI) (cN C)
  have hL2 := le_lv hC hL
  refine lv_aload_n hx hb dX1_beginAll_146 rfl (lv_at hl 1 rfl) ?_
  refine mm_call (As := []) (rest := []) S G (mt_X1_readAll l D dA ad C (bgN C (cN C) (be0 C d)) hC hV i2.r hA (by rw [i2.l]; exact hL2)) q1546 q1548 qs26 q1549 hd_X1_readAll ⟨Nat.le_of_ble_eq_true rfl, Nat.le_of_ble_eq_true rfl⟩ rfl hl.1 rfl (Nat.le_of_ble_eq_true rfl) dX1_beginAll_147 ⟨Nat.zero_le _, Nat.zero_le _⟩ (fun H locs G => ?_)
  refine W.eq (g2 := F0 mid 150 ls []) rfl ?_
  have G : mG D dA ad C (be1 C d) s0 H locs := G
  have i3 := iOK_be1 hC hV hW hA hI
  refine lv_iconst (v := nI 0) hx hb dX1_beginAll_150 (by decide) ?_
  refine lv_istore_n (lv' := [(1, .int (nI 0)), (0, .ref (ad 0))]) hx hb dX1_beginAll_151 rfl hl (by decide) rfl (fun ls hl => ?_)
  refine L3 i3 (cN C + 1) 0 (by omega) (by omega) _ _ ls (mG_d (by rfl) G) (lv_sub hl [0, 1] rfl) (fun H locs ls G hl => ?_)
  exact mm_vret S hr hlk G rfl (by rfl) dX1_beginAll_196
