set_option maxRecDepth 100000
set_option maxHeartbeats 4000000
theorem dX1_table_0 : decode cX1_table 0 = .ok (.bipush 8, 2) := by decide +kernel
theorem dX1_table_2 : decode cX1_table 2 = .ok (.iload_n 1, 1) := by decide +kernel
theorem dX1_table_3 : decode cX1_table 3 = .ok (.imul, 1) := by decide +kernel
theorem dX1_table_4 : decode cX1_table 4 = .ok (.istore 4, 2) := by decide +kernel
theorem dX1_table_6 : decode cX1_table 6 = .ok (.iload 4, 2) := by decide +kernel
theorem dX1_table_8 : decode cX1_table 8 = .ok (.aload_n 0, 1) := by decide +kernel
theorem dX1_table_9 : decode cX1_table 9 = .ok (.getfield 27, 3) := by decide +kernel
theorem dX1_table_12 : decode cX1_table 12 = .ok (.iload_n 1, 1) := by decide +kernel
theorem dX1_table_13 : decode cX1_table 13 = .ok (.iaload, 1) := by decide +kernel
theorem dX1_table_14 : decode cX1_table 14 = .ok (.iadd, 1) := by decide +kernel
theorem dX1_table_15 : decode cX1_table 15 = .ok (.iconst 1, 1) := by decide +kernel
theorem dX1_table_16 : decode cX1_table 16 = .ok (.isub, 1) := by decide +kernel
theorem dX1_table_17 : decode cX1_table 17 = .ok (.istore 5, 2) := by decide +kernel
theorem dX1_table_19 : decode cX1_table 19 = .ok (.dload_n 2, 1) := by decide +kernel
theorem dX1_table_20 : decode cX1_table 20 = .ok (.aload_n 0, 1) := by decide +kernel
theorem dX1_table_21 : decode cX1_table 21 = .ok (.getfield 30, 3) := by decide +kernel
theorem dX1_table_24 : decode cX1_table 24 = .ok (.iload 4, 2) := by decide +kernel
theorem dX1_table_26 : decode cX1_table 26 = .ok (.daload, 1) := by decide +kernel
theorem dX1_table_27 : decode cX1_table 27 = .ok (.dcmp .g, 1) := by decide +kernel
theorem dX1_table_28 : decode cX1_table 28 = .ok (.ifCond .gt 11, 3) := by decide +kernel
theorem dX1_table_31 : decode cX1_table 31 = .ok (.aload_n 0, 1) := by decide +kernel
theorem dX1_table_32 : decode cX1_table 32 = .ok (.getfield 33, 3) := by decide +kernel
theorem dX1_table_35 : decode cX1_table 35 = .ok (.iload 4, 2) := by decide +kernel
theorem dX1_table_37 : decode cX1_table 37 = .ok (.daload, 1) := by decide +kernel
theorem dX1_table_38 : decode cX1_table 38 = .ok (.dreturn, 1) := by decide +kernel
theorem dX1_table_39 : decode cX1_table 39 = .ok (.dload_n 2, 1) := by decide +kernel
theorem dX1_table_40 : decode cX1_table 40 = .ok (.aload_n 0, 1) := by decide +kernel
theorem dX1_table_41 : decode cX1_table 41 = .ok (.getfield 30, 3) := by decide +kernel
theorem dX1_table_44 : decode cX1_table 44 = .ok (.iload 5, 2) := by decide +kernel
theorem dX1_table_46 : decode cX1_table 46 = .ok (.daload, 1) := by decide +kernel
theorem dX1_table_47 : decode cX1_table 47 = .ok (.dcmp .l, 1) := by decide +kernel
theorem dX1_table_48 : decode cX1_table 48 = .ok (.ifCond .lt 11, 3) := by decide +kernel
theorem dX1_table_51 : decode cX1_table 51 = .ok (.aload_n 0, 1) := by decide +kernel
theorem dX1_table_52 : decode cX1_table 52 = .ok (.getfield 33, 3) := by decide +kernel
theorem dX1_table_55 : decode cX1_table 55 = .ok (.iload 5, 2) := by decide +kernel
theorem dX1_table_57 : decode cX1_table 57 = .ok (.daload, 1) := by decide +kernel
theorem dX1_table_58 : decode cX1_table 58 = .ok (.dreturn, 1) := by decide +kernel
theorem dX1_table_59 : decode cX1_table 59 = .ok (.iload 4, 2) := by decide +kernel
theorem dX1_table_61 : decode cX1_table 61 = .ok (.istore 6, 2) := by decide +kernel
theorem dX1_table_63 : decode cX1_table 63 = .ok (.aload_n 0, 1) := by decide +kernel
theorem dX1_table_64 : decode cX1_table 64 = .ok (.getfield 30, 3) := by decide +kernel
theorem dX1_table_67 : decode cX1_table 67 = .ok (.iload 6, 2) := by decide +kernel
theorem dX1_table_69 : decode cX1_table 69 = .ok (.iconst 1, 1) := by decide +kernel
theorem dX1_table_70 : decode cX1_table 70 = .ok (.iadd, 1) := by decide +kernel
theorem dX1_table_71 : decode cX1_table 71 = .ok (.daload, 1) := by decide +kernel
theorem dX1_table_72 : decode cX1_table 72 = .ok (.dload_n 2, 1) := by decide +kernel
theorem dX1_table_73 : decode cX1_table 73 = .ok (.dcmp .g, 1) := by decide +kernel
theorem dX1_table_74 : decode cX1_table 74 = .ok (.ifCond .gt 9, 3) := by decide +kernel
theorem dX1_table_77 : decode cX1_table 77 = .ok (.iinc 6 1, 3) := by decide +kernel
theorem dX1_table_80 : decode cX1_table 80 = .ok (.goto (-17), 3) := by decide +kernel
theorem dX1_table_83 : decode cX1_table 83 = .ok (.dload_n 2, 1) := by decide +kernel
theorem dX1_table_84 : decode cX1_table 84 = .ok (.aload_n 0, 1) := by decide +kernel
theorem dX1_table_85 : decode cX1_table 85 = .ok (.getfield 30, 3) := by decide +kernel
theorem dX1_table_88 : decode cX1_table 88 = .ok (.iload 6, 2) := by decide +kernel
theorem dX1_table_90 : decode cX1_table 90 = .ok (.daload, 1) := by decide +kernel
theorem dX1_table_91 : decode cX1_table 91 = .ok (.dsub, 1) := by decide +kernel
theorem dX1_table_92 : decode cX1_table 92 = .ok (.aload_n 0, 1) := by decide +kernel
theorem dX1_table_93 : decode cX1_table 93 = .ok (.getfield 33, 3) := by decide +kernel
theorem dX1_table_96 : decode cX1_table 96 = .ok (.iload 6, 2) := by decide +kernel
theorem dX1_table_98 : decode cX1_table 98 = .ok (.iconst 1, 1) := by decide +kernel
theorem dX1_table_99 : decode cX1_table 99 = .ok (.iadd, 1) := by decide +kernel
theorem dX1_table_100 : decode cX1_table 100 = .ok (.daload, 1) := by decide +kernel
theorem dX1_table_101 : decode cX1_table 101 = .ok (.aload_n 0, 1) := by decide +kernel
theorem dX1_table_102 : decode cX1_table 102 = .ok (.getfield 33, 3) := by decide +kernel
theorem dX1_table_105 : decode cX1_table 105 = .ok (.iload 6, 2) := by decide +kernel
theorem dX1_table_107 : decode cX1_table 107 = .ok (.daload, 1) := by decide +kernel
theorem dX1_table_108 : decode cX1_table 108 = .ok (.dsub, 1) := by decide +kernel
theorem dX1_table_109 : decode cX1_table 109 = .ok (.dmul, 1) := by decide +kernel
theorem dX1_table_110 : decode cX1_table 110 = .ok (.dstore 7, 2) := by decide +kernel
theorem dX1_table_112 : decode cX1_table 112 = .ok (.dload 7, 2) := by decide +kernel
theorem dX1_table_114 : decode cX1_table 114 = .ok (.aload_n 0, 1) := by decide +kernel
theorem dX1_table_115 : decode cX1_table 115 = .ok (.getfield 30, 3) := by decide +kernel
theorem dX1_table_118 : decode cX1_table 118 = .ok (.iload 6, 2) := by decide +kernel
theorem dX1_table_120 : decode cX1_table 120 = .ok (.iconst 1, 1) := by decide +kernel
theorem dX1_table_121 : decode cX1_table 121 = .ok (.iadd, 1) := by decide +kernel
theorem dX1_table_122 : decode cX1_table 122 = .ok (.daload, 1) := by decide +kernel
theorem dX1_table_123 : decode cX1_table 123 = .ok (.aload_n 0, 1) := by decide +kernel
theorem dX1_table_124 : decode cX1_table 124 = .ok (.getfield 30, 3) := by decide +kernel
theorem dX1_table_127 : decode cX1_table 127 = .ok (.iload 6, 2) := by decide +kernel
theorem dX1_table_129 : decode cX1_table 129 = .ok (.daload, 1) := by decide +kernel
theorem dX1_table_130 : decode cX1_table 130 = .ok (.dsub, 1) := by decide +kernel
theorem dX1_table_131 : decode cX1_table 131 = .ok (.ddiv, 1) := by decide +kernel
theorem dX1_table_132 : decode cX1_table 132 = .ok (.dstore 9, 2) := by decide +kernel
theorem dX1_table_134 : decode cX1_table 134 = .ok (.dload 9, 2) := by decide +kernel
theorem dX1_table_136 : decode cX1_table 136 = .ok (.aload_n 0, 1) := by decide +kernel
theorem dX1_table_137 : decode cX1_table 137 = .ok (.getfield 33, 3) := by decide +kernel
theorem dX1_table_140 : decode cX1_table 140 = .ok (.iload 6, 2) := by decide +kernel
theorem dX1_table_142 : decode cX1_table 142 = .ok (.daload, 1) := by decide +kernel
theorem dX1_table_143 : decode cX1_table 143 = .ok (.dadd, 1) := by decide +kernel
theorem dX1_table_144 : decode cX1_table 144 = .ok (.dreturn, 1) := by decide +kernel
theorem dX1_tableF_0 : decode cX1_tableF 0 = .ok (.bipush 8, 2) := by decide +kernel
theorem dX1_tableF_2 : decode cX1_tableF 2 = .ok (.iload_n 1, 1) := by decide +kernel
theorem dX1_tableF_3 : decode cX1_tableF 3 = .ok (.imul, 1) := by decide +kernel
theorem dX1_tableF_4 : decode cX1_tableF 4 = .ok (.istore_n 3, 1) := by decide +kernel
theorem dX1_tableF_5 : decode cX1_tableF 5 = .ok (.iload_n 3, 1) := by decide +kernel
theorem dX1_tableF_6 : decode cX1_tableF 6 = .ok (.aload_n 0, 1) := by decide +kernel
theorem dX1_tableF_7 : decode cX1_tableF 7 = .ok (.getfield 27, 3) := by decide +kernel
theorem dX1_tableF_10 : decode cX1_tableF 10 = .ok (.iload_n 1, 1) := by decide +kernel
theorem dX1_tableF_11 : decode cX1_tableF 11 = .ok (.iaload, 1) := by decide +kernel
theorem dX1_tableF_12 : decode cX1_tableF 12 = .ok (.iadd, 1) := by decide +kernel
theorem dX1_tableF_13 : decode cX1_tableF 13 = .ok (.iconst 1, 1) := by decide +kernel
theorem dX1_tableF_14 : decode cX1_tableF 14 = .ok (.isub, 1) := by decide +kernel
theorem dX1_tableF_15 : decode cX1_tableF 15 = .ok (.istore 4, 2) := by decide +kernel
theorem dX1_tableF_17 : decode cX1_tableF 17 = .ok (.fload_n 2, 1) := by decide +kernel
theorem dX1_tableF_18 : decode cX1_tableF 18 = .ok (.aload_n 0, 1) := by decide +kernel
theorem dX1_tableF_19 : decode cX1_tableF 19 = .ok (.getfield 30, 3) := by decide +kernel
theorem dX1_tableF_22 : decode cX1_tableF 22 = .ok (.iload_n 3, 1) := by decide +kernel
theorem dX1_tableF_23 : decode cX1_tableF 23 = .ok (.daload, 1) := by decide +kernel
theorem dX1_tableF_24 : decode cX1_tableF 24 = .ok (.d2f, 1) := by decide +kernel
theorem dX1_tableF_25 : decode cX1_tableF 25 = .ok (.fcmp .g, 1) := by decide +kernel
theorem dX1_tableF_26 : decode cX1_tableF 26 = .ok (.ifCond .gt 11, 3) := by decide +kernel
theorem dX1_tableF_29 : decode cX1_tableF 29 = .ok (.aload_n 0, 1) := by decide +kernel
theorem dX1_tableF_30 : decode cX1_tableF 30 = .ok (.getfield 33, 3) := by decide +kernel
theorem dX1_tableF_33 : decode cX1_tableF 33 = .ok (.iload_n 3, 1) := by decide +kernel
theorem dX1_tableF_34 : decode cX1_tableF 34 = .ok (.daload, 1) := by decide +kernel
theorem dX1_tableF_35 : decode cX1_tableF 35 = .ok (.d2f, 1) := by decide +kernel
theorem dX1_tableF_36 : decode cX1_tableF 36 = .ok (.freturn, 1) := by decide +kernel
theorem dX1_tableF_37 : decode cX1_tableF 37 = .ok (.fload_n 2, 1) := by decide +kernel
theorem dX1_tableF_38 : decode cX1_tableF 38 = .ok (.aload_n 0, 1) := by decide +kernel
theorem dX1_tableF_39 : decode cX1_tableF 39 = .ok (.getfield 30, 3) := by decide +kernel
theorem dX1_tableF_42 : decode cX1_tableF 42 = .ok (.iload 4, 2) := by decide +kernel
theorem dX1_tableF_44 : decode cX1_tableF 44 = .ok (.daload, 1) := by decide +kernel
theorem dX1_tableF_45 : decode cX1_tableF 45 = .ok (.d2f, 1) := by decide +kernel
theorem dX1_tableF_46 : decode cX1_tableF 46 = .ok (.fcmp .l, 1) := by decide +kernel
theorem dX1_tableF_47 : decode cX1_tableF 47 = .ok (.ifCond .lt 12, 3) := by decide +kernel
theorem dX1_tableF_50 : decode cX1_tableF 50 = .ok (.aload_n 0, 1) := by decide +kernel
theorem dX1_tableF_51 : decode cX1_tableF 51 = .ok (.getfield 33, 3) := by decide +kernel
theorem dX1_tableF_54 : decode cX1_tableF 54 = .ok (.iload 4, 2) := by decide +kernel
theorem dX1_tableF_56 : decode cX1_tableF 56 = .ok (.daload, 1) := by decide +kernel
theorem dX1_tableF_57 : decode cX1_tableF 57 = .ok (.d2f, 1) := by decide +kernel
theorem dX1_tableF_58 : decode cX1_tableF 58 = .ok (.freturn, 1) := by decide +kernel
theorem dX1_tableF_59 : decode cX1_tableF 59 = .ok (.iload_n 3, 1) := by decide +kernel
theorem dX1_tableF_60 : decode cX1_tableF 60 = .ok (.istore 5, 2) := by decide +kernel
theorem dX1_tableF_62 : decode cX1_tableF 62 = .ok (.aload_n 0, 1) := by decide +kernel
theorem dX1_tableF_63 : decode cX1_tableF 63 = .ok (.getfield 30, 3) := by decide +kernel
theorem dX1_tableF_66 : decode cX1_tableF 66 = .ok (.iload 5, 2) := by decide +kernel
theorem dX1_tableF_68 : decode cX1_tableF 68 = .ok (.iconst 1, 1) := by decide +kernel
theorem dX1_tableF_69 : decode cX1_tableF 69 = .ok (.iadd, 1) := by decide +kernel
theorem dX1_tableF_70 : decode cX1_tableF 70 = .ok (.daload, 1) := by decide +kernel
theorem dX1_tableF_71 : decode cX1_tableF 71 = .ok (.d2f, 1) := by decide +kernel
theorem dX1_tableF_72 : decode cX1_tableF 72 = .ok (.fload_n 2, 1) := by decide +kernel
theorem dX1_tableF_73 : decode cX1_tableF 73 = .ok (.fcmp .g, 1) := by decide +kernel
theorem dX1_tableF_74 : decode cX1_tableF 74 = .ok (.ifCond .gt 9, 3) := by decide +kernel
theorem dX1_tableF_77 : decode cX1_tableF 77 = .ok (.iinc 5 1, 3) := by decide +kernel
theorem dX1_tableF_80 : decode cX1_tableF 80 = .ok (.goto (-18), 3) := by decide +kernel
theorem dX1_tableF_83 : decode cX1_tableF 83 = .ok (.aload_n 0, 1) := by decide +kernel
theorem dX1_tableF_84 : decode cX1_tableF 84 = .ok (.getfield 30, 3) := by decide +kernel
theorem dX1_tableF_87 : decode cX1_tableF 87 = .ok (.iload 5, 2) := by decide +kernel
theorem dX1_tableF_89 : decode cX1_tableF 89 = .ok (.daload, 1) := by decide +kernel
theorem dX1_tableF_90 : decode cX1_tableF 90 = .ok (.d2f, 1) := by decide +kernel
theorem dX1_tableF_91 : decode cX1_tableF 91 = .ok (.fstore 6, 2) := by decide +kernel
theorem dX1_tableF_93 : decode cX1_tableF 93 = .ok (.aload_n 0, 1) := by decide +kernel
theorem dX1_tableF_94 : decode cX1_tableF 94 = .ok (.getfield 33, 3) := by decide +kernel
theorem dX1_tableF_97 : decode cX1_tableF 97 = .ok (.iload 5, 2) := by decide +kernel
theorem dX1_tableF_99 : decode cX1_tableF 99 = .ok (.daload, 1) := by decide +kernel
theorem dX1_tableF_100 : decode cX1_tableF 100 = .ok (.d2f, 1) := by decide +kernel
theorem dX1_tableF_101 : decode cX1_tableF 101 = .ok (.fstore 7, 2) := by decide +kernel
theorem dX1_tableF_103 : decode cX1_tableF 103 = .ok (.fload_n 2, 1) := by decide +kernel
theorem dX1_tableF_104 : decode cX1_tableF 104 = .ok (.fload 6, 2) := by decide +kernel
theorem dX1_tableF_106 : decode cX1_tableF 106 = .ok (.fsub, 1) := by decide +kernel
theorem dX1_tableF_107 : decode cX1_tableF 107 = .ok (.aload_n 0, 1) := by decide +kernel
theorem dX1_tableF_108 : decode cX1_tableF 108 = .ok (.getfield 33, 3) := by decide +kernel
theorem dX1_tableF_111 : decode cX1_tableF 111 = .ok (.iload 5, 2) := by decide +kernel
theorem dX1_tableF_113 : decode cX1_tableF 113 = .ok (.iconst 1, 1) := by decide +kernel
theorem dX1_tableF_114 : decode cX1_tableF 114 = .ok (.iadd, 1) := by decide +kernel
theorem dX1_tableF_115 : decode cX1_tableF 115 = .ok (.daload, 1) := by decide +kernel
theorem dX1_tableF_116 : decode cX1_tableF 116 = .ok (.d2f, 1) := by decide +kernel
theorem dX1_tableF_117 : decode cX1_tableF 117 = .ok (.fload 7, 2) := by decide +kernel
theorem dX1_tableF_119 : decode cX1_tableF 119 = .ok (.fsub, 1) := by decide +kernel
theorem dX1_tableF_120 : decode cX1_tableF 120 = .ok (.fmul, 1) := by decide +kernel
theorem dX1_tableF_121 : decode cX1_tableF 121 = .ok (.fstore 8, 2) := by decide +kernel
theorem dX1_tableF_123 : decode cX1_tableF 123 = .ok (.fload 8, 2) := by decide +kernel
theorem dX1_tableF_125 : decode cX1_tableF 125 = .ok (.aload_n 0, 1) := by decide +kernel
theorem dX1_tableF_126 : decode cX1_tableF 126 = .ok (.getfield 30, 3) := by decide +kernel
theorem dX1_tableF_129 : decode cX1_tableF 129 = .ok (.iload 5, 2) := by decide +kernel
theorem dX1_tableF_131 : decode cX1_tableF 131 = .ok (.iconst 1, 1) := by decide +kernel
theorem dX1_tableF_132 : decode cX1_tableF 132 = .ok (.iadd, 1) := by decide +kernel
theorem dX1_tableF_133 : decode cX1_tableF 133 = .ok (.daload, 1) := by decide +kernel
theorem dX1_tableF_134 : decode cX1_tableF 134 = .ok (.d2f, 1) := by decide +kernel
theorem dX1_tableF_135 : decode cX1_tableF 135 = .ok (.fload 6, 2) := by decide +kernel
theorem dX1_tableF_137 : decode cX1_tableF 137 = .ok (.fsub, 1) := by decide +kernel
theorem dX1_tableF_138 : decode cX1_tableF 138 = .ok (.fdiv, 1) := by decide +kernel
theorem dX1_tableF_139 : decode cX1_tableF 139 = .ok (.fstore 9, 2) := by decide +kernel
theorem dX1_tableF_141 : decode cX1_tableF 141 = .ok (.fload 9, 2) := by decide +kernel
theorem dX1_tableF_143 : decode cX1_tableF 143 = .ok (.fload 7, 2) := by decide +kernel
theorem dX1_tableF_145 : decode cX1_tableF 145 = .ok (.fadd, 1) := by decide +kernel
theorem dX1_tableF_146 : decode cX1_tableF 146 = .ok (.freturn, 1) := by decide +kernel
theorem dX1_made_0 : decode cX1_made 0 = .ok (.aload_n 0, 1) := by decide +kernel
theorem dX1_made_1 : decode cX1_made 1 = .ok (.getfield 13, 3) := by decide +kernel
theorem dX1_made_4 : decode cX1_made 4 = .ok (.iload_n 1, 1) := by decide +kernel
theorem dX1_made_5 : decode cX1_made 5 = .ok (.daload, 1) := by decide +kernel
theorem dX1_made_6 : decode cX1_made 6 = .ok (.dstore_n 2, 1) := by decide +kernel
theorem dX1_made_7 : decode cX1_made 7 = .ok (.aload_n 0, 1) := by decide +kernel
theorem dX1_made_8 : decode cX1_made 8 = .ok (.iload_n 1, 1) := by decide +kernel
theorem dX1_made_9 : decode cX1_made 9 = .ok (.iconst 0, 1) := by decide +kernel
theorem dX1_made_10 : decode cX1_made 10 = .ok (.invokevirtual 213, 3) := by decide +kernel
theorem dX1_made_13 : decode cX1_made 13 = .ok (.ifCond .eq 12, 3) := by decide +kernel
theorem dX1_made_16 : decode cX1_made 16 = .ok (.aload_n 0, 1) := by decide +kernel
theorem dX1_made_17 : decode cX1_made 17 = .ok (.iload_n 1, 1) := by decide +kernel
theorem dX1_made_18 : decode cX1_made 18 = .ok (.iconst 0, 1) := by decide +kernel
theorem dX1_made_19 : decode cX1_made 19 = .ok (.invokevirtual 242, 3) := by decide +kernel
theorem dX1_made_22 : decode cX1_made 22 = .ok (.goto 4, 3) := by decide +kernel
theorem dX1_made_25 : decode cX1_made 25 = .ok (.dconst 0, 1) := by decide +kernel
theorem dX1_made_26 : decode cX1_made 26 = .ok (.dstore 4, 2) := by decide +kernel
theorem dX1_made_28 : decode cX1_made 28 = .ok (.aload_n 0, 1) := by decide +kernel
theorem dX1_made_29 : decode cX1_made 29 = .ok (.iload_n 1, 1) := by decide +kernel
theorem dX1_made_30 : decode cX1_made 30 = .ok (.iconst 1, 1) := by decide +kernel
theorem dX1_made_31 : decode cX1_made 31 = .ok (.invokevirtual 213, 3) := by decide +kernel
theorem dX1_made_34 : decode cX1_made 34 = .ok (.ifCond .eq 12, 3) := by decide +kernel
theorem dX1_made_37 : decode cX1_made 37 = .ok (.aload_n 0, 1) := by decide +kernel
theorem dX1_made_38 : decode cX1_made 38 = .ok (.iload_n 1, 1) := by decide +kernel
theorem dX1_made_39 : decode cX1_made 39 = .ok (.iconst 1, 1) := by decide +kernel
theorem dX1_made_40 : decode cX1_made 40 = .ok (.invokevirtual 242, 3) := by decide +kernel
theorem dX1_made_43 : decode cX1_made 43 = .ok (.goto 4, 3) := by decide +kernel
theorem dX1_made_46 : decode cX1_made 46 = .ok (.dconst 0, 1) := by decide +kernel
theorem dX1_made_47 : decode cX1_made 47 = .ok (.dstore 6, 2) := by decide +kernel
theorem dX1_made_49 : decode cX1_made 49 = .ok (.aload_n 0, 1) := by decide +kernel
theorem dX1_made_50 : decode cX1_made 50 = .ok (.getfield 7, 3) := by decide +kernel
theorem dX1_made_53 : decode cX1_made 53 = .ok (.iload_n 1, 1) := by decide +kernel
theorem dX1_made_54 : decode cX1_made 54 = .ok (.iaload, 1) := by decide +kernel
theorem dX1_made_55 : decode cX1_made 55 = .ok (.tableswitch 230 0 12 #[65, 71, 230, 230, 75, 81, 125, 145, 153, 169, 188, 193, 203], 65) := by decide +kernel
theorem dX1_made_120 : decode cX1_made 120 = .ok (.aload_n 0, 1) := by decide +kernel
theorem dX1_made_121 : decode cX1_made 121 = .ok (.iload_n 1, 1) := by decide +kernel
theorem dX1_made_122 : decode cX1_made 122 = .ok (.invokevirtual 264, 3) := by decide +kernel
theorem dX1_made_125 : decode cX1_made 125 = .ok (.dreturn, 1) := by decide +kernel
theorem dX1_made_126 : decode cX1_made 126 = .ok (.dload 4, 2) := by decide +kernel
theorem dX1_made_128 : decode cX1_made 128 = .ok (.dneg, 1) := by decide +kernel
theorem dX1_made_129 : decode cX1_made 129 = .ok (.dreturn, 1) := by decide +kernel
theorem dX1_made_130 : decode cX1_made 130 = .ok (.dload 4, 2) := by decide +kernel
theorem dX1_made_132 : decode cX1_made 132 = .ok (.dload 6, 2) := by decide +kernel
theorem dX1_made_134 : decode cX1_made 134 = .ok (.dmul, 1) := by decide +kernel
theorem dX1_made_135 : decode cX1_made 135 = .ok (.dreturn, 1) := by decide +kernel
theorem dX1_made_136 : decode cX1_made 136 = .ok (.dload 6, 2) := by decide +kernel
theorem dX1_made_138 : decode cX1_made 138 = .ok (.dconst 0, 1) := by decide +kernel
theorem dX1_made_139 : decode cX1_made 139 = .ok (.dcmp .l, 1) := by decide +kernel
theorem dX1_made_140 : decode cX1_made 140 = .ok (.ifCond .ne 34, 3) := by decide +kernel
theorem dX1_made_143 : decode cX1_made 143 = .ok (.dload 4, 2) := by decide +kernel
theorem dX1_made_145 : decode cX1_made 145 = .ok (.dconst 0, 1) := by decide +kernel
theorem dX1_made_146 : decode cX1_made 146 = .ok (.dcmp .l, 1) := by decide +kernel
theorem dX1_made_147 : decode cX1_made 147 = .ok (.ifCond .ne 5, 3) := by decide +kernel
theorem dX1_made_150 : decode cX1_made 150 = .ok (.dconst 0, 1) := by decide +kernel
theorem dX1_made_151 : decode cX1_made 151 = .ok (.dreturn, 1) := by decide +kernel
theorem dX1_made_152 : decode cX1_made 152 = .ok (.aload_n 0, 1) := by decide +kernel
theorem dX1_made_153 : decode cX1_made 153 = .ok (.iload_n 1, 1) := by decide +kernel
theorem dX1_made_154 : decode cX1_made 154 = .ok (.invokevirtual 236, 3) := by decide +kernel
theorem dX1_made_157 : decode cX1_made 157 = .ok (.dload 4, 2) := by decide +kernel
theorem dX1_made_159 : decode cX1_made 159 = .ok (.dconst 0, 1) := by decide +kernel
theorem dX1_made_160 : decode cX1_made 160 = .ok (.dcmp .l, 1) := by decide +kernel
theorem dX1_made_161 : decode cX1_made 161 = .ok (.ifCond .le 9, 3) := by decide +kernel
theorem dX1_made_164 : decode cX1_made 164 = .ok (.ldc2_w 177, 3) := by decide +kernel
theorem dX1_made_167 : decode cX1_made 167 = .ok (.goto 6, 3) := by decide +kernel
theorem dX1_made_170 : decode cX1_made 170 = .ok (.ldc2_w 202, 3) := by decide +kernel
theorem dX1_made_173 : decode cX1_made 173 = .ok (.dreturn, 1) := by decide +kernel
theorem dX1_made_174 : decode cX1_made 174 = .ok (.dload 4, 2) := by decide +kernel
theorem dX1_made_176 : decode cX1_made 176 = .ok (.dload 6, 2) := by decide +kernel
theorem dX1_made_178 : decode cX1_made 178 = .ok (.ddiv, 1) := by decide +kernel
theorem dX1_made_179 : decode cX1_made 179 = .ok (.dreturn, 1) := by decide +kernel
theorem dX1_made_180 : decode cX1_made 180 = .ok (.dload 4, 2) := by decide +kernel
theorem dX1_made_182 : decode cX1_made 182 = .ok (.dconst 0, 1) := by decide +kernel
theorem dX1_made_183 : decode cX1_made 183 = .ok (.dcmp .g, 1) := by decide +kernel
theorem dX1_made_184 : decode cX1_made 184 = .ok (.ifCond .ge 10, 3) := by decide +kernel
theorem dX1_made_187 : decode cX1_made 187 = .ok (.aload_n 0, 1) := by decide +kernel
theorem dX1_made_188 : decode cX1_made 188 = .ok (.iload_n 1, 1) := by decide +kernel
theorem dX1_made_189 : decode cX1_made 189 = .ok (.invokevirtual 236, 3) := by decide +kernel
theorem dX1_made_192 : decode cX1_made 192 = .ok (.dconst 0, 1) := by decide +kernel
theorem dX1_made_193 : decode cX1_made 193 = .ok (.dreturn, 1) := by decide +kernel
theorem dX1_made_194 : decode cX1_made 194 = .ok (.dload 4, 2) := by decide +kernel
theorem dX1_made_196 : decode cX1_made 196 = .ok (.invokestatic 268, 3) := by decide +kernel
theorem dX1_made_199 : decode cX1_made 199 = .ok (.dreturn, 1) := by decide +kernel
theorem dX1_made_200 : decode cX1_made 200 = .ok (.aload_n 0, 1) := by decide +kernel
theorem dX1_made_201 : decode cX1_made 201 = .ok (.iload_n 1, 1) := by decide +kernel
theorem dX1_made_202 : decode cX1_made 202 = .ok (.dload 4, 2) := by decide +kernel
theorem dX1_made_204 : decode cX1_made 204 = .ok (.invokevirtual 272, 3) := by decide +kernel
theorem dX1_made_207 : decode cX1_made 207 = .ok (.dreturn, 1) := by decide +kernel
theorem dX1_made_208 : decode cX1_made 208 = .ok (.dload 4, 2) := by decide +kernel
theorem dX1_made_210 : decode cX1_made 210 = .ok (.dload 6, 2) := by decide +kernel
theorem dX1_made_212 : decode cX1_made 212 = .ok (.dcmp .l, 1) := by decide +kernel
theorem dX1_made_213 : decode cX1_made 213 = .ok (.ifCond .le 7, 3) := by decide +kernel
theorem dX1_made_216 : decode cX1_made 216 = .ok (.dconst 1, 1) := by decide +kernel
theorem dX1_made_217 : decode cX1_made 217 = .ok (.goto 6, 3) := by decide +kernel
theorem dX1_made_220 : decode cX1_made 220 = .ok (.ldc2_w 169, 3) := by decide +kernel
theorem dX1_made_223 : decode cX1_made 223 = .ok (.dreturn, 1) := by decide +kernel
theorem dX1_made_224 : decode cX1_made 224 = .ok (.aload_n 0, 1) := by decide +kernel
theorem dX1_made_225 : decode cX1_made 225 = .ok (.iload_n 1, 1) := by decide +kernel
theorem dX1_made_226 : decode cX1_made 226 = .ok (.iconst 2, 1) := by decide +kernel
theorem dX1_made_227 : decode cX1_made 227 = .ok (.invokevirtual 242, 3) := by decide +kernel
theorem dX1_made_230 : decode cX1_made 230 = .ok (.dconst 0, 1) := by decide +kernel
theorem dX1_made_231 : decode cX1_made 231 = .ok (.dcmp .l, 1) := by decide +kernel
theorem dX1_made_232 : decode cX1_made 232 = .ok (.ifCond .le 8, 3) := by decide +kernel
theorem dX1_made_235 : decode cX1_made 235 = .ok (.dload 4, 2) := by decide +kernel
theorem dX1_made_237 : decode cX1_made 237 = .ok (.goto 5, 3) := by decide +kernel
theorem dX1_made_240 : decode cX1_made 240 = .ok (.dload 6, 2) := by decide +kernel
theorem dX1_made_242 : decode cX1_made 242 = .ok (.dreturn, 1) := by decide +kernel
theorem dX1_made_243 : decode cX1_made 243 = .ok (.dload 4, 2) := by decide +kernel
theorem dX1_made_245 : decode cX1_made 245 = .ok (.dload_n 2, 1) := by decide +kernel
theorem dX1_made_246 : decode cX1_made 246 = .ok (.dmul, 1) := by decide +kernel
theorem dX1_made_247 : decode cX1_made 247 = .ok (.dreturn, 1) := by decide +kernel
theorem dX1_made_248 : decode cX1_made 248 = .ok (.aload_n 0, 1) := by decide +kernel
theorem dX1_made_249 : decode cX1_made 249 = .ok (.getfield 59, 3) := by decide +kernel
theorem dX1_made_252 : decode cX1_made 252 = .ok (.bipush 16, 2) := by decide +kernel
theorem dX1_made_254 : decode cX1_made 254 = .ok (.iload_n 1, 1) := by decide +kernel
theorem dX1_made_255 : decode cX1_made 255 = .ok (.imul, 1) := by decide +kernel
theorem dX1_made_256 : decode cX1_made 256 = .ok (.daload, 1) := by decide +kernel
theorem dX1_made_257 : decode cX1_made 257 = .ok (.dreturn, 1) := by decide +kernel
theorem dX1_made_258 : decode cX1_made 258 = .ok (.dload 4, 2) := by decide +kernel
theorem dX1_made_260 : decode cX1_made 260 = .ok (.dload_n 2, 1) := by decide +kernel
theorem dX1_made_261 : decode cX1_made 261 = .ok (.dcmp .l, 1) := by decide +kernel
theorem dX1_made_262 : decode cX1_made 262 = .ok (.ifCond .le 7, 3) := by decide +kernel
theorem dX1_made_265 : decode cX1_made 265 = .ok (.dload_n 2, 1) := by decide +kernel
theorem dX1_made_266 : decode cX1_made 266 = .ok (.goto 18, 3) := by decide +kernel
theorem dX1_made_269 : decode cX1_made 269 = .ok (.dload 4, 2) := by decide +kernel
theorem dX1_made_271 : decode cX1_made 271 = .ok (.dload_n 2, 1) := by decide +kernel
theorem dX1_made_272 : decode cX1_made 272 = .ok (.dneg, 1) := by decide +kernel
theorem dX1_made_273 : decode cX1_made 273 = .ok (.dcmp .g, 1) := by decide +kernel
theorem dX1_made_274 : decode cX1_made 274 = .ok (.ifCond .ge 8, 3) := by decide +kernel
theorem dX1_made_277 : decode cX1_made 277 = .ok (.dload_n 2, 1) := by decide +kernel
theorem dX1_made_278 : decode cX1_made 278 = .ok (.dneg, 1) := by decide +kernel
theorem dX1_made_279 : decode cX1_made 279 = .ok (.goto 5, 3) := by decide +kernel
theorem dX1_made_282 : decode cX1_made 282 = .ok (.dload 4, 2) := by decide +kernel
theorem dX1_made_284 : decode cX1_made 284 = .ok (.dreturn, 1) := by decide +kernel
theorem dX1_made_285 : decode cX1_made 285 = .ok (.aload_n 0, 1) := by decide +kernel
theorem dX1_made_286 : decode cX1_made 286 = .ok (.getfield 46, 3) := by decide +kernel
theorem dX1_made_289 : decode cX1_made 289 = .ok (.iload_n 1, 1) := by decide +kernel
theorem dX1_made_290 : decode cX1_made 290 = .ok (.daload, 1) := by decide +kernel
theorem dX1_made_291 : decode cX1_made 291 = .ok (.dreturn, 1) := by decide +kernel
theorem dX1_madeF_0 : decode cX1_madeF 0 = .ok (.aload_n 0, 1) := by decide +kernel
theorem dX1_madeF_1 : decode cX1_madeF 1 = .ok (.getfield 13, 3) := by decide +kernel
theorem dX1_madeF_4 : decode cX1_madeF 4 = .ok (.iload_n 1, 1) := by decide +kernel
theorem dX1_madeF_5 : decode cX1_madeF 5 = .ok (.daload, 1) := by decide +kernel
theorem dX1_madeF_6 : decode cX1_madeF 6 = .ok (.d2f, 1) := by decide +kernel
theorem dX1_madeF_7 : decode cX1_madeF 7 = .ok (.fstore_n 2, 1) := by decide +kernel
theorem dX1_madeF_8 : decode cX1_madeF 8 = .ok (.aload_n 0, 1) := by decide +kernel
theorem dX1_madeF_9 : decode cX1_madeF 9 = .ok (.iload_n 1, 1) := by decide +kernel
theorem dX1_madeF_10 : decode cX1_madeF 10 = .ok (.iconst 0, 1) := by decide +kernel
theorem dX1_madeF_11 : decode cX1_madeF 11 = .ok (.invokevirtual 213, 3) := by decide +kernel
theorem dX1_madeF_14 : decode cX1_madeF 14 = .ok (.ifCond .eq 12, 3) := by decide +kernel
theorem dX1_madeF_17 : decode cX1_madeF 17 = .ok (.aload_n 0, 1) := by decide +kernel
theorem dX1_madeF_18 : decode cX1_madeF 18 = .ok (.iload_n 1, 1) := by decide +kernel
theorem dX1_madeF_19 : decode cX1_madeF 19 = .ok (.iconst 0, 1) := by decide +kernel
theorem dX1_madeF_20 : decode cX1_madeF 20 = .ok (.invokevirtual 246, 3) := by decide +kernel
theorem dX1_madeF_23 : decode cX1_madeF 23 = .ok (.goto 4, 3) := by decide +kernel
theorem dX1_madeF_26 : decode cX1_madeF 26 = .ok (.fconst 0, 1) := by decide +kernel
theorem dX1_madeF_27 : decode cX1_madeF 27 = .ok (.fstore_n 3, 1) := by decide +kernel
theorem dX1_madeF_28 : decode cX1_madeF 28 = .ok (.aload_n 0, 1) := by decide +kernel
theorem dX1_madeF_29 : decode cX1_madeF 29 = .ok (.iload_n 1, 1) := by decide +kernel
theorem dX1_madeF_30 : decode cX1_madeF 30 = .ok (.iconst 1, 1) := by decide +kernel
theorem dX1_madeF_31 : decode cX1_madeF 31 = .ok (.invokevirtual 213, 3) := by decide +kernel
theorem dX1_madeF_34 : decode cX1_madeF 34 = .ok (.ifCond .eq 12, 3) := by decide +kernel
theorem dX1_madeF_37 : decode cX1_madeF 37 = .ok (.aload_n 0, 1) := by decide +kernel
theorem dX1_madeF_38 : decode cX1_madeF 38 = .ok (.iload_n 1, 1) := by decide +kernel
theorem dX1_madeF_39 : decode cX1_madeF 39 = .ok (.iconst 1, 1) := by decide +kernel
theorem dX1_madeF_40 : decode cX1_madeF 40 = .ok (.invokevirtual 246, 3) := by decide +kernel
theorem dX1_madeF_43 : decode cX1_madeF 43 = .ok (.goto 4, 3) := by decide +kernel
theorem dX1_madeF_46 : decode cX1_madeF 46 = .ok (.fconst 0, 1) := by decide +kernel
theorem dX1_madeF_47 : decode cX1_madeF 47 = .ok (.fstore 4, 2) := by decide +kernel
theorem dX1_madeF_49 : decode cX1_madeF 49 = .ok (.aload_n 0, 1) := by decide +kernel
theorem dX1_madeF_50 : decode cX1_madeF 50 = .ok (.getfield 7, 3) := by decide +kernel
theorem dX1_madeF_53 : decode cX1_madeF 53 = .ok (.iload_n 1, 1) := by decide +kernel
theorem dX1_madeF_54 : decode cX1_madeF 54 = .ok (.iaload, 1) := by decide +kernel
theorem dX1_madeF_55 : decode cX1_madeF 55 = .ok (.tableswitch 216 0 12 #[65, 71, 216, 216, 74, 79, 118, 138, 145, 160, 178, 182, 192], 65) := by decide +kernel
theorem dX1_madeF_120 : decode cX1_madeF 120 = .ok (.aload_n 0, 1) := by decide +kernel
theorem dX1_madeF_121 : decode cX1_madeF 121 = .ok (.iload_n 1, 1) := by decide +kernel
theorem dX1_madeF_122 : decode cX1_madeF 122 = .ok (.invokevirtual 276, 3) := by decide +kernel
theorem dX1_madeF_125 : decode cX1_madeF 125 = .ok (.freturn, 1) := by decide +kernel
theorem dX1_madeF_126 : decode cX1_madeF 126 = .ok (.fload_n 3, 1) := by decide +kernel
theorem dX1_madeF_127 : decode cX1_madeF 127 = .ok (.fneg, 1) := by decide +kernel
theorem dX1_madeF_128 : decode cX1_madeF 128 = .ok (.freturn, 1) := by decide +kernel
theorem dX1_madeF_129 : decode cX1_madeF 129 = .ok (.fload_n 3, 1) := by decide +kernel
theorem dX1_madeF_130 : decode cX1_madeF 130 = .ok (.fload 4, 2) := by decide +kernel
theorem dX1_madeF_132 : decode cX1_madeF 132 = .ok (.fmul, 1) := by decide +kernel
theorem dX1_madeF_133 : decode cX1_madeF 133 = .ok (.freturn, 1) := by decide +kernel
theorem dX1_madeF_134 : decode cX1_madeF 134 = .ok (.fload 4, 2) := by decide +kernel
theorem dX1_madeF_136 : decode cX1_madeF 136 = .ok (.fconst 0, 1) := by decide +kernel
theorem dX1_madeF_137 : decode cX1_madeF 137 = .ok (.fcmp .l, 1) := by decide +kernel
theorem dX1_madeF_138 : decode cX1_madeF 138 = .ok (.ifCond .ne 30, 3) := by decide +kernel
theorem dX1_madeF_141 : decode cX1_madeF 141 = .ok (.fload_n 3, 1) := by decide +kernel
theorem dX1_madeF_142 : decode cX1_madeF 142 = .ok (.fconst 0, 1) := by decide +kernel
theorem dX1_madeF_143 : decode cX1_madeF 143 = .ok (.fcmp .l, 1) := by decide +kernel
theorem dX1_madeF_144 : decode cX1_madeF 144 = .ok (.ifCond .ne 5, 3) := by decide +kernel
theorem dX1_madeF_147 : decode cX1_madeF 147 = .ok (.fconst 0, 1) := by decide +kernel
theorem dX1_madeF_148 : decode cX1_madeF 148 = .ok (.freturn, 1) := by decide +kernel
theorem dX1_madeF_149 : decode cX1_madeF 149 = .ok (.aload_n 0, 1) := by decide +kernel
theorem dX1_madeF_150 : decode cX1_madeF 150 = .ok (.iload_n 1, 1) := by decide +kernel
theorem dX1_madeF_151 : decode cX1_madeF 151 = .ok (.invokevirtual 236, 3) := by decide +kernel
theorem dX1_madeF_154 : decode cX1_madeF 154 = .ok (.fload_n 3, 1) := by decide +kernel
theorem dX1_madeF_155 : decode cX1_madeF 155 = .ok (.fconst 0, 1) := by decide +kernel
theorem dX1_madeF_156 : decode cX1_madeF 156 = .ok (.fcmp .l, 1) := by decide +kernel
theorem dX1_madeF_157 : decode cX1_madeF 157 = .ok (.ifCond .le 8, 3) := by decide +kernel
theorem dX1_madeF_160 : decode cX1_madeF 160 = .ok (.ldc 240, 2) := by decide +kernel
theorem dX1_madeF_162 : decode cX1_madeF 162 = .ok (.goto 5, 3) := by decide +kernel
theorem dX1_madeF_165 : decode cX1_madeF 165 = .ok (.ldc 241, 2) := by decide +kernel
theorem dX1_madeF_167 : decode cX1_madeF 167 = .ok (.freturn, 1) := by decide +kernel
theorem dX1_madeF_168 : decode cX1_madeF 168 = .ok (.fload_n 3, 1) := by decide +kernel
theorem dX1_madeF_169 : decode cX1_madeF 169 = .ok (.fload 4, 2) := by decide +kernel
theorem dX1_madeF_171 : decode cX1_madeF 171 = .ok (.fdiv, 1) := by decide +kernel
theorem dX1_madeF_172 : decode cX1_madeF 172 = .ok (.freturn, 1) := by decide +kernel
theorem dX1_madeF_173 : decode cX1_madeF 173 = .ok (.fload_n 3, 1) := by decide +kernel
theorem dX1_madeF_174 : decode cX1_madeF 174 = .ok (.fconst 0, 1) := by decide +kernel
theorem dX1_madeF_175 : decode cX1_madeF 175 = .ok (.fcmp .g, 1) := by decide +kernel
theorem dX1_madeF_176 : decode cX1_madeF 176 = .ok (.ifCond .ge 10, 3) := by decide +kernel
theorem dX1_madeF_179 : decode cX1_madeF 179 = .ok (.aload_n 0, 1) := by decide +kernel
theorem dX1_madeF_180 : decode cX1_madeF 180 = .ok (.iload_n 1, 1) := by decide +kernel
theorem dX1_madeF_181 : decode cX1_madeF 181 = .ok (.invokevirtual 236, 3) := by decide +kernel
theorem dX1_madeF_184 : decode cX1_madeF 184 = .ok (.fconst 0, 1) := by decide +kernel
theorem dX1_madeF_185 : decode cX1_madeF 185 = .ok (.freturn, 1) := by decide +kernel
theorem dX1_madeF_186 : decode cX1_madeF 186 = .ok (.fload_n 3, 1) := by decide +kernel
theorem dX1_madeF_187 : decode cX1_madeF 187 = .ok (.f2d, 1) := by decide +kernel
theorem dX1_madeF_188 : decode cX1_madeF 188 = .ok (.invokestatic 268, 3) := by decide +kernel
theorem dX1_madeF_191 : decode cX1_madeF 191 = .ok (.d2f, 1) := by decide +kernel
theorem dX1_madeF_192 : decode cX1_madeF 192 = .ok (.freturn, 1) := by decide +kernel
theorem dX1_madeF_193 : decode cX1_madeF 193 = .ok (.aload_n 0, 1) := by decide +kernel
theorem dX1_madeF_194 : decode cX1_madeF 194 = .ok (.iload_n 1, 1) := by decide +kernel
theorem dX1_madeF_195 : decode cX1_madeF 195 = .ok (.fload_n 3, 1) := by decide +kernel
theorem dX1_madeF_196 : decode cX1_madeF 196 = .ok (.invokevirtual 280, 3) := by decide +kernel
theorem dX1_madeF_199 : decode cX1_madeF 199 = .ok (.freturn, 1) := by decide +kernel
theorem dX1_madeF_200 : decode cX1_madeF 200 = .ok (.fload_n 3, 1) := by decide +kernel
theorem dX1_madeF_201 : decode cX1_madeF 201 = .ok (.fload 4, 2) := by decide +kernel
theorem dX1_madeF_203 : decode cX1_madeF 203 = .ok (.fcmp .l, 1) := by decide +kernel
theorem dX1_madeF_204 : decode cX1_madeF 204 = .ok (.ifCond .le 7, 3) := by decide +kernel
theorem dX1_madeF_207 : decode cX1_madeF 207 = .ok (.fconst 1, 1) := by decide +kernel
theorem dX1_madeF_208 : decode cX1_madeF 208 = .ok (.goto 6, 3) := by decide +kernel
theorem dX1_madeF_211 : decode cX1_madeF 211 = .ok (.ldc_w 284, 3) := by decide +kernel
theorem dX1_madeF_214 : decode cX1_madeF 214 = .ok (.freturn, 1) := by decide +kernel
theorem dX1_madeF_215 : decode cX1_madeF 215 = .ok (.aload_n 0, 1) := by decide +kernel
theorem dX1_madeF_216 : decode cX1_madeF 216 = .ok (.iload_n 1, 1) := by decide +kernel
theorem dX1_madeF_217 : decode cX1_madeF 217 = .ok (.iconst 2, 1) := by decide +kernel
theorem dX1_madeF_218 : decode cX1_madeF 218 = .ok (.invokevirtual 246, 3) := by decide +kernel
theorem dX1_madeF_221 : decode cX1_madeF 221 = .ok (.fconst 0, 1) := by decide +kernel
theorem dX1_madeF_222 : decode cX1_madeF 222 = .ok (.fcmp .l, 1) := by decide +kernel
theorem dX1_madeF_223 : decode cX1_madeF 223 = .ok (.ifCond .le 7, 3) := by decide +kernel
theorem dX1_madeF_226 : decode cX1_madeF 226 = .ok (.fload_n 3, 1) := by decide +kernel
theorem dX1_madeF_227 : decode cX1_madeF 227 = .ok (.goto 5, 3) := by decide +kernel
theorem dX1_madeF_230 : decode cX1_madeF 230 = .ok (.fload 4, 2) := by decide +kernel
theorem dX1_madeF_232 : decode cX1_madeF 232 = .ok (.freturn, 1) := by decide +kernel
theorem dX1_madeF_233 : decode cX1_madeF 233 = .ok (.fload_n 3, 1) := by decide +kernel
theorem dX1_madeF_234 : decode cX1_madeF 234 = .ok (.fload_n 2, 1) := by decide +kernel
theorem dX1_madeF_235 : decode cX1_madeF 235 = .ok (.fmul, 1) := by decide +kernel
theorem dX1_madeF_236 : decode cX1_madeF 236 = .ok (.freturn, 1) := by decide +kernel
theorem dX1_madeF_237 : decode cX1_madeF 237 = .ok (.aload_n 0, 1) := by decide +kernel
theorem dX1_madeF_238 : decode cX1_madeF 238 = .ok (.getfield 62, 3) := by decide +kernel
theorem dX1_madeF_241 : decode cX1_madeF 241 = .ok (.bipush 16, 2) := by decide +kernel
theorem dX1_madeF_243 : decode cX1_madeF 243 = .ok (.iload_n 1, 1) := by decide +kernel
theorem dX1_madeF_244 : decode cX1_madeF 244 = .ok (.imul, 1) := by decide +kernel
theorem dX1_madeF_245 : decode cX1_madeF 245 = .ok (.faload, 1) := by decide +kernel
theorem dX1_madeF_246 : decode cX1_madeF 246 = .ok (.freturn, 1) := by decide +kernel
theorem dX1_madeF_247 : decode cX1_madeF 247 = .ok (.fload_n 3, 1) := by decide +kernel
theorem dX1_madeF_248 : decode cX1_madeF 248 = .ok (.fload_n 2, 1) := by decide +kernel
theorem dX1_madeF_249 : decode cX1_madeF 249 = .ok (.fcmp .l, 1) := by decide +kernel
theorem dX1_madeF_250 : decode cX1_madeF 250 = .ok (.ifCond .le 7, 3) := by decide +kernel
theorem dX1_madeF_253 : decode cX1_madeF 253 = .ok (.fload_n 2, 1) := by decide +kernel
theorem dX1_madeF_254 : decode cX1_madeF 254 = .ok (.goto 16, 3) := by decide +kernel
theorem dX1_madeF_257 : decode cX1_madeF 257 = .ok (.fload_n 3, 1) := by decide +kernel
theorem dX1_madeF_258 : decode cX1_madeF 258 = .ok (.fload_n 2, 1) := by decide +kernel
theorem dX1_madeF_259 : decode cX1_madeF 259 = .ok (.fneg, 1) := by decide +kernel
theorem dX1_madeF_260 : decode cX1_madeF 260 = .ok (.fcmp .g, 1) := by decide +kernel
theorem dX1_madeF_261 : decode cX1_madeF 261 = .ok (.ifCond .ge 8, 3) := by decide +kernel
theorem dX1_madeF_264 : decode cX1_madeF 264 = .ok (.fload_n 2, 1) := by decide +kernel
theorem dX1_madeF_265 : decode cX1_madeF 265 = .ok (.fneg, 1) := by decide +kernel
theorem dX1_madeF_266 : decode cX1_madeF 266 = .ok (.goto 4, 3) := by decide +kernel
theorem dX1_madeF_269 : decode cX1_madeF 269 = .ok (.fload_n 3, 1) := by decide +kernel
theorem dX1_madeF_270 : decode cX1_madeF 270 = .ok (.freturn, 1) := by decide +kernel
theorem dX1_madeF_271 : decode cX1_madeF 271 = .ok (.aload_n 0, 1) := by decide +kernel
theorem dX1_madeF_272 : decode cX1_madeF 272 = .ok (.getfield 49, 3) := by decide +kernel
theorem dX1_madeF_275 : decode cX1_madeF 275 = .ok (.iload_n 1, 1) := by decide +kernel
theorem dX1_madeF_276 : decode cX1_madeF 276 = .ok (.faload, 1) := by decide +kernel
theorem dX1_madeF_277 : decode cX1_madeF 277 = .ok (.freturn, 1) := by decide +kernel
theorem hd_X1_root : yX1_root.cls ≠ "java/lang/invoke/MethodHandle" ∧ yX1_root.cls ≠ "java/lang/invoke/VarHandle" ∧ (parseMethodDescriptor yX1_root.desc).map (fun d => d.parameters.length) = some 1 := by decide +kernel
theorem hd_X1_sum : yX1_sum.cls = RX1 ∧ yX1_sum.cls ≠ "java/lang/invoke/MethodHandle" ∧ yX1_sum.cls ≠ "java/lang/invoke/VarHandle" ∧ (parseMethodDescriptor yX1_sum.desc).map (fun d => d.parameters.length) = some 1 := by decide +kernel
theorem hd_X1_sumF : yX1_sumF.cls = RX1 ∧ yX1_sumF.cls ≠ "java/lang/invoke/MethodHandle" ∧ yX1_sumF.cls ≠ "java/lang/invoke/VarHandle" ∧ (parseMethodDescriptor yX1_sumF.desc).map (fun d => d.parameters.length) = some 1 := by decide +kernel
theorem hd_X1_table : yX1_table.cls = RX1 ∧ yX1_table.cls ≠ "java/lang/invoke/MethodHandle" ∧ yX1_table.cls ≠ "java/lang/invoke/VarHandle" ∧ (parseMethodDescriptor yX1_table.desc).map (fun d => d.parameters.length) = some 2 := by decide +kernel
theorem hd_X1_tableF : yX1_tableF.cls = RX1 ∧ yX1_tableF.cls ≠ "java/lang/invoke/MethodHandle" ∧ yX1_tableF.cls ≠ "java/lang/invoke/VarHandle" ∧ (parseMethodDescriptor yX1_tableF.desc).map (fun d => d.parameters.length) = some 2 := by decide +kernel
theorem fx_lt_f2d {K : Nat} {a : UInt32} (h : bF K a) (hh : fy_lt a FP.fconst0 = false) : fx_lt (FP.f2d a) FP.dconst0 = false := by
  obtain ⟨h1, h2⟩ := zD_f2d (bF_f h)
  rw [fx_lt_z h1 fD_0, h2, zD_0]
  rw [fy_lt_z (bF_f h) fF_0, zF_0] at hh
  exact hh
theorem mt_X1_table (l : Launch) (D : va_G) (dA : Nat → ClassId) (ad : Nat → Nat) (C : tp_C) (d : md_T) (m : Nat) (a : UInt64) (hC : mOK C) (hm : m < 20) (hV : vOK C) (ha : bD 1075 a) (hP : 2 ≤ cP C m) : mC l D dA ad yX1_table cX1_table 11 (some .double) 0 [.int (nI m), .double a] C d (some (.double (tbD C m a))) C d := by
  refine mm_start (by decide) rfl (Nat.le_of_ble_eq_true rfl) ?_
  intro p0 e0 s0 mid bl0 me0 co0 ls S hr hlk G hl
  have hx := S.1; have hb := S.2.1; have hml := S.2.2.1; have hown := S.2.2.2.1; have hts := S.2.2.2.2
  have hl : lv_has ls 11 [(0, .ref (ad 0)), (1, .int (nI m)), (2, .double a)] := hl
  have hp8 := hC.p m
  have hN := hC.n
  have L1 : ∀ (hle : fx_le (cX C m (cP C m - 1)) a = false) (n_ : Nat) (i : Nat), (i + 1 < cP C m) → (cP C m ≤ i + n_) → (∀ j, j < i → tbP (cX C m) a j = false) → ∀ (H : Heap) (locs : List Loc) (ls : Array Slot), mG D dA ad C d s0 H locs → lv_has ls 11 [(6, .int (nI (8 * m + i))), (2, .double a), (4, .int (nI (8 * m))), (5, .int (nI (8 * m + (cP C m - 1)))), (0, .ref (ad 0)), (1, .int (nI m))] → (∀ (i : Nat) (H : Heap) (locs : List Loc) (ls : Array Slot), (i + 1 < cP C m) → (fi_ (tbP (cX C m) a) 8 = some i) → mG D dA ad C d s0 H locs → lv_has ls 11 [(6, .int (nI (8 * m + i))), (2, .double a), (4, .int (nI (8 * m))), (5, .int (nI (8 * m + (cP C m - 1)))), (0, .ref (ad 0)), (1, .int (nI m))] → W p0 l e0 (rm_ 0) s0 mid (Value.ref (ad 0) :: [.int (nI m), .double a]).toArray bl0 me0 co0 H locs 0 0 (MQ bl0 (mQ D dA ad (some (.double (tbD C m a))) C d) (Value.ref (ad 0) :: [.int (nI m), .double a]).toArray s0 0 0 (mA ad)) (F0 mid 83 ls [])) → W p0 l e0 (rm_ 0) s0 mid (Value.ref (ad 0) :: [.int (nI m), .double a]).toArray bl0 me0 co0 H locs 0 0 (MQ bl0 (mQ D dA ad (some (.double (tbD C m a))) C d) (Value.ref (ad 0) :: [.int (nI m), .double a]).toArray s0 0 0 (mA ad)) (F0 mid 63 ls []) := by
    intro hle n_
    induction n_ with
    | zero => intro i h1_ h2_ hp; exfalso; omega
    | succ n_ ih =>
      intro i h1_ h2_ hp H locs ls G hl kk
      refine lv_aload_n hx hb dX1_table_63 rfl (lv_at hl 4 rfl) ?_
      refine mm_get S G 7 (by decide) q1274 rfl (v := .ref (ad 8)) rfl dX1_table_64 ?_
      refine lv_iload hx hb dX1_table_67 (lv_at hl 0 rfl) ?_
      refine lv_iconst (v := nI 1) hx hb dX1_table_69 (by decide) ?_
      refine nn_add hx hb dX1_table_70 ?_
      refine w_st (st' := [.int (nI (8 * m + (i + 1))), .ref (ad 8)]) (by rfl) ?_
      refine mm_dald S G 7 2 (by decide) (n := 160) rfl rfl (by omega) (by decide) (v := cX C m (i + 1)) (tp_x (by omega)) dX1_table_71 ?_
      refine lv_dload_n hx hb dX1_table_72 rfl (lv_at hl 1 rfl) ?_
      refine fx_jggt (tgt := 83) hx hb dX1_table_73 dX1_table_74 (by decide) (fun c_74 => ?_) (fun c_74 => ?_)
      · exact kk i H locs ls h1_ (fi_some (by omega) (by simp [tbP, c_74]) hp) G (lv_sub hl [0, 1, 2, 3, 4, 5] rfl)
      · refine lv_iinc (v := nI (8 * m + i + 1)) (lv' := [(6, .int (nI (8 * m + i + 1))), (2, .double a), (4, .int (nI (8 * m))), (5, .int (nI (8 * m + (cP C m - 1)))), (0, .ref (ad 0)), (1, .int (nI m))]) hx hb dX1_table_77 hl (k := 0) rfl (nI_1 _) (by decide) rfl (fun ls hl => ?_)
        refine lv_goto (tgt := 63) hx hb dX1_table_80 (by decide) ?_
        exact ih (i + 1) (Nat.lt_of_le_of_ne (by omega) (fun e => nb_tf c_74 (by rw [show i + 1 = cP C m - 1 by omega]; exact hle))) (by omega) (lt_sB hp (by simp [tbP, c_74])) H locs ls G (lv_eq (lv_sub (l' := [(6, .int (nI (8 * m + i + 1))), (2, .double a), (4, .int (nI (8 * m))), (5, .int (nI (8 * m + (cP C m - 1)))), (0, .ref (ad 0)), (1, .int (nI m))]) hl [0, 1, 2, 3, 4, 5] rfl) (by rfl)) kk
  refine lv_bipush (v := nI 8) hx hb dX1_table_0 (by decide) ?_
  refine lv_iload_n hx hb dX1_table_2 rfl (lv_at hl 1 rfl) ?_
  refine nn_mul hx hb dX1_table_3 ?_
  refine lv_istore (lv' := [(4, .int (nI (8 * m))), (0, .ref (ad 0)), (1, .int (nI m)), (2, .double a)]) hx hb dX1_table_4 hl (by decide) rfl (fun ls hl => ?_)
  refine lv_iload hx hb dX1_table_6 (lv_at hl 0 rfl) ?_
  refine lv_aload_n hx hb dX1_table_8 rfl (lv_at hl 1 rfl) ?_
  refine mm_get S G 6 (by decide) q1273 rfl (v := .ref (ad 7)) rfl dX1_table_9 ?_
  refine lv_iload_n hx hb dX1_table_12 rfl (lv_at hl 2 rfl) ?_
  refine mm_iald S G 6 0 (by decide) (n := 20) rfl rfl (by omega) (by decide) (v := nI (cP C m)) rfl dX1_table_13 ?_
  refine nn_add hx hb dX1_table_14 ?_
  refine lv_iconst (v := nI 1) hx hb dX1_table_15 (by decide) ?_
  refine nn_sub hx hb (by omega) dX1_table_16 ?_
  refine w_st (st' := [.int (nI (8 * m + (cP C m - 1)))]) (by rw [show 8 * m + cP C m - 1 = 8 * m + (cP C m - 1) from by omega]) ?_
  refine lv_istore (lv' := [(5, .int (nI (8 * m + (cP C m - 1)))), (4, .int (nI (8 * m))), (0, .ref (ad 0)), (1, .int (nI m)), (2, .double a)]) hx hb dX1_table_17 hl (by decide) rfl (fun ls hl => ?_)
  refine lv_dload_n hx hb dX1_table_19 rfl (lv_at hl 4 rfl) ?_
  refine lv_aload_n hx hb dX1_table_20 rfl (lv_at hl 2 rfl) ?_
  refine mm_get S G 7 (by decide) q1274 rfl (v := .ref (ad 8)) rfl dX1_table_21 ?_
  refine lv_iload hx hb dX1_table_24 (lv_at hl 1 rfl) ?_
  refine mm_dald S G 7 2 (by decide) (n := 160) rfl rfl (by omega) (by decide) (v := cX C m 0) (by have := tp_x (C := C) (m := m) (i := 0) (by omega); simpa using this) dX1_table_26 ?_
  refine fx_jggt (tgt := 39) hx hb dX1_table_27 dX1_table_28 (by decide) (fun c_28 => ?_) (fun c_28 => ?_)
  · refine lv_dload_n hx hb dX1_table_39 rfl (lv_at hl 4 rfl) ?_
    refine lv_aload_n hx hb dX1_table_40 rfl (lv_at hl 2 rfl) ?_
    refine mm_get S G 7 (by decide) q1274 rfl (v := .ref (ad 8)) rfl dX1_table_41 ?_
    refine lv_iload hx hb dX1_table_44 (lv_at hl 0 rfl) ?_
    refine mm_dald S G 7 2 (by decide) (n := 160) rfl rfl (by omega) (by decide) (v := cX C m (cP C m - 1)) (tp_x (by omega)) dX1_table_46 ?_
    refine fx_jllt (tgt := 59) hx hb dX1_table_47 dX1_table_48 (by decide) (fun c_48 => ?_) (fun c_48 => ?_)
    · refine lv_iload hx hb dX1_table_59 (lv_at hl 1 rfl) ?_
      refine lv_istore (lv' := [(6, .int (nI (8 * m))), (5, .int (nI (8 * m + (cP C m - 1)))), (4, .int (nI (8 * m))), (0, .ref (ad 0)), (1, .int (nI m)), (2, .double a)]) hx hb dX1_table_61 hl (by decide) rfl (fun ls hl => ?_)
      refine L1 (fx_nge ha (hV.x m _) c_48) (cP C m) 0 (by omega) (by omega) (fun j hj => by omega) _ _ ls G (lv_eq (lv_sub (l' := [(6, .int (nI (8 * m))), (2, .double a), (4, .int (nI (8 * m))), (5, .int (nI (8 * m + (cP C m - 1)))), (0, .ref (ad 0)), (1, .int (nI m))]) hl [0, 5, 2, 1, 3, 4] rfl) (by rfl)) (fun i H locs ls hK hf G hl => ?_)
      refine lv_dload_n hx hb dX1_table_83 rfl (lv_at hl 1 rfl) ?_
      refine lv_aload_n hx hb dX1_table_84 rfl (lv_at hl 4 rfl) ?_
      refine mm_get S G 7 (by decide) q1274 rfl (v := .ref (ad 8)) rfl dX1_table_85 ?_
      refine lv_iload hx hb dX1_table_88 (lv_at hl 0 rfl) ?_
      refine mm_dald S G 7 2 (by decide) (n := 160) rfl rfl (by omega) (by decide) (v := cX C m i) (tp_x (by omega)) dX1_table_90 ?_
      refine lv_dsub hx hb dX1_table_91 (bD_n (bD_sub ha (hV.x _ _))) ?_
      refine lv_aload_n hx hb dX1_table_92 rfl (lv_at hl 4 rfl) ?_
      refine mm_get S G 8 (by decide) q1275 rfl (v := .ref (ad 9)) rfl dX1_table_93 ?_
      refine lv_iload hx hb dX1_table_96 (lv_at hl 0 rfl) ?_
      refine lv_iconst (v := nI 1) hx hb dX1_table_98 (by decide) ?_
      refine nn_add hx hb dX1_table_99 ?_
      refine w_st (st' := [.int (nI (8 * m + (i + 1))), .ref (ad 9), .double (FP.dsub a (cX C m i))]) (by rfl) ?_
      refine mm_dald S G 8 2 (by decide) (n := 160) rfl rfl (by omega) (by decide) (v := cY C m (i + 1)) (tp_y (by omega)) dX1_table_100 ?_
      refine lv_aload_n hx hb dX1_table_101 rfl (lv_at hl 4 rfl) ?_
      refine mm_get S G 8 (by decide) q1275 rfl (v := .ref (ad 9)) rfl dX1_table_102 ?_
      refine lv_iload hx hb dX1_table_105 (lv_at hl 0 rfl) ?_
      refine mm_dald S G 8 2 (by decide) (n := 160) rfl rfl (by omega) (by decide) (v := cY C m i) (tp_y (by omega)) dX1_table_107 ?_
      refine lv_dsub hx hb dX1_table_108 (bD_n (bD_sub (hV.y _ _) (hV.y _ _))) ?_
      refine lv_dmul hx hb dX1_table_109 (bD_n (tb_n1 hV ha)) ?_
      refine lv_dstore (lv' := [(7, .double (FP.dmul (FP.dsub a (cX C m i)) (FP.dsub (cY C m (i + 1)) (cY C m i)))), (6, .int (nI (8 * m + i))), (2, .double a), (4, .int (nI (8 * m))), (5, .int (nI (8 * m + (cP C m - 1)))), (0, .ref (ad 0)), (1, .int (nI m))]) hx hb dX1_table_110 hl (by decide) rfl (fun ls hl => ?_)
      refine lv_dload hx hb dX1_table_112 (lv_at hl 0 rfl) ?_
      refine lv_aload_n hx hb dX1_table_114 rfl (lv_at hl 5 rfl) ?_
      refine mm_get S G 7 (by decide) q1274 rfl (v := .ref (ad 8)) rfl dX1_table_115 ?_
      refine lv_iload hx hb dX1_table_118 (lv_at hl 1 rfl) ?_
      refine lv_iconst (v := nI 1) hx hb dX1_table_120 (by decide) ?_
      refine nn_add hx hb dX1_table_121 ?_
      refine w_st (st' := [.int (nI (8 * m + (i + 1))), .ref (ad 8), .double (FP.dmul (FP.dsub a (cX C m i)) (FP.dsub (cY C m (i + 1)) (cY C m i)))]) (by rfl) ?_
      refine mm_dald S G 7 2 (by decide) (n := 160) rfl rfl (by omega) (by decide) (v := cX C m (i + 1)) (tp_x (by omega)) dX1_table_122 ?_
      refine lv_aload_n hx hb dX1_table_123 rfl (lv_at hl 5 rfl) ?_
      refine mm_get S G 7 (by decide) q1274 rfl (v := .ref (ad 8)) rfl dX1_table_124 ?_
      refine lv_iload hx hb dX1_table_127 (lv_at hl 1 rfl) ?_
      refine mm_dald S G 7 2 (by decide) (n := 160) rfl rfl (by omega) (by decide) (v := cX C m i) (tp_x (by omega)) dX1_table_129 ?_
      refine lv_dsub hx hb dX1_table_130 (bD_n (bD_sub (hV.x _ _) (hV.x _ _))) ?_
      refine lv_ddiv hx hb dX1_table_131 (tb_n2 hV ha hK) ?_
      refine lv_dstore (lv' := [(9, .double (FP.ddiv (FP.dmul (FP.dsub a (cX C m i)) (FP.dsub (cY C m (i + 1)) (cY C m i))) (FP.dsub (cX C m (i + 1)) (cX C m i)))), (7, .double (FP.dmul (FP.dsub a (cX C m i)) (FP.dsub (cY C m (i + 1)) (cY C m i)))), (6, .int (nI (8 * m + i))), (2, .double a), (4, .int (nI (8 * m))), (5, .int (nI (8 * m + (cP C m - 1)))), (0, .ref (ad 0)), (1, .int (nI m))]) hx hb dX1_table_132 hl (by decide) rfl (fun ls hl => ?_)
      refine lv_dload hx hb dX1_table_134 (lv_at hl 0 rfl) ?_
      refine lv_aload_n hx hb dX1_table_136 rfl (lv_at hl 6 rfl) ?_
      refine mm_get S G 8 (by decide) q1275 rfl (v := .ref (ad 9)) rfl dX1_table_137 ?_
      refine lv_iload hx hb dX1_table_140 (lv_at hl 2 rfl) ?_
      refine mm_dald S G 8 2 (by decide) (n := 160) rfl rfl (by omega) (by decide) (v := cY C m i) (tp_y (by omega)) dX1_table_142 ?_
      refine lv_dadd hx hb dX1_table_143 (tb_n3 hV ha hK) ?_
      exact mm_dret S hr hlk G (by simp [tbD, tbK, tbV, hf, c_28, c_48]) rfl rfl dX1_table_144
    · refine lv_aload_n hx hb dX1_table_51 rfl (lv_at hl 2 rfl) ?_
      refine mm_get S G 8 (by decide) q1275 rfl (v := .ref (ad 9)) rfl dX1_table_52 ?_
      refine lv_iload hx hb dX1_table_55 (lv_at hl 0 rfl) ?_
      refine mm_dald S G 8 2 (by decide) (n := 160) rfl rfl (by omega) (by decide) (v := cY C m (cP C m - 1)) (tp_y (by omega)) dX1_table_57 ?_
      exact mm_dret S hr hlk G (by simp [tbD, c_28, c_48]) rfl rfl dX1_table_58
  · refine lv_aload_n hx hb dX1_table_31 rfl (lv_at hl 2 rfl) ?_
    refine mm_get S G 8 (by decide) q1275 rfl (v := .ref (ad 9)) rfl dX1_table_32 ?_
    refine lv_iload hx hb dX1_table_35 (lv_at hl 1 rfl) ?_
    refine mm_dald S G 8 2 (by decide) (n := 160) rfl rfl (by omega) (by decide) (v := cY C m 0) (by have := tp_y (C := C) (m := m) (i := 0) (by omega); simpa using this) dX1_table_37 ?_
    exact mm_dret S hr hlk G (by simp [tbD, c_28]) rfl rfl dX1_table_38
theorem mt_X1_tableF (l : Launch) (D : va_G) (dA : Nat → ClassId) (ad : Nat → Nat) (C : tp_C) (d : md_T) (m : Nat) (a : UInt32) (hC : mOK C) (hm : m < 20) (hV : vOK C) (ha : bF 1075 a) (hP : 2 ≤ cP C m) : mC l D dA ad yX1_tableF cX1_tableF 10 (some .float) 0 [.int (nI m), .float a] C d (some (.float (tbF C m a))) C d := by
  refine mm_start (by decide) rfl (Nat.le_of_ble_eq_true rfl) ?_
  intro p0 e0 s0 mid bl0 me0 co0 ls S hr hlk G hl
  have hx := S.1; have hb := S.2.1; have hml := S.2.2.1; have hown := S.2.2.2.1; have hts := S.2.2.2.2
  have hl : lv_has ls 10 [(0, .ref (ad 0)), (1, .int (nI m)), (2, .float a)] := hl
  have hp8 := hC.p m
  have hN := hC.n
  have L1 : ∀ (hle : fy_le (xF C m (cP C m - 1)) a = false) (n_ : Nat) (i : Nat), (i + 1 < cP C m) → (cP C m ≤ i + n_) → (∀ j, j < i → tfP (xF C m) a j = false) → ∀ (H : Heap) (locs : List Loc) (ls : Array Slot), mG D dA ad C d s0 H locs → lv_has ls 10 [(5, .int (nI (8 * m + i))), (2, .float a), (3, .int (nI (8 * m))), (4, .int (nI (8 * m + (cP C m - 1)))), (0, .ref (ad 0)), (1, .int (nI m))] → (∀ (i : Nat) (H : Heap) (locs : List Loc) (ls : Array Slot), (i + 1 < cP C m) → (fi_ (tfP (xF C m) a) 8 = some i) → mG D dA ad C d s0 H locs → lv_has ls 10 [(5, .int (nI (8 * m + i))), (2, .float a), (3, .int (nI (8 * m))), (4, .int (nI (8 * m + (cP C m - 1)))), (0, .ref (ad 0)), (1, .int (nI m))] → W p0 l e0 (rm_ 0) s0 mid (Value.ref (ad 0) :: [.int (nI m), .float a]).toArray bl0 me0 co0 H locs 0 0 (MQ bl0 (mQ D dA ad (some (.float (tbF C m a))) C d) (Value.ref (ad 0) :: [.int (nI m), .float a]).toArray s0 0 0 (mA ad)) (F0 mid 83 ls [])) → W p0 l e0 (rm_ 0) s0 mid (Value.ref (ad 0) :: [.int (nI m), .float a]).toArray bl0 me0 co0 H locs 0 0 (MQ bl0 (mQ D dA ad (some (.float (tbF C m a))) C d) (Value.ref (ad 0) :: [.int (nI m), .float a]).toArray s0 0 0 (mA ad)) (F0 mid 62 ls []) := by
    intro hle n_
    induction n_ with
    | zero => intro i h1_ h2_ hp; exfalso; omega
    | succ n_ ih =>
      intro i h1_ h2_ hp H locs ls G hl kk
      refine lv_aload_n hx hb dX1_tableF_62 rfl (lv_at hl 4 rfl) ?_
      refine mm_get S G 7 (by decide) q1274 rfl (v := .ref (ad 8)) rfl dX1_tableF_63 ?_
      refine lv_iload hx hb dX1_tableF_66 (lv_at hl 0 rfl) ?_
      refine lv_iconst (v := nI 1) hx hb dX1_tableF_68 (by decide) ?_
      refine nn_add hx hb dX1_tableF_69 ?_
      refine w_st (st' := [.int (nI (8 * m + (i + 1))), .ref (ad 8)]) (by rfl) ?_
      refine mm_dald S G 7 2 (by decide) (n := 160) rfl rfl (by omega) (by decide) (v := cX C m (i + 1)) (tp_x (by omega)) dX1_tableF_70 ?_
      refine lv_d2f hx hb dX1_tableF_71 (bF_n (xF_b hV _ _)) ?_
      refine w_st (st' := [.float (xF C m (i + 1))]) (by rfl) ?_
      refine lv_fload_n hx hb dX1_tableF_72 rfl (lv_at hl 1 rfl) ?_
      refine fy_jggt (tgt := 83) hx hb dX1_tableF_73 dX1_tableF_74 (by decide) (fun c_74 => ?_) (fun c_74 => ?_)
      · exact kk i H locs ls h1_ (fi_some (by omega) (by simp [tfP, c_74]) hp) G (lv_sub hl [0, 1, 2, 3, 4, 5] rfl)
      · refine lv_iinc (v := nI (8 * m + i + 1)) (lv' := [(5, .int (nI (8 * m + i + 1))), (2, .float a), (3, .int (nI (8 * m))), (4, .int (nI (8 * m + (cP C m - 1)))), (0, .ref (ad 0)), (1, .int (nI m))]) hx hb dX1_tableF_77 hl (k := 0) rfl (nI_1 _) (by decide) rfl (fun ls hl => ?_)
        refine lv_goto (tgt := 62) hx hb dX1_tableF_80 (by decide) ?_
        exact ih (i + 1) (Nat.lt_of_le_of_ne (by omega) (fun e => nb_tf c_74 (by rw [show i + 1 = cP C m - 1 by omega]; exact hle))) (by omega) (lt_sB hp (by simp [tfP, c_74])) H locs ls G (lv_eq (lv_sub (l' := [(5, .int (nI (8 * m + i + 1))), (2, .float a), (3, .int (nI (8 * m))), (4, .int (nI (8 * m + (cP C m - 1)))), (0, .ref (ad 0)), (1, .int (nI m))]) hl [0, 1, 2, 3, 4, 5] rfl) (by rfl)) kk
  refine lv_bipush (v := nI 8) hx hb dX1_tableF_0 (by decide) ?_
  refine lv_iload_n hx hb dX1_tableF_2 rfl (lv_at hl 1 rfl) ?_
  refine nn_mul hx hb dX1_tableF_3 ?_
  refine lv_istore_n (lv' := [(3, .int (nI (8 * m))), (0, .ref (ad 0)), (1, .int (nI m)), (2, .float a)]) hx hb dX1_tableF_4 rfl hl (by decide) rfl (fun ls hl => ?_)
  refine lv_iload_n hx hb dX1_tableF_5 rfl (lv_at hl 0 rfl) ?_
  refine lv_aload_n hx hb dX1_tableF_6 rfl (lv_at hl 1 rfl) ?_
  refine mm_get S G 6 (by decide) q1273 rfl (v := .ref (ad 7)) rfl dX1_tableF_7 ?_
  refine lv_iload_n hx hb dX1_tableF_10 rfl (lv_at hl 2 rfl) ?_
  refine mm_iald S G 6 0 (by decide) (n := 20) rfl rfl (by omega) (by decide) (v := nI (cP C m)) rfl dX1_tableF_11 ?_
  refine nn_add hx hb dX1_tableF_12 ?_
  refine lv_iconst (v := nI 1) hx hb dX1_tableF_13 (by decide) ?_
  refine nn_sub hx hb (by omega) dX1_tableF_14 ?_
  refine w_st (st' := [.int (nI (8 * m + (cP C m - 1)))]) (by rw [show 8 * m + cP C m - 1 = 8 * m + (cP C m - 1) from by omega]) ?_
  refine lv_istore (lv' := [(4, .int (nI (8 * m + (cP C m - 1)))), (3, .int (nI (8 * m))), (0, .ref (ad 0)), (1, .int (nI m)), (2, .float a)]) hx hb dX1_tableF_15 hl (by decide) rfl (fun ls hl => ?_)
  refine lv_fload_n hx hb dX1_tableF_17 rfl (lv_at hl 4 rfl) ?_
  refine lv_aload_n hx hb dX1_tableF_18 rfl (lv_at hl 2 rfl) ?_
  refine mm_get S G 7 (by decide) q1274 rfl (v := .ref (ad 8)) rfl dX1_tableF_19 ?_
  refine lv_iload_n hx hb dX1_tableF_22 rfl (lv_at hl 1 rfl) ?_
  refine mm_dald S G 7 2 (by decide) (n := 160) rfl rfl (by omega) (by decide) (v := cX C m 0) (by have := tp_x (C := C) (m := m) (i := 0) (by omega); simpa using this) dX1_tableF_23 ?_
  refine lv_d2f hx hb dX1_tableF_24 (bF_n (xF_b hV _ _)) ?_
  refine w_st (st' := [.float (xF C m 0), .float a]) (by rfl) ?_
  refine fy_jggt (tgt := 37) hx hb dX1_tableF_25 dX1_tableF_26 (by decide) (fun c_26 => ?_) (fun c_26 => ?_)
  · refine lv_fload_n hx hb dX1_tableF_37 rfl (lv_at hl 4 rfl) ?_
    refine lv_aload_n hx hb dX1_tableF_38 rfl (lv_at hl 2 rfl) ?_
    refine mm_get S G 7 (by decide) q1274 rfl (v := .ref (ad 8)) rfl dX1_tableF_39 ?_
    refine lv_iload hx hb dX1_tableF_42 (lv_at hl 0 rfl) ?_
    refine mm_dald S G 7 2 (by decide) (n := 160) rfl rfl (by omega) (by decide) (v := cX C m (cP C m - 1)) (tp_x (by omega)) dX1_tableF_44 ?_
    refine lv_d2f hx hb dX1_tableF_45 (bF_n (xF_b hV _ _)) ?_
    refine w_st (st' := [.float (xF C m (cP C m - 1)), .float a]) (by rfl) ?_
    refine fy_jllt (tgt := 59) hx hb dX1_tableF_46 dX1_tableF_47 (by decide) (fun c_47 => ?_) (fun c_47 => ?_)
    · refine lv_iload_n hx hb dX1_tableF_59 rfl (lv_at hl 1 rfl) ?_
      refine lv_istore (lv' := [(5, .int (nI (8 * m))), (4, .int (nI (8 * m + (cP C m - 1)))), (3, .int (nI (8 * m))), (0, .ref (ad 0)), (1, .int (nI m)), (2, .float a)]) hx hb dX1_tableF_60 hl (by decide) rfl (fun ls hl => ?_)
      refine L1 (fy_nge ha (xF_b hV m _) c_47) (cP C m) 0 (by omega) (by omega) (fun j hj => by omega) _ _ ls G (lv_eq (lv_sub (l' := [(5, .int (nI (8 * m))), (2, .float a), (3, .int (nI (8 * m))), (4, .int (nI (8 * m + (cP C m - 1)))), (0, .ref (ad 0)), (1, .int (nI m))]) hl [0, 5, 2, 1, 3, 4] rfl) (by rfl)) (fun i H locs ls hK hf G hl => ?_)
      refine lv_aload_n hx hb dX1_tableF_83 rfl (lv_at hl 4 rfl) ?_
      refine mm_get S G 7 (by decide) q1274 rfl (v := .ref (ad 8)) rfl dX1_tableF_84 ?_
      refine lv_iload hx hb dX1_tableF_87 (lv_at hl 0 rfl) ?_
      refine mm_dald S G 7 2 (by decide) (n := 160) rfl rfl (by omega) (by decide) (v := cX C m i) (tp_x (by omega)) dX1_tableF_89 ?_
      refine lv_d2f hx hb dX1_tableF_90 (bF_n (xF_b hV _ _)) ?_
      refine w_st (st' := [.float (xF C m i)]) (by rfl) ?_
      refine lv_fstore (lv' := [(6, .float (xF C m i)), (5, .int (nI (8 * m + i))), (2, .float a), (3, .int (nI (8 * m))), (4, .int (nI (8 * m + (cP C m - 1)))), (0, .ref (ad 0)), (1, .int (nI m))]) hx hb dX1_tableF_91 hl (by decide) rfl (fun ls hl => ?_)
      refine lv_aload_n hx hb dX1_tableF_93 rfl (lv_at hl 5 rfl) ?_
      refine mm_get S G 8 (by decide) q1275 rfl (v := .ref (ad 9)) rfl dX1_tableF_94 ?_
      refine lv_iload hx hb dX1_tableF_97 (lv_at hl 1 rfl) ?_
      refine mm_dald S G 8 2 (by decide) (n := 160) rfl rfl (by omega) (by decide) (v := cY C m i) (tp_y (by omega)) dX1_tableF_99 ?_
      refine lv_d2f hx hb dX1_tableF_100 (bF_n (yF_b hV _ _)) ?_
      refine w_st (st' := [.float (yF C m i)]) (by rfl) ?_
      refine lv_fstore (lv' := [(7, .float (yF C m i)), (6, .float (xF C m i)), (5, .int (nI (8 * m + i))), (2, .float a), (3, .int (nI (8 * m))), (4, .int (nI (8 * m + (cP C m - 1)))), (0, .ref (ad 0)), (1, .int (nI m))]) hx hb dX1_tableF_101 hl (by decide) rfl (fun ls hl => ?_)
      refine lv_fload_n hx hb dX1_tableF_103 rfl (lv_at hl 3 rfl) ?_
      refine lv_fload hx hb dX1_tableF_104 (lv_at hl 1 rfl) ?_
      refine lv_fsub hx hb dX1_tableF_106 (bF_n (bF_sub (bF_up ha) (xF_b hV _ _))) ?_
      refine lv_aload_n hx hb dX1_tableF_107 rfl (lv_at hl 6 rfl) ?_
      refine mm_get S G 8 (by decide) q1275 rfl (v := .ref (ad 9)) rfl dX1_tableF_108 ?_
      refine lv_iload hx hb dX1_tableF_111 (lv_at hl 2 rfl) ?_
      refine lv_iconst (v := nI 1) hx hb dX1_tableF_113 (by decide) ?_
      refine nn_add hx hb dX1_tableF_114 ?_
      refine w_st (st' := [.int (nI (8 * m + (i + 1))), .ref (ad 9), .float (FP.fsub a (xF C m i))]) (by rfl) ?_
      refine mm_dald S G 8 2 (by decide) (n := 160) rfl rfl (by omega) (by decide) (v := cY C m (i + 1)) (tp_y (by omega)) dX1_tableF_115 ?_
      refine lv_d2f hx hb dX1_tableF_116 (bF_n (yF_b hV _ _)) ?_
      refine w_st (st' := [.float (yF C m (i + 1)), .float (FP.fsub a (xF C m i))]) (by rfl) ?_
      refine lv_fload hx hb dX1_tableF_117 (lv_at hl 0 rfl) ?_
      refine lv_fsub hx hb dX1_tableF_119 (bF_n (bF_sub (yF_b hV _ _) (yF_b hV _ _))) ?_
      refine lv_fmul hx hb dX1_tableF_120 (bF_n (tf_n1 hV ha)) ?_
      refine lv_fstore (lv' := [(8, .float (FP.fmul (FP.fsub a (xF C m i)) (FP.fsub (yF C m (i + 1)) (yF C m i)))), (7, .float (yF C m i)), (6, .float (xF C m i)), (5, .int (nI (8 * m + i))), (2, .float a), (3, .int (nI (8 * m))), (4, .int (nI (8 * m + (cP C m - 1)))), (0, .ref (ad 0)), (1, .int (nI m))]) hx hb dX1_tableF_121 hl (by decide) rfl (fun ls hl => ?_)
      refine lv_fload hx hb dX1_tableF_123 (lv_at hl 0 rfl) ?_
      refine lv_aload_n hx hb dX1_tableF_125 rfl (lv_at hl 7 rfl) ?_
      refine mm_get S G 7 (by decide) q1274 rfl (v := .ref (ad 8)) rfl dX1_tableF_126 ?_
      refine lv_iload hx hb dX1_tableF_129 (lv_at hl 3 rfl) ?_
      refine lv_iconst (v := nI 1) hx hb dX1_tableF_131 (by decide) ?_
      refine nn_add hx hb dX1_tableF_132 ?_
      refine w_st (st' := [.int (nI (8 * m + (i + 1))), .ref (ad 8), .float (FP.fmul (FP.fsub a (xF C m i)) (FP.fsub (yF C m (i + 1)) (yF C m i)))]) (by rfl) ?_
      refine mm_dald S G 7 2 (by decide) (n := 160) rfl rfl (by omega) (by decide) (v := cX C m (i + 1)) (tp_x (by omega)) dX1_tableF_133 ?_
      refine lv_d2f hx hb dX1_tableF_134 (bF_n (xF_b hV _ _)) ?_
      refine w_st (st' := [.float (xF C m (i + 1)), .float (FP.fmul (FP.fsub a (xF C m i)) (FP.fsub (yF C m (i + 1)) (yF C m i)))]) (by rfl) ?_
      refine lv_fload hx hb dX1_tableF_135 (lv_at hl 2 rfl) ?_
      refine lv_fsub hx hb dX1_tableF_137 (bF_n (bF_sub (xF_b hV _ _) (xF_b hV _ _))) ?_
      refine lv_fdiv hx hb dX1_tableF_138 (tf_n2 hV ha hK) ?_
      refine lv_fstore (lv' := [(9, .float (FP.fdiv (FP.fmul (FP.fsub a (xF C m i)) (FP.fsub (yF C m (i + 1)) (yF C m i))) (FP.fsub (xF C m (i + 1)) (xF C m i)))), (8, .float (FP.fmul (FP.fsub a (xF C m i)) (FP.fsub (yF C m (i + 1)) (yF C m i)))), (7, .float (yF C m i)), (6, .float (xF C m i)), (5, .int (nI (8 * m + i))), (2, .float a), (3, .int (nI (8 * m))), (4, .int (nI (8 * m + (cP C m - 1)))), (0, .ref (ad 0)), (1, .int (nI m))]) hx hb dX1_tableF_139 hl (by decide) rfl (fun ls hl => ?_)
      refine lv_fload hx hb dX1_tableF_141 (lv_at hl 0 rfl) ?_
      refine lv_fload hx hb dX1_tableF_143 (lv_at hl 2 rfl) ?_
      refine lv_fadd hx hb dX1_tableF_145 (tf_n3 hV ha hK) ?_
      exact mm_fret S hr hlk G (by simp [tbF, tfK, tfV, hf, c_26, c_47]) rfl rfl dX1_tableF_146
    · refine lv_aload_n hx hb dX1_tableF_50 rfl (lv_at hl 2 rfl) ?_
      refine mm_get S G 8 (by decide) q1275 rfl (v := .ref (ad 9)) rfl dX1_tableF_51 ?_
      refine lv_iload hx hb dX1_tableF_54 (lv_at hl 0 rfl) ?_
      refine mm_dald S G 8 2 (by decide) (n := 160) rfl rfl (by omega) (by decide) (v := cY C m (cP C m - 1)) (tp_y (by omega)) dX1_tableF_56 ?_
      refine lv_d2f hx hb dX1_tableF_57 (bF_n (yF_b hV _ _)) ?_
      refine w_st (st' := [.float (yF C m (cP C m - 1))]) (by rfl) ?_
      exact mm_fret S hr hlk G (by simp [tbF, c_26, c_47]) rfl rfl dX1_tableF_58
  · refine lv_aload_n hx hb dX1_tableF_29 rfl (lv_at hl 2 rfl) ?_
    refine mm_get S G 8 (by decide) q1275 rfl (v := .ref (ad 9)) rfl dX1_tableF_30 ?_
    refine lv_iload_n hx hb dX1_tableF_33 rfl (lv_at hl 1 rfl) ?_
    refine mm_dald S G 8 2 (by decide) (n := 160) rfl rfl (by omega) (by decide) (v := cY C m 0) (by have := tp_y (C := C) (m := m) (i := 0) (by omega); simpa using this) dX1_tableF_34 ?_
    refine lv_d2f hx hb dX1_tableF_35 (bF_n (yF_b hV _ _)) ?_
    refine w_st (st' := [.float (yF C m 0)]) (by rfl) ?_
    exact mm_fret S hr hlk G (by simp [tbF, c_26]) rfl rfl dX1_tableF_36
theorem mt_X1_made (l : Launch) (D : va_G) (dA : Nat → ClassId) (ad : Nat → Nat) (C : tp_C) (d : md_T) (m : Nat) (hC : mOK C) (hm : m < 20) (hV : vOK C) (hR : rOK d) (hI : okM C m) : mC l D dA ad yX1_made cX1_made 8 (some .double) 3 [.int (nI m)] C d (some (.double (mkD C d m))) C (mkL C d m) := by
  refine mm_start (by decide) rfl (Nat.le_of_ble_eq_true rfl) ?_
  intro p0 e0 s0 mid bl0 me0 co0 ls S hr hlk G hl
  have hx := S.1; have hb := S.2.1; have hml := S.2.2.1; have hown := S.2.2.2.1; have hts := S.2.2.2.2
  have hl : lv_has ls 8 [(0, .ref (ad 0)), (1, .int (nI m))] := hl
  have hk14 := hC.k m
  have J47 : ∀ (H : Heap) (locs : List Loc) (ls : Array Slot), mG D dA ad C d s0 H locs → lv_has ls 8 [(4, .double (a0D C (dAD d 19) m 0)), (2, .double (cS C m)), (0, .ref (ad 0)), (1, .int (nI m))] → W p0 l e0 (rm_ 3) s0 mid (Value.ref (ad 0) :: [.int (nI m)]).toArray bl0 me0 co0 H locs 0 0 (MQ bl0 (mQ D dA ad (some (.double (mkD C d m))) C (mkL C d m)) (Value.ref (ad 0) :: [.int (nI m)]).toArray s0 0 0 (mA ad)) (F0 mid 47 ls [.double (a0D C (dAD d 19) m 1)]) := by
    intro H locs ls G hl
    refine lv_dstore (lv' := [(6, .double (a0D C (dAD d 19) m 1)), (4, .double (a0D C (dAD d 19) m 0)), (2, .double (cS C m)), (0, .ref (ad 0)), (1, .int (nI m))]) hx hb dX1_made_47 hl (by decide) rfl (fun ls hl => ?_)
    refine lv_aload_n hx hb dX1_made_49 rfl (lv_at hl 3 rfl) ?_
    refine mm_get S G 1 (by decide) q1268 rfl (v := .ref (ad 2)) rfl dX1_made_50 ?_
    refine lv_iload_n hx hb dX1_made_53 rfl (lv_at hl 4 rfl) ?_
    refine mm_iald S G 1 0 (by decide) (n := 20) rfl rfl (by omega) (by decide) (v := nI (cK C m)) rfl dX1_made_54 ?_
    rcases (show (cK C m = 0) ∨ (cK C m = 1) ∨ (cK C m = 4) ∨ (cK C m = 5) ∨ (cK C m = 6) ∨ (cK C m = 7) ∨ (cK C m = 8) ∨ (cK C m = 9) ∨ (cK C m = 10) ∨ (cK C m = 11) ∨ (cK C m = 12) ∨ (cK C m = 2 ∨ cK C m = 3) ∨ (cK C m = 13) by omega) with c_55 | c_55 | c_55 | c_55 | c_55 | c_55 | c_55 | c_55 | c_55 | c_55 | c_55 | c_55 | c_55
    · refine sw_in (off := 65) (tgt := 120) [0] (by simp [c_55]) hx hb dX1_made_55 (by decide) (by decide) ?_
      refine lv_aload_n hx hb dX1_made_120 rfl (lv_at hl 3 rfl) ?_
      refine lv_iload_n hx hb dX1_made_121 rfl (lv_at hl 4 rfl) ?_
      refine mm_call (As := [.int (nI m)]) (rest := []) S G (mt_X1_sum l D dA ad C d m hC hm hR.rd) q1558 q1560 qs29 q1561 hd_X1_sum ⟨Nat.le_of_ble_eq_true rfl, Nat.le_of_ble_eq_true rfl⟩ rfl hl.1 rfl (Nat.le_of_ble_eq_true rfl) dX1_made_122 ⟨Nat.zero_le _, Nat.zero_le _⟩ (fun H locs G => ?_)
      refine W.eq (g2 := F0 mid 125 ls [.double (suD C (dAD d 19) m)]) rfl ?_
      exact mm_dret S hr hlk G (by (try (rcases c_55 with c_55 | c_55)) <;> simp [mkD, mkL, c_55]) rfl (by (try (rcases c_55 with c_55 | c_55)) <;> simp [mkD, mkL, c_55]) dX1_made_125
    · refine sw_in (off := 71) (tgt := 126) [1] (by simp [c_55]) hx hb dX1_made_55 (by decide) (by decide) ?_
      refine lv_dload hx hb dX1_made_126 (lv_at hl 1 rfl) ?_
      refine lv_dneg hx hb dX1_made_128 ?_
      exact mm_dret S hr hlk G (by (try (rcases c_55 with c_55 | c_55)) <;> simp [mkD, mkL, c_55]) rfl (by (try (rcases c_55 with c_55 | c_55)) <;> simp [mkD, mkL, c_55]) dX1_made_129
    · refine sw_in (off := 75) (tgt := 130) [4] (by simp [c_55]) hx hb dX1_made_55 (by decide) (by decide) ?_
      refine lv_dload hx hb dX1_made_130 (lv_at hl 1 rfl) ?_
      refine lv_dload hx hb dX1_made_132 (lv_at hl 0 rfl) ?_
      refine lv_dmul hx hb dX1_made_134 (nD_mul (a0_b hR.rd) (a0_b hR.rd)) ?_
      exact mm_dret S hr hlk G (by (try (rcases c_55 with c_55 | c_55)) <;> simp [mkD, mkL, c_55]) rfl (by (try (rcases c_55 with c_55 | c_55)) <;> simp [mkD, mkL, c_55]) dX1_made_135
    · refine sw_in (off := 81) (tgt := 136) [5] (by simp [c_55]) hx hb dX1_made_55 (by decide) (by decide) ?_
      refine lv_dload hx hb dX1_made_136 (lv_at hl 0 rfl) ?_
      refine lv_dconst0 hx hb dX1_made_138 ?_
      refine fx_jlne (tgt := 174) hx hb dX1_made_139 dX1_made_140 (by decide) (fun c_140 => ?_) (fun c_140 => ?_)
      · refine lv_dload hx hb dX1_made_174 (lv_at hl 1 rfl) ?_
        refine lv_dload hx hb dX1_made_176 (lv_at hl 0 rfl) ?_
        refine lv_ddiv hx hb dX1_made_178 (nD_div (bD_n (a0_b hR.rd)) (nzD_ne (a0_b hR.rd) c_140)) ?_
        exact mm_dret S hr hlk G (by (try (rcases c_55 with c_55 | c_55)) <;> simp [mkD, mkL, c_55, c_140]) rfl (by (try (rcases c_55 with c_55 | c_55)) <;> simp [mkD, mkL, c_55, c_140]) dX1_made_179
      · refine lv_dload hx hb dX1_made_143 (lv_at hl 1 rfl) ?_
        refine lv_dconst0 hx hb dX1_made_145 ?_
        refine fx_jlne (tgt := 152) hx hb dX1_made_146 dX1_made_147 (by decide) (fun c_147 => ?_) (fun c_147 => ?_)
        · refine lv_aload_n hx hb dX1_made_152 rfl (lv_at hl 3 rfl) ?_
          refine lv_iload_n hx hb dX1_made_153 rfl (lv_at hl 4 rfl) ?_
          refine mm_call (As := [.int (nI m)]) (rest := []) S G (mt_X1_light l D dA ad C d m (by omega)) q1562 q1564 qs30 q1565 hd_X1_light ⟨Nat.le_of_ble_eq_true rfl, Nat.le_of_ble_eq_true rfl⟩ rfl hl.1 rfl (Nat.le_of_ble_eq_true rfl) dX1_made_154 ⟨Nat.zero_le _, Nat.zero_le _⟩ (fun H locs G => ?_)
          refine W.eq (g2 := F0 mid 157 ls []) rfl ?_
          refine lv_dload hx hb dX1_made_157 (lv_at hl 1 rfl) ?_
          refine lv_dconst0 hx hb dX1_made_159 ?_
          refine fx_jlle (tgt := 170) hx hb dX1_made_160 dX1_made_161 (by decide) (fun c_161 => ?_) (fun c_161 => ?_)
          · refine lv_ldc2d hx hb hown (hts _ q1489) dX1_made_170 ?_
            exact mm_dret S hr hlk G (by (try (rcases c_55 with c_55 | c_55)) <;> simp [mkD, mkL, c_55, c_140, c_147, c_161]) rfl (by (try (rcases c_55 with c_55 | c_55)) <;> simp [mkD, mkL, c_55, c_140, c_147, c_161]) dX1_made_173
          · refine lv_ldc2d hx hb hown (hts _ q1472) dX1_made_164 ?_
            refine lv_goto (tgt := 173) hx hb dX1_made_167 (by decide) ?_
            exact mm_dret S hr hlk G (by (try (rcases c_55 with c_55 | c_55)) <;> simp [mkD, mkL, c_55, c_140, c_147, c_161]) rfl (by (try (rcases c_55 with c_55 | c_55)) <;> simp [mkD, mkL, c_55, c_140, c_147, c_161]) dX1_made_173
        · refine lv_dconst0 hx hb dX1_made_150 ?_
          exact mm_dret S hr hlk G (by (try (rcases c_55 with c_55 | c_55)) <;> simp [mkD, mkL, c_55, c_140, c_147]) rfl (by (try (rcases c_55 with c_55 | c_55)) <;> simp [mkD, mkL, c_55, c_140, c_147]) dX1_made_151
    · refine sw_in (off := 125) (tgt := 180) [6] (by simp [c_55]) hx hb dX1_made_55 (by decide) (by decide) ?_
      refine lv_dload hx hb dX1_made_180 (lv_at hl 1 rfl) ?_
      refine lv_dconst0 hx hb dX1_made_182 ?_
      refine fx_jgge (tgt := 194) hx hb dX1_made_183 dX1_made_184 (by decide) (fun c_184 => ?_) (fun c_184 => ?_)
      · refine lv_dload hx hb dX1_made_194 (lv_at hl 1 rfl) ?_
        refine sC_call (As := [.double (a0D C (dAD d 19) m 0)]) (rest := []) S (st_X1_root l (a0D C (dAD d 19) m 0) ⟨bD_up (a0_b hR.rd), c_184⟩) q1566 q1567 q53 q1568 hd_X1_root ⟨Nat.le_of_ble_eq_true rfl, Nat.le_of_ble_eq_true rfl⟩ rfl hl.1 rfl (Nat.le_of_ble_eq_true rfl) dX1_made_196 ⟨Nat.zero_le _, Nat.zero_le _⟩ ?_
        refine W.eq (g2 := F0 mid 199 ls [.double (rtD (a0D C (dAD d 19) m 0))]) rfl ?_
        exact mm_dret S hr hlk G (by (try (rcases c_55 with c_55 | c_55)) <;> simp [mkD, mkL, c_55, c_184]) rfl (by (try (rcases c_55 with c_55 | c_55)) <;> simp [mkD, mkL, c_55, c_184]) dX1_made_199
      · refine lv_aload_n hx hb dX1_made_187 rfl (lv_at hl 3 rfl) ?_
        refine lv_iload_n hx hb dX1_made_188 rfl (lv_at hl 4 rfl) ?_
        refine mm_call (As := [.int (nI m)]) (rest := []) S G (mt_X1_light l D dA ad C d m (by omega)) q1562 q1564 qs30 q1565 hd_X1_light ⟨Nat.le_of_ble_eq_true rfl, Nat.le_of_ble_eq_true rfl⟩ rfl hl.1 rfl (Nat.le_of_ble_eq_true rfl) dX1_made_189 ⟨Nat.zero_le _, Nat.zero_le _⟩ (fun H locs G => ?_)
        refine W.eq (g2 := F0 mid 192 ls []) rfl ?_
        refine lv_dconst0 hx hb dX1_made_192 ?_
        exact mm_dret S hr hlk G (by (try (rcases c_55 with c_55 | c_55)) <;> simp [mkD, mkL, c_55, c_184]) rfl (by (try (rcases c_55 with c_55 | c_55)) <;> simp [mkD, mkL, c_55, c_184]) dX1_made_193
    · refine sw_in (off := 145) (tgt := 200) [7] (by simp [c_55]) hx hb dX1_made_55 (by decide) (by decide) ?_
      refine lv_aload_n hx hb dX1_made_200 rfl (lv_at hl 3 rfl) ?_
      refine lv_iload_n hx hb dX1_made_201 rfl (lv_at hl 4 rfl) ?_
      refine lv_dload hx hb dX1_made_202 (lv_at hl 1 rfl) ?_
      refine mm_call (As := [.int (nI m), .double (a0D C (dAD d 19) m 0)]) (rest := []) S G (mt_X1_table l D dA ad C d m (a0D C (dAD d 19) m 0) hC hm hV (a0_b hR.rd) (hI.2 c_55)) q1576 q1578 qs31 q1579 hd_X1_table ⟨Nat.le_of_ble_eq_true rfl, Nat.le_of_ble_eq_true rfl⟩ rfl hl.1 rfl (Nat.le_of_ble_eq_true rfl) dX1_made_204 ⟨Nat.zero_le _, Nat.zero_le _⟩ (fun H locs G => ?_)
      refine W.eq (g2 := F0 mid 207 ls [.double (tbD C m (a0D C (dAD d 19) m 0))]) rfl ?_
      exact mm_dret S hr hlk G (by (try (rcases c_55 with c_55 | c_55)) <;> simp [mkD, mkL, c_55]) rfl (by (try (rcases c_55 with c_55 | c_55)) <;> simp [mkD, mkL, c_55]) dX1_made_207
    · refine sw_in (off := 153) (tgt := 208) [8] (by simp [c_55]) hx hb dX1_made_55 (by decide) (by decide) ?_
      refine lv_dload hx hb dX1_made_208 (lv_at hl 1 rfl) ?_
      refine lv_dload hx hb dX1_made_210 (lv_at hl 0 rfl) ?_
      refine fx_jlle (tgt := 220) hx hb dX1_made_212 dX1_made_213 (by decide) (fun c_213 => ?_) (fun c_213 => ?_)
      · refine lv_ldc2d hx hb hown (hts _ q1467) dX1_made_220 ?_
        exact mm_dret S hr hlk G (by (try (rcases c_55 with c_55 | c_55)) <;> simp [mkD, mkL, c_55, c_213]) rfl (by (try (rcases c_55 with c_55 | c_55)) <;> simp [mkD, mkL, c_55, c_213]) dX1_made_223
      · refine lv_dconst1 hx hb dX1_made_216 ?_
        refine lv_goto (tgt := 223) hx hb dX1_made_217 (by decide) ?_
        exact mm_dret S hr hlk G (by (try (rcases c_55 with c_55 | c_55)) <;> simp [mkD, mkL, c_55, c_213]) rfl (by (try (rcases c_55 with c_55 | c_55)) <;> simp [mkD, mkL, c_55, c_213]) dX1_made_223
    · refine sw_in (off := 169) (tgt := 224) [9] (by simp [c_55]) hx hb dX1_made_55 (by decide) (by decide) ?_
      obtain ⟨q2, hq2⟩ := op_some (okM_2 hI c_55)
      refine lv_aload_n hx hb dX1_made_224 rfl (lv_at hl 3 rfl) ?_
      refine lv_iload_n hx hb dX1_made_225 rfl (lv_at hl 4 rfl) ?_
      refine lv_iconst (v := nI 2) hx hb dX1_made_226 (by decide) ?_
      refine mm_call (As := [.int (nI m), .int (nI 2)]) (rest := []) S G (mt_X1_input l D dA ad C d m 2 hC (by omega) (by omega) (by assumption)) q1554 q1556 qs28 q1557 hd_X1_input ⟨Nat.le_of_ble_eq_true rfl, Nat.le_of_ble_eq_true rfl⟩ rfl hl.1 rfl (Nat.le_of_ble_eq_true rfl) dX1_made_227 ⟨Nat.zero_le _, Nat.zero_le _⟩ (fun H locs G => ?_)
      refine W.eq (g2 := F0 mid 230 ls [.double (inD C (dAD d 19) m 2)]) rfl ?_
      refine lv_dconst0 hx hb dX1_made_230 ?_
      refine fx_jlle (tgt := 240) hx hb dX1_made_231 dX1_made_232 (by decide) (fun c_232 => ?_) (fun c_232 => ?_)
      · refine lv_dload hx hb dX1_made_240 (lv_at hl 0 rfl) ?_
        exact mm_dret S hr hlk G (by (try (rcases c_55 with c_55 | c_55)) <;> simp [mkD, mkL, c_55, c_232]) rfl (by (try (rcases c_55 with c_55 | c_55)) <;> simp [mkD, mkL, c_55, c_232]) dX1_made_242
      · refine lv_dload hx hb dX1_made_235 (lv_at hl 1 rfl) ?_
        refine lv_goto (tgt := 242) hx hb dX1_made_237 (by decide) ?_
        exact mm_dret S hr hlk G (by (try (rcases c_55 with c_55 | c_55)) <;> simp [mkD, mkL, c_55, c_232]) rfl (by (try (rcases c_55 with c_55 | c_55)) <;> simp [mkD, mkL, c_55, c_232]) dX1_made_242
    · refine sw_in (off := 188) (tgt := 243) [10] (by simp [c_55]) hx hb dX1_made_55 (by decide) (by decide) ?_
      refine lv_dload hx hb dX1_made_243 (lv_at hl 1 rfl) ?_
      refine lv_dload_n hx hb dX1_made_245 rfl (lv_at hl 2 rfl) ?_
      refine lv_dmul hx hb dX1_made_246 (nD_mul (a0_b hR.rd) (hV.s m)) ?_
      exact mm_dret S hr hlk G (by (try (rcases c_55 with c_55 | c_55)) <;> simp [mkD, mkL, c_55]) rfl (by (try (rcases c_55 with c_55 | c_55)) <;> simp [mkD, mkL, c_55]) dX1_made_247
    · refine sw_in (off := 193) (tgt := 248) [11] (by simp [c_55]) hx hb dX1_made_55 (by decide) (by decide) ?_
      refine lv_aload_n hx hb dX1_made_248 rfl (lv_at hl 3 rfl) ?_
      refine mm_get S G 21 (by decide) q1288 rfl (v := .ref (ad 22)) rfl dX1_made_249 ?_
      refine lv_bipush (v := nI 16) hx hb dX1_made_252 (by decide) ?_
      refine lv_iload_n hx hb dX1_made_254 rfl (lv_at hl 4 rfl) ?_
      refine nn_mul hx hb dX1_made_255 ?_
      refine mm_dald S G 21 2 (by decide) (n := 320) rfl rfl (by omega) (by decide) (v := dAD d 21 (16 * m)) rfl dX1_made_256 ?_
      exact mm_dret S hr hlk G (by (try (rcases c_55 with c_55 | c_55)) <;> simp [mkD, mkL, c_55]) rfl (by (try (rcases c_55 with c_55 | c_55)) <;> simp [mkD, mkL, c_55]) dX1_made_257
    · refine sw_in (off := 203) (tgt := 258) [12] (by simp [c_55]) hx hb dX1_made_55 (by decide) (by decide) ?_
      refine lv_dload hx hb dX1_made_258 (lv_at hl 1 rfl) ?_
      refine lv_dload_n hx hb dX1_made_260 rfl (lv_at hl 2 rfl) ?_
      refine fx_jlle (tgt := 269) hx hb dX1_made_261 dX1_made_262 (by decide) (fun c_262 => ?_) (fun c_262 => ?_)
      · refine lv_dload hx hb dX1_made_269 (lv_at hl 1 rfl) ?_
        refine lv_dload_n hx hb dX1_made_271 rfl (lv_at hl 2 rfl) ?_
        refine lv_dneg hx hb dX1_made_272 ?_
        refine fx_jgge (tgt := 282) hx hb dX1_made_273 dX1_made_274 (by decide) (fun c_274 => ?_) (fun c_274 => ?_)
        · refine lv_dload hx hb dX1_made_282 (lv_at hl 1 rfl) ?_
          exact mm_dret S hr hlk G (by (try (rcases c_55 with c_55 | c_55)) <;> simp [mkD, mkL, c_55, c_262, c_274]) rfl (by (try (rcases c_55 with c_55 | c_55)) <;> simp [mkD, mkL, c_55, c_262, c_274]) dX1_made_284
        · refine lv_dload_n hx hb dX1_made_277 rfl (lv_at hl 2 rfl) ?_
          refine lv_dneg hx hb dX1_made_278 ?_
          refine lv_goto (tgt := 284) hx hb dX1_made_279 (by decide) ?_
          exact mm_dret S hr hlk G (by (try (rcases c_55 with c_55 | c_55)) <;> simp [mkD, mkL, c_55, c_262, c_274]) rfl (by (try (rcases c_55 with c_55 | c_55)) <;> simp [mkD, mkL, c_55, c_262, c_274]) dX1_made_284
      · refine lv_dload_n hx hb dX1_made_265 rfl (lv_at hl 2 rfl) ?_
        refine lv_goto (tgt := 284) hx hb dX1_made_266 (by decide) ?_
        exact mm_dret S hr hlk G (by (try (rcases c_55 with c_55 | c_55)) <;> simp [mkD, mkL, c_55, c_262]) rfl (by (try (rcases c_55 with c_55 | c_55)) <;> simp [mkD, mkL, c_55, c_262]) dX1_made_284
    · refine sw_in (off := 230) (tgt := 285) [2, 3] (by rcases c_55 with h | h <;> simp [h]) hx hb dX1_made_55 (by decide) (by decide) ?_
      refine lv_aload_n hx hb dX1_made_285 rfl (lv_at hl 3 rfl) ?_
      refine mm_get S G 17 (by decide) q1284 rfl (v := .ref (ad 18)) rfl dX1_made_286 ?_
      refine lv_iload_n hx hb dX1_made_289 rfl (lv_at hl 4 rfl) ?_
      refine mm_dald S G 17 2 (by decide) (n := 20) rfl rfl (by omega) (by decide) (v := dAD d 17 m) rfl dX1_made_290 ?_
      exact mm_dret S hr hlk G (by (try (rcases c_55 with c_55 | c_55)) <;> simp [mkD, mkL, c_55]) rfl (by (try (rcases c_55 with c_55 | c_55)) <;> simp [mkD, mkL, c_55]) dX1_made_291
    · refine sw_out (tgt := 285) [13] (by simp [c_55]) hx hb dX1_made_55 (by decide) (by decide) ?_
      refine lv_aload_n hx hb dX1_made_285 rfl (lv_at hl 3 rfl) ?_
      refine mm_get S G 17 (by decide) q1284 rfl (v := .ref (ad 18)) rfl dX1_made_286 ?_
      refine lv_iload_n hx hb dX1_made_289 rfl (lv_at hl 4 rfl) ?_
      refine mm_dald S G 17 2 (by decide) (n := 20) rfl rfl (by omega) (by decide) (v := dAD d 17 m) rfl dX1_made_290 ?_
      exact mm_dret S hr hlk G (by (try (rcases c_55 with c_55 | c_55)) <;> simp [mkD, mkL, c_55]) rfl (by (try (rcases c_55 with c_55 | c_55)) <;> simp [mkD, mkL, c_55]) dX1_made_291
  have J26 : ∀ (H : Heap) (locs : List Loc) (ls : Array Slot), mG D dA ad C d s0 H locs → lv_has ls 8 [(2, .double (cS C m)), (0, .ref (ad 0)), (1, .int (nI m))] → W p0 l e0 (rm_ 3) s0 mid (Value.ref (ad 0) :: [.int (nI m)]).toArray bl0 me0 co0 H locs 0 0 (MQ bl0 (mQ D dA ad (some (.double (mkD C d m))) C (mkL C d m)) (Value.ref (ad 0) :: [.int (nI m)]).toArray s0 0 0 (mA ad)) (F0 mid 26 ls [.double (a0D C (dAD d 19) m 0)]) := by
    intro H locs ls G hl
    refine lv_dstore (lv' := [(4, .double (a0D C (dAD d 19) m 0)), (2, .double (cS C m)), (0, .ref (ad 0)), (1, .int (nI m))]) hx hb dX1_made_26 hl (by decide) rfl (fun ls hl => ?_)
    refine lv_aload_n hx hb dX1_made_28 rfl (lv_at hl 2 rfl) ?_
    refine lv_iload_n hx hb dX1_made_29 rfl (lv_at hl 3 rfl) ?_
    refine lv_iconst (v := nI 1) hx hb dX1_made_30 (by decide) ?_
    refine mm_call (As := [.int (nI m), .int (nI 1)]) (rest := []) S G (mt_X1_has l D dA ad C d m 1 hC (by omega) (by omega)) q1513 q1515 qs21 q1516 hd_X1_has ⟨Nat.le_of_ble_eq_true rfl, Nat.le_of_ble_eq_true rfl⟩ rfl hl.1 rfl (Nat.le_of_ble_eq_true rfl) dX1_made_31 ⟨Nat.zero_le _, Nat.zero_le _⟩ (fun H locs G => ?_)
    refine W.eq (g2 := F0 mid 34 ls [.int (bI ((cF C m 1).isSome))]) rfl ?_
    refine bb_eq (tgt := 46) hx hb dX1_made_34 (by decide) (fun c_34 => ?_) (fun c_34 => ?_)
    · refine lv_dconst0 hx hb dX1_made_46 ?_
      refine w_st (st' := [.double (a0D C (dAD d 19) m 1)]) (by simp [a0D, c_34]) ?_
      exact J47 _ _ ls G (lv_sub hl [0, 1, 2, 3] rfl)
    · obtain ⟨q1, hq1⟩ := op_some c_34
      refine lv_aload_n hx hb dX1_made_37 rfl (lv_at hl 2 rfl) ?_
      refine lv_iload_n hx hb dX1_made_38 rfl (lv_at hl 3 rfl) ?_
      refine lv_iconst (v := nI 1) hx hb dX1_made_39 (by decide) ?_
      refine mm_call (As := [.int (nI m), .int (nI 1)]) (rest := []) S G (mt_X1_input l D dA ad C d m 1 hC (by omega) (by omega) (by assumption)) q1554 q1556 qs28 q1557 hd_X1_input ⟨Nat.le_of_ble_eq_true rfl, Nat.le_of_ble_eq_true rfl⟩ rfl hl.1 rfl (Nat.le_of_ble_eq_true rfl) dX1_made_40 ⟨Nat.zero_le _, Nat.zero_le _⟩ (fun H locs G => ?_)
      refine W.eq (g2 := F0 mid 43 ls [.double (inD C (dAD d 19) m 1)]) rfl ?_
      refine lv_goto (tgt := 47) hx hb dX1_made_43 (by decide) ?_
      refine w_st (st' := [.double (a0D C (dAD d 19) m 1)]) (by simp [a0D, c_34]) ?_
      exact J47 _ _ ls G (lv_sub hl [0, 1, 2, 3] rfl)
  refine lv_aload_n hx hb dX1_made_0 rfl (lv_at hl 0 rfl) ?_
  refine mm_get S G 2 (by decide) q1269 rfl (v := .ref (ad 3)) rfl dX1_made_1 ?_
  refine lv_iload_n hx hb dX1_made_4 rfl (lv_at hl 1 rfl) ?_
  refine mm_dald S G 2 2 (by decide) (n := 20) rfl rfl (by omega) (by decide) (v := cS C m) rfl dX1_made_5 ?_
  refine lv_dstore_n (lv' := [(2, .double (cS C m)), (0, .ref (ad 0)), (1, .int (nI m))]) hx hb dX1_made_6 rfl hl (by decide) rfl (fun ls hl => ?_)
  refine lv_aload_n hx hb dX1_made_7 rfl (lv_at hl 1 rfl) ?_
  refine lv_iload_n hx hb dX1_made_8 rfl (lv_at hl 2 rfl) ?_
  refine lv_iconst (v := nI 0) hx hb dX1_made_9 (by decide) ?_
  refine mm_call (As := [.int (nI m), .int (nI 0)]) (rest := []) S G (mt_X1_has l D dA ad C d m 0 hC (by omega) (by omega)) q1513 q1515 qs21 q1516 hd_X1_has ⟨Nat.le_of_ble_eq_true rfl, Nat.le_of_ble_eq_true rfl⟩ rfl hl.1 rfl (Nat.le_of_ble_eq_true rfl) dX1_made_10 ⟨Nat.zero_le _, Nat.zero_le _⟩ (fun H locs G => ?_)
  refine W.eq (g2 := F0 mid 13 ls [.int (bI ((cF C m 0).isSome))]) rfl ?_
  refine bb_eq (tgt := 25) hx hb dX1_made_13 (by decide) (fun c_13 => ?_) (fun c_13 => ?_)
  · refine lv_dconst0 hx hb dX1_made_25 ?_
    refine w_st (st' := [.double (a0D C (dAD d 19) m 0)]) (by simp [a0D, c_13]) ?_
    exact J26 _ _ ls G (lv_sub hl [0, 1, 2] rfl)
  · obtain ⟨q0, hq0⟩ := op_some c_13
    refine lv_aload_n hx hb dX1_made_16 rfl (lv_at hl 1 rfl) ?_
    refine lv_iload_n hx hb dX1_made_17 rfl (lv_at hl 2 rfl) ?_
    refine lv_iconst (v := nI 0) hx hb dX1_made_18 (by decide) ?_
    refine mm_call (As := [.int (nI m), .int (nI 0)]) (rest := []) S G (mt_X1_input l D dA ad C d m 0 hC (by omega) (by omega) (by assumption)) q1554 q1556 qs28 q1557 hd_X1_input ⟨Nat.le_of_ble_eq_true rfl, Nat.le_of_ble_eq_true rfl⟩ rfl hl.1 rfl (Nat.le_of_ble_eq_true rfl) dX1_made_19 ⟨Nat.zero_le _, Nat.zero_le _⟩ (fun H locs G => ?_)
    refine W.eq (g2 := F0 mid 22 ls [.double (inD C (dAD d 19) m 0)]) rfl ?_
    refine lv_goto (tgt := 26) hx hb dX1_made_22 (by decide) ?_
    refine w_st (st' := [.double (a0D C (dAD d 19) m 0)]) (by simp [a0D, c_13]) ?_
    exact J26 _ _ ls G (lv_sub hl [0, 1, 2] rfl)
theorem mt_X1_madeF (l : Launch) (D : va_G) (dA : Nat → ClassId) (ad : Nat → Nat) (C : tp_C) (d : md_T) (m : Nat) (hC : mOK C) (hm : m < 20) (hV : vOK C) (hR : rOK d) (hI : okM C m) : mC l D dA ad yX1_madeF cX1_madeF 5 (some .float) 3 [.int (nI m)] C d (some (.float (mkF C d m))) C (mkLF C d m) := by
  refine mm_start (by decide) rfl (Nat.le_of_ble_eq_true rfl) ?_
  intro p0 e0 s0 mid bl0 me0 co0 ls S hr hlk G hl
  have hx := S.1; have hb := S.2.1; have hml := S.2.2.1; have hown := S.2.2.2.1; have hts := S.2.2.2.2
  have hl : lv_has ls 5 [(0, .ref (ad 0)), (1, .int (nI m))] := hl
  have hk14 := hC.k m
  have J47 : ∀ (H : Heap) (locs : List Loc) (ls : Array Slot), mG D dA ad C d s0 H locs → lv_has ls 5 [(3, .float (a0F C (dAF d 20) m 0)), (2, .float (sF C m)), (0, .ref (ad 0)), (1, .int (nI m))] → W p0 l e0 (rm_ 3) s0 mid (Value.ref (ad 0) :: [.int (nI m)]).toArray bl0 me0 co0 H locs 0 0 (MQ bl0 (mQ D dA ad (some (.float (mkF C d m))) C (mkLF C d m)) (Value.ref (ad 0) :: [.int (nI m)]).toArray s0 0 0 (mA ad)) (F0 mid 47 ls [.float (a0F C (dAF d 20) m 1)]) := by
    intro H locs ls G hl
    refine lv_fstore (lv' := [(4, .float (a0F C (dAF d 20) m 1)), (3, .float (a0F C (dAF d 20) m 0)), (2, .float (sF C m)), (0, .ref (ad 0)), (1, .int (nI m))]) hx hb dX1_madeF_47 hl (by decide) rfl (fun ls hl => ?_)
    refine lv_aload_n hx hb dX1_madeF_49 rfl (lv_at hl 3 rfl) ?_
    refine mm_get S G 1 (by decide) q1268 rfl (v := .ref (ad 2)) rfl dX1_madeF_50 ?_
    refine lv_iload_n hx hb dX1_madeF_53 rfl (lv_at hl 4 rfl) ?_
    refine mm_iald S G 1 0 (by decide) (n := 20) rfl rfl (by omega) (by decide) (v := nI (cK C m)) rfl dX1_madeF_54 ?_
    rcases (show (cK C m = 0) ∨ (cK C m = 1) ∨ (cK C m = 4) ∨ (cK C m = 5) ∨ (cK C m = 6) ∨ (cK C m = 7) ∨ (cK C m = 8) ∨ (cK C m = 9) ∨ (cK C m = 10) ∨ (cK C m = 11) ∨ (cK C m = 12) ∨ (cK C m = 2 ∨ cK C m = 3) ∨ (cK C m = 13) by omega) with c_55 | c_55 | c_55 | c_55 | c_55 | c_55 | c_55 | c_55 | c_55 | c_55 | c_55 | c_55 | c_55
    · refine sw_in (off := 65) (tgt := 120) [0] (by simp [c_55]) hx hb dX1_madeF_55 (by decide) (by decide) ?_
      refine lv_aload_n hx hb dX1_madeF_120 rfl (lv_at hl 3 rfl) ?_
      refine lv_iload_n hx hb dX1_madeF_121 rfl (lv_at hl 4 rfl) ?_
      refine mm_call (As := [.int (nI m)]) (rest := []) S G (mt_X1_sumF l D dA ad C d m hC hm hR.rf) q1592 q1594 qs35 q1595 hd_X1_sumF ⟨Nat.le_of_ble_eq_true rfl, Nat.le_of_ble_eq_true rfl⟩ rfl hl.1 rfl (Nat.le_of_ble_eq_true rfl) dX1_madeF_122 ⟨Nat.zero_le _, Nat.zero_le _⟩ (fun H locs G => ?_)
      refine W.eq (g2 := F0 mid 125 ls [.float (suF C (dAF d 20) m)]) rfl ?_
      exact mm_fret S hr hlk G (by (try (rcases c_55 with c_55 | c_55)) <;> simp [mkF, mkLF, c_55]) rfl (by (try (rcases c_55 with c_55 | c_55)) <;> simp [mkF, mkLF, c_55]) dX1_madeF_125
    · refine sw_in (off := 71) (tgt := 126) [1] (by simp [c_55]) hx hb dX1_madeF_55 (by decide) (by decide) ?_
      refine lv_fload_n hx hb dX1_madeF_126 rfl (lv_at hl 1 rfl) ?_
      refine lv_fneg hx hb dX1_madeF_127 ?_
      exact mm_fret S hr hlk G (by (try (rcases c_55 with c_55 | c_55)) <;> simp [mkF, mkLF, c_55]) rfl (by (try (rcases c_55 with c_55 | c_55)) <;> simp [mkF, mkLF, c_55]) dX1_madeF_128
    · refine sw_in (off := 74) (tgt := 129) [4] (by simp [c_55]) hx hb dX1_madeF_55 (by decide) (by decide) ?_
      refine lv_fload_n hx hb dX1_madeF_129 rfl (lv_at hl 1 rfl) ?_
      refine lv_fload hx hb dX1_madeF_130 (lv_at hl 0 rfl) ?_
      refine lv_fmul hx hb dX1_madeF_132 (nF_mul (a0_bF hR.rf) (a0_bF hR.rf)) ?_
      exact mm_fret S hr hlk G (by (try (rcases c_55 with c_55 | c_55)) <;> simp [mkF, mkLF, c_55]) rfl (by (try (rcases c_55 with c_55 | c_55)) <;> simp [mkF, mkLF, c_55]) dX1_madeF_133
    · refine sw_in (off := 79) (tgt := 134) [5] (by simp [c_55]) hx hb dX1_madeF_55 (by decide) (by decide) ?_
      refine lv_fload hx hb dX1_madeF_134 (lv_at hl 0 rfl) ?_
      refine lv_fconst0 hx hb dX1_madeF_136 ?_
      refine fy_jlne (tgt := 168) hx hb dX1_madeF_137 dX1_madeF_138 (by decide) (fun c_138 => ?_) (fun c_138 => ?_)
      · refine lv_fload_n hx hb dX1_madeF_168 rfl (lv_at hl 1 rfl) ?_
        refine lv_fload hx hb dX1_madeF_169 (lv_at hl 0 rfl) ?_
        refine lv_fdiv hx hb dX1_madeF_171 (nF_div (bF_n (a0_bF hR.rf)) (nzF_ne (a0_bF hR.rf) c_138)) ?_
        exact mm_fret S hr hlk G (by (try (rcases c_55 with c_55 | c_55)) <;> simp [mkF, mkLF, c_55, c_138]) rfl (by (try (rcases c_55 with c_55 | c_55)) <;> simp [mkF, mkLF, c_55, c_138]) dX1_madeF_172
      · refine lv_fload_n hx hb dX1_madeF_141 rfl (lv_at hl 1 rfl) ?_
        refine lv_fconst0 hx hb dX1_madeF_142 ?_
        refine fy_jlne (tgt := 149) hx hb dX1_madeF_143 dX1_madeF_144 (by decide) (fun c_144 => ?_) (fun c_144 => ?_)
        · refine lv_aload_n hx hb dX1_madeF_149 rfl (lv_at hl 3 rfl) ?_
          refine lv_iload_n hx hb dX1_madeF_150 rfl (lv_at hl 4 rfl) ?_
          refine mm_call (As := [.int (nI m)]) (rest := []) S G (mt_X1_light l D dA ad C d m (by omega)) q1562 q1564 qs30 q1565 hd_X1_light ⟨Nat.le_of_ble_eq_true rfl, Nat.le_of_ble_eq_true rfl⟩ rfl hl.1 rfl (Nat.le_of_ble_eq_true rfl) dX1_madeF_151 ⟨Nat.zero_le _, Nat.zero_le _⟩ (fun H locs G => ?_)
          refine W.eq (g2 := F0 mid 154 ls []) rfl ?_
          refine lv_fload_n hx hb dX1_madeF_154 rfl (lv_at hl 1 rfl) ?_
          refine lv_fconst0 hx hb dX1_madeF_155 ?_
          refine fy_jlle (tgt := 165) hx hb dX1_madeF_156 dX1_madeF_157 (by decide) (fun c_157 => ?_) (fun c_157 => ?_)
          · refine lv_ldcf hx hb hown (hts _ q1597) dX1_madeF_165 ?_
            exact mm_fret S hr hlk G (by (try (rcases c_55 with c_55 | c_55)) <;> simp [mkF, mkLF, c_55, c_138, c_144, c_157]) rfl (by (try (rcases c_55 with c_55 | c_55)) <;> simp [mkF, mkLF, c_55, c_138, c_144, c_157]) dX1_madeF_167
          · refine lv_ldcf hx hb hown (hts _ q1596) dX1_madeF_160 ?_
            refine lv_goto (tgt := 167) hx hb dX1_madeF_162 (by decide) ?_
            exact mm_fret S hr hlk G (by (try (rcases c_55 with c_55 | c_55)) <;> simp [mkF, mkLF, c_55, c_138, c_144, c_157]) rfl (by (try (rcases c_55 with c_55 | c_55)) <;> simp [mkF, mkLF, c_55, c_138, c_144, c_157]) dX1_madeF_167
        · refine lv_fconst0 hx hb dX1_madeF_147 ?_
          exact mm_fret S hr hlk G (by (try (rcases c_55 with c_55 | c_55)) <;> simp [mkF, mkLF, c_55, c_138, c_144]) rfl (by (try (rcases c_55 with c_55 | c_55)) <;> simp [mkF, mkLF, c_55, c_138, c_144]) dX1_madeF_148
    · refine sw_in (off := 118) (tgt := 173) [6] (by simp [c_55]) hx hb dX1_madeF_55 (by decide) (by decide) ?_
      refine lv_fload_n hx hb dX1_madeF_173 rfl (lv_at hl 1 rfl) ?_
      refine lv_fconst0 hx hb dX1_madeF_174 ?_
      refine fy_jgge (tgt := 186) hx hb dX1_madeF_175 dX1_madeF_176 (by decide) (fun c_176 => ?_) (fun c_176 => ?_)
      · refine lv_fload_n hx hb dX1_madeF_186 rfl (lv_at hl 1 rfl) ?_
        refine lv_f2d hx hb dX1_madeF_187 (nD_f2d (bF_n (a0_bF hR.rf))) ?_
        refine sC_call (As := [.double (FP.f2d (a0F C (dAF d 20) m 0))]) (rest := []) S (st_X1_root l (FP.f2d (a0F C (dAF d 20) m 0)) ⟨bD_up (bD_f2d (a0_bF hR.rf)), fx_lt_f2d (a0_bF hR.rf) c_176⟩) q1566 q1567 q53 q1568 hd_X1_root ⟨Nat.le_of_ble_eq_true rfl, Nat.le_of_ble_eq_true rfl⟩ rfl hl.1 rfl (Nat.le_of_ble_eq_true rfl) dX1_madeF_188 ⟨Nat.zero_le _, Nat.zero_le _⟩ ?_
        refine W.eq (g2 := F0 mid 191 ls [.double (rtD (FP.f2d (a0F C (dAF d 20) m 0)))]) rfl ?_
        refine lv_d2f hx hb dX1_madeF_191 (nF_d2f (rt_n ⟨bD_up (bD_f2d (a0_bF hR.rf)), fx_lt_f2d (a0_bF hR.rf) c_176⟩)) ?_
        exact mm_fret S hr hlk G (by (try (rcases c_55 with c_55 | c_55)) <;> simp [mkF, mkLF, c_55, c_176]) rfl (by (try (rcases c_55 with c_55 | c_55)) <;> simp [mkF, mkLF, c_55, c_176]) dX1_madeF_192
      · refine lv_aload_n hx hb dX1_madeF_179 rfl (lv_at hl 3 rfl) ?_
        refine lv_iload_n hx hb dX1_madeF_180 rfl (lv_at hl 4 rfl) ?_
        refine mm_call (As := [.int (nI m)]) (rest := []) S G (mt_X1_light l D dA ad C d m (by omega)) q1562 q1564 qs30 q1565 hd_X1_light ⟨Nat.le_of_ble_eq_true rfl, Nat.le_of_ble_eq_true rfl⟩ rfl hl.1 rfl (Nat.le_of_ble_eq_true rfl) dX1_madeF_181 ⟨Nat.zero_le _, Nat.zero_le _⟩ (fun H locs G => ?_)
        refine W.eq (g2 := F0 mid 184 ls []) rfl ?_
        refine lv_fconst0 hx hb dX1_madeF_184 ?_
        exact mm_fret S hr hlk G (by (try (rcases c_55 with c_55 | c_55)) <;> simp [mkF, mkLF, c_55, c_176]) rfl (by (try (rcases c_55 with c_55 | c_55)) <;> simp [mkF, mkLF, c_55, c_176]) dX1_madeF_185
    · refine sw_in (off := 138) (tgt := 193) [7] (by simp [c_55]) hx hb dX1_madeF_55 (by decide) (by decide) ?_
      refine lv_aload_n hx hb dX1_madeF_193 rfl (lv_at hl 3 rfl) ?_
      refine lv_iload_n hx hb dX1_madeF_194 rfl (lv_at hl 4 rfl) ?_
      refine lv_fload_n hx hb dX1_madeF_195 rfl (lv_at hl 1 rfl) ?_
      refine mm_call (As := [.int (nI m), .float (a0F C (dAF d 20) m 0)]) (rest := []) S G (mt_X1_tableF l D dA ad C d m (a0F C (dAF d 20) m 0) hC hm hV (a0_bF hR.rf) (hI.2 c_55)) q1598 q1600 qs36 q1601 hd_X1_tableF ⟨Nat.le_of_ble_eq_true rfl, Nat.le_of_ble_eq_true rfl⟩ rfl hl.1 rfl (Nat.le_of_ble_eq_true rfl) dX1_madeF_196 ⟨Nat.zero_le _, Nat.zero_le _⟩ (fun H locs G => ?_)
      refine W.eq (g2 := F0 mid 199 ls [.float (tbF C m (a0F C (dAF d 20) m 0))]) rfl ?_
      exact mm_fret S hr hlk G (by (try (rcases c_55 with c_55 | c_55)) <;> simp [mkF, mkLF, c_55]) rfl (by (try (rcases c_55 with c_55 | c_55)) <;> simp [mkF, mkLF, c_55]) dX1_madeF_199
    · refine sw_in (off := 145) (tgt := 200) [8] (by simp [c_55]) hx hb dX1_madeF_55 (by decide) (by decide) ?_
      refine lv_fload_n hx hb dX1_madeF_200 rfl (lv_at hl 1 rfl) ?_
      refine lv_fload hx hb dX1_madeF_201 (lv_at hl 0 rfl) ?_
      refine fy_jlle (tgt := 211) hx hb dX1_madeF_203 dX1_madeF_204 (by decide) (fun c_204 => ?_) (fun c_204 => ?_)
      · refine lv_ldcfw hx hb hown (hts _ q1602) dX1_madeF_211 ?_
        exact mm_fret S hr hlk G (by (try (rcases c_55 with c_55 | c_55)) <;> simp [mkF, mkLF, c_55, c_204]) rfl (by (try (rcases c_55 with c_55 | c_55)) <;> simp [mkF, mkLF, c_55, c_204]) dX1_madeF_214
      · refine lv_fconst1 hx hb dX1_madeF_207 ?_
        refine lv_goto (tgt := 214) hx hb dX1_madeF_208 (by decide) ?_
        exact mm_fret S hr hlk G (by (try (rcases c_55 with c_55 | c_55)) <;> simp [mkF, mkLF, c_55, c_204]) rfl (by (try (rcases c_55 with c_55 | c_55)) <;> simp [mkF, mkLF, c_55, c_204]) dX1_madeF_214
    · refine sw_in (off := 160) (tgt := 215) [9] (by simp [c_55]) hx hb dX1_madeF_55 (by decide) (by decide) ?_
      obtain ⟨q2, hq2⟩ := op_some (okM_2 hI c_55)
      refine lv_aload_n hx hb dX1_madeF_215 rfl (lv_at hl 3 rfl) ?_
      refine lv_iload_n hx hb dX1_madeF_216 rfl (lv_at hl 4 rfl) ?_
      refine lv_iconst (v := nI 2) hx hb dX1_madeF_217 (by decide) ?_
      refine mm_call (As := [.int (nI m), .int (nI 2)]) (rest := []) S G (mt_X1_inputF l D dA ad C d m 2 hC (by omega) (by omega) (by assumption)) q1588 q1590 qs34 q1591 hd_X1_inputF ⟨Nat.le_of_ble_eq_true rfl, Nat.le_of_ble_eq_true rfl⟩ rfl hl.1 rfl (Nat.le_of_ble_eq_true rfl) dX1_madeF_218 ⟨Nat.zero_le _, Nat.zero_le _⟩ (fun H locs G => ?_)
      refine W.eq (g2 := F0 mid 221 ls [.float (inF C (dAF d 20) m 2)]) rfl ?_
      refine lv_fconst0 hx hb dX1_madeF_221 ?_
      refine fy_jlle (tgt := 230) hx hb dX1_madeF_222 dX1_madeF_223 (by decide) (fun c_223 => ?_) (fun c_223 => ?_)
      · refine lv_fload hx hb dX1_madeF_230 (lv_at hl 0 rfl) ?_
        exact mm_fret S hr hlk G (by (try (rcases c_55 with c_55 | c_55)) <;> simp [mkF, mkLF, c_55, c_223]) rfl (by (try (rcases c_55 with c_55 | c_55)) <;> simp [mkF, mkLF, c_55, c_223]) dX1_madeF_232
      · refine lv_fload_n hx hb dX1_madeF_226 rfl (lv_at hl 1 rfl) ?_
        refine lv_goto (tgt := 232) hx hb dX1_madeF_227 (by decide) ?_
        exact mm_fret S hr hlk G (by (try (rcases c_55 with c_55 | c_55)) <;> simp [mkF, mkLF, c_55, c_223]) rfl (by (try (rcases c_55 with c_55 | c_55)) <;> simp [mkF, mkLF, c_55, c_223]) dX1_madeF_232
    · refine sw_in (off := 178) (tgt := 233) [10] (by simp [c_55]) hx hb dX1_madeF_55 (by decide) (by decide) ?_
      refine lv_fload_n hx hb dX1_madeF_233 rfl (lv_at hl 1 rfl) ?_
      refine lv_fload_n hx hb dX1_madeF_234 rfl (lv_at hl 2 rfl) ?_
      refine lv_fmul hx hb dX1_madeF_235 (nF_mul (a0_bF hR.rf) (bF_d2f (hV.s m))) ?_
      exact mm_fret S hr hlk G (by (try (rcases c_55 with c_55 | c_55)) <;> simp [mkF, mkLF, c_55]) rfl (by (try (rcases c_55 with c_55 | c_55)) <;> simp [mkF, mkLF, c_55]) dX1_madeF_236
    · refine sw_in (off := 182) (tgt := 237) [11] (by simp [c_55]) hx hb dX1_madeF_55 (by decide) (by decide) ?_
      refine lv_aload_n hx hb dX1_madeF_237 rfl (lv_at hl 3 rfl) ?_
      refine mm_get S G 22 (by decide) q1289 rfl (v := .ref (ad 23)) rfl dX1_madeF_238 ?_
      refine lv_bipush (v := nI 16) hx hb dX1_madeF_241 (by decide) ?_
      refine lv_iload_n hx hb dX1_madeF_243 rfl (lv_at hl 4 rfl) ?_
      refine nn_mul hx hb dX1_madeF_244 ?_
      refine mm_fald S G 22 3 (by decide) (n := 320) rfl rfl (by omega) (by decide) (v := dAF d 22 (16 * m)) rfl dX1_madeF_245 ?_
      exact mm_fret S hr hlk G (by (try (rcases c_55 with c_55 | c_55)) <;> simp [mkF, mkLF, c_55]) rfl (by (try (rcases c_55 with c_55 | c_55)) <;> simp [mkF, mkLF, c_55]) dX1_madeF_246
    · refine sw_in (off := 192) (tgt := 247) [12] (by simp [c_55]) hx hb dX1_madeF_55 (by decide) (by decide) ?_
      refine lv_fload_n hx hb dX1_madeF_247 rfl (lv_at hl 1 rfl) ?_
      refine lv_fload_n hx hb dX1_madeF_248 rfl (lv_at hl 2 rfl) ?_
      refine fy_jlle (tgt := 257) hx hb dX1_madeF_249 dX1_madeF_250 (by decide) (fun c_250 => ?_) (fun c_250 => ?_)
      · refine lv_fload_n hx hb dX1_madeF_257 rfl (lv_at hl 1 rfl) ?_
        refine lv_fload_n hx hb dX1_madeF_258 rfl (lv_at hl 2 rfl) ?_
        refine lv_fneg hx hb dX1_madeF_259 ?_
        refine fy_jgge (tgt := 269) hx hb dX1_madeF_260 dX1_madeF_261 (by decide) (fun c_261 => ?_) (fun c_261 => ?_)
        · refine lv_fload_n hx hb dX1_madeF_269 rfl (lv_at hl 1 rfl) ?_
          exact mm_fret S hr hlk G (by (try (rcases c_55 with c_55 | c_55)) <;> simp [mkF, mkLF, c_55, c_250, c_261]) rfl (by (try (rcases c_55 with c_55 | c_55)) <;> simp [mkF, mkLF, c_55, c_250, c_261]) dX1_madeF_270
        · refine lv_fload_n hx hb dX1_madeF_264 rfl (lv_at hl 2 rfl) ?_
          refine lv_fneg hx hb dX1_madeF_265 ?_
          refine lv_goto (tgt := 270) hx hb dX1_madeF_266 (by decide) ?_
          exact mm_fret S hr hlk G (by (try (rcases c_55 with c_55 | c_55)) <;> simp [mkF, mkLF, c_55, c_250, c_261]) rfl (by (try (rcases c_55 with c_55 | c_55)) <;> simp [mkF, mkLF, c_55, c_250, c_261]) dX1_madeF_270
      · refine lv_fload_n hx hb dX1_madeF_253 rfl (lv_at hl 2 rfl) ?_
        refine lv_goto (tgt := 270) hx hb dX1_madeF_254 (by decide) ?_
        exact mm_fret S hr hlk G (by (try (rcases c_55 with c_55 | c_55)) <;> simp [mkF, mkLF, c_55, c_250]) rfl (by (try (rcases c_55 with c_55 | c_55)) <;> simp [mkF, mkLF, c_55, c_250]) dX1_madeF_270
    · refine sw_in (off := 216) (tgt := 271) [2, 3] (by rcases c_55 with h | h <;> simp [h]) hx hb dX1_madeF_55 (by decide) (by decide) ?_
      refine lv_aload_n hx hb dX1_madeF_271 rfl (lv_at hl 3 rfl) ?_
      refine mm_get S G 18 (by decide) q1285 rfl (v := .ref (ad 19)) rfl dX1_madeF_272 ?_
      refine lv_iload_n hx hb dX1_madeF_275 rfl (lv_at hl 4 rfl) ?_
      refine mm_fald S G 18 3 (by decide) (n := 20) rfl rfl (by omega) (by decide) (v := dAF d 18 m) rfl dX1_madeF_276 ?_
      exact mm_fret S hr hlk G (by (try (rcases c_55 with c_55 | c_55)) <;> simp [mkF, mkLF, c_55]) rfl (by (try (rcases c_55 with c_55 | c_55)) <;> simp [mkF, mkLF, c_55]) dX1_madeF_277
    · refine sw_out (tgt := 271) [13] (by simp [c_55]) hx hb dX1_madeF_55 (by decide) (by decide) ?_
      refine lv_aload_n hx hb dX1_madeF_271 rfl (lv_at hl 3 rfl) ?_
      refine mm_get S G 18 (by decide) q1285 rfl (v := .ref (ad 19)) rfl dX1_madeF_272 ?_
      refine lv_iload_n hx hb dX1_madeF_275 rfl (lv_at hl 4 rfl) ?_
      refine mm_fald S G 18 3 (by decide) (n := 20) rfl rfl (by omega) (by decide) (v := dAF d 18 m) rfl dX1_madeF_276 ?_
      exact mm_fret S hr hlk G (by (try (rcases c_55 with c_55 | c_55)) <;> simp [mkF, mkLF, c_55]) rfl (by (try (rcases c_55 with c_55 | c_55)) <;> simp [mkF, mkLF, c_55]) dX1_madeF_277
  have J26 : ∀ (H : Heap) (locs : List Loc) (ls : Array Slot), mG D dA ad C d s0 H locs → lv_has ls 5 [(2, .float (sF C m)), (0, .ref (ad 0)), (1, .int (nI m))] → W p0 l e0 (rm_ 3) s0 mid (Value.ref (ad 0) :: [.int (nI m)]).toArray bl0 me0 co0 H locs 0 0 (MQ bl0 (mQ D dA ad (some (.float (mkF C d m))) C (mkLF C d m)) (Value.ref (ad 0) :: [.int (nI m)]).toArray s0 0 0 (mA ad)) (F0 mid 27 ls [.float (a0F C (dAF d 20) m 0)]) := by
    intro H locs ls G hl
    refine lv_fstore_n (lv' := [(3, .float (a0F C (dAF d 20) m 0)), (2, .float (sF C m)), (0, .ref (ad 0)), (1, .int (nI m))]) hx hb dX1_madeF_27 rfl hl (by decide) rfl (fun ls hl => ?_)
    refine lv_aload_n hx hb dX1_madeF_28 rfl (lv_at hl 2 rfl) ?_
    refine lv_iload_n hx hb dX1_madeF_29 rfl (lv_at hl 3 rfl) ?_
    refine lv_iconst (v := nI 1) hx hb dX1_madeF_30 (by decide) ?_
    refine mm_call (As := [.int (nI m), .int (nI 1)]) (rest := []) S G (mt_X1_has l D dA ad C d m 1 hC (by omega) (by omega)) q1513 q1515 qs21 q1516 hd_X1_has ⟨Nat.le_of_ble_eq_true rfl, Nat.le_of_ble_eq_true rfl⟩ rfl hl.1 rfl (Nat.le_of_ble_eq_true rfl) dX1_madeF_31 ⟨Nat.zero_le _, Nat.zero_le _⟩ (fun H locs G => ?_)
    refine W.eq (g2 := F0 mid 34 ls [.int (bI ((cF C m 1).isSome))]) rfl ?_
    refine bb_eq (tgt := 46) hx hb dX1_madeF_34 (by decide) (fun c_34 => ?_) (fun c_34 => ?_)
    · refine lv_fconst0 hx hb dX1_madeF_46 ?_
      refine w_st (st' := [.float (a0F C (dAF d 20) m 1)]) (by simp [a0F, c_34]) ?_
      exact J47 _ _ ls G (lv_sub hl [0, 1, 2, 3] rfl)
    · obtain ⟨q1, hq1⟩ := op_some c_34
      refine lv_aload_n hx hb dX1_madeF_37 rfl (lv_at hl 2 rfl) ?_
      refine lv_iload_n hx hb dX1_madeF_38 rfl (lv_at hl 3 rfl) ?_
      refine lv_iconst (v := nI 1) hx hb dX1_madeF_39 (by decide) ?_
      refine mm_call (As := [.int (nI m), .int (nI 1)]) (rest := []) S G (mt_X1_inputF l D dA ad C d m 1 hC (by omega) (by omega) (by assumption)) q1588 q1590 qs34 q1591 hd_X1_inputF ⟨Nat.le_of_ble_eq_true rfl, Nat.le_of_ble_eq_true rfl⟩ rfl hl.1 rfl (Nat.le_of_ble_eq_true rfl) dX1_madeF_40 ⟨Nat.zero_le _, Nat.zero_le _⟩ (fun H locs G => ?_)
      refine W.eq (g2 := F0 mid 43 ls [.float (inF C (dAF d 20) m 1)]) rfl ?_
      refine lv_goto (tgt := 47) hx hb dX1_madeF_43 (by decide) ?_
      refine w_st (st' := [.float (a0F C (dAF d 20) m 1)]) (by simp [a0F, c_34]) ?_
      exact J47 _ _ ls G (lv_sub hl [0, 1, 2, 3] rfl)
  refine lv_aload_n hx hb dX1_madeF_0 rfl (lv_at hl 0 rfl) ?_
  refine mm_get S G 2 (by decide) q1269 rfl (v := .ref (ad 3)) rfl dX1_madeF_1 ?_
  refine lv_iload_n hx hb dX1_madeF_4 rfl (lv_at hl 1 rfl) ?_
  refine mm_dald S G 2 2 (by decide) (n := 20) rfl rfl (by omega) (by decide) (v := cS C m) rfl dX1_madeF_5 ?_
  refine lv_d2f hx hb dX1_madeF_6 (nF_d2f (bD_n (hV.s m))) ?_
  refine w_st (st' := [.float (sF C m)]) (by rfl) ?_
  refine lv_fstore_n (lv' := [(2, .float (sF C m)), (0, .ref (ad 0)), (1, .int (nI m))]) hx hb dX1_madeF_7 rfl hl (by decide) rfl (fun ls hl => ?_)
  refine lv_aload_n hx hb dX1_madeF_8 rfl (lv_at hl 1 rfl) ?_
  refine lv_iload_n hx hb dX1_madeF_9 rfl (lv_at hl 2 rfl) ?_
  refine lv_iconst (v := nI 0) hx hb dX1_madeF_10 (by decide) ?_
  refine mm_call (As := [.int (nI m), .int (nI 0)]) (rest := []) S G (mt_X1_has l D dA ad C d m 0 hC (by omega) (by omega)) q1513 q1515 qs21 q1516 hd_X1_has ⟨Nat.le_of_ble_eq_true rfl, Nat.le_of_ble_eq_true rfl⟩ rfl hl.1 rfl (Nat.le_of_ble_eq_true rfl) dX1_madeF_11 ⟨Nat.zero_le _, Nat.zero_le _⟩ (fun H locs G => ?_)
  refine W.eq (g2 := F0 mid 14 ls [.int (bI ((cF C m 0).isSome))]) rfl ?_
  refine bb_eq (tgt := 26) hx hb dX1_madeF_14 (by decide) (fun c_14 => ?_) (fun c_14 => ?_)
  · refine lv_fconst0 hx hb dX1_madeF_26 ?_
    refine w_st (st' := [.float (a0F C (dAF d 20) m 0)]) (by simp [a0F, c_14]) ?_
    exact J26 _ _ ls G (lv_sub hl [0, 1, 2] rfl)
  · obtain ⟨q0, hq0⟩ := op_some c_14
    refine lv_aload_n hx hb dX1_madeF_17 rfl (lv_at hl 1 rfl) ?_
    refine lv_iload_n hx hb dX1_madeF_18 rfl (lv_at hl 2 rfl) ?_
    refine lv_iconst (v := nI 0) hx hb dX1_madeF_19 (by decide) ?_
    refine mm_call (As := [.int (nI m), .int (nI 0)]) (rest := []) S G (mt_X1_inputF l D dA ad C d m 0 hC (by omega) (by omega) (by assumption)) q1588 q1590 qs34 q1591 hd_X1_inputF ⟨Nat.le_of_ble_eq_true rfl, Nat.le_of_ble_eq_true rfl⟩ rfl hl.1 rfl (Nat.le_of_ble_eq_true rfl) dX1_madeF_20 ⟨Nat.zero_le _, Nat.zero_le _⟩ (fun H locs G => ?_)
    refine W.eq (g2 := F0 mid 23 ls [.float (inF C (dAF d 20) m 0)]) rfl ?_
    refine lv_goto (tgt := 27) hx hb dX1_madeF_23 (by decide) ?_
    refine w_st (st' := [.float (a0F C (dAF d 20) m 0)]) (by simp [a0F, c_14]) ?_
    exact J26 _ _ ls G (lv_sub hl [0, 1, 2] rfl)
