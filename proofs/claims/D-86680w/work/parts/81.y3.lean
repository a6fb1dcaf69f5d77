set_option maxRecDepth 100000
set_option maxHeartbeats 4000000
theorem dX0_isCircled_0 : decode cX0_isCircled 0 = .ok (.aload_n 0, 1) := by decide +kernel
theorem dX0_isCircled_1 : decode cX0_isCircled 1 = .ok (.getfield 81, 3) := by decide +kernel
theorem dX0_isCircled_4 : decode cX0_isCircled 4 = .ok (.astore_n 2, 1) := by decide +kernel
theorem dX0_isCircled_5 : decode cX0_isCircled 5 = .ok (.iconst 0, 1) := by decide +kernel
theorem dX0_isCircled_6 : decode cX0_isCircled 6 = .ok (.istore_n 3, 1) := by decide +kernel
theorem dX0_isCircled_7 : decode cX0_isCircled 7 = .ok (.iload_n 3, 1) := by decide +kernel
theorem dX0_isCircled_8 : decode cX0_isCircled 8 = .ok (.aload_n 0, 1) := by decide +kernel
theorem dX0_isCircled_9 : decode cX0_isCircled 9 = .ok (.getfield 91, 3) := by decide +kernel
theorem dX0_isCircled_12 : decode cX0_isCircled 12 = .ok (.if_icmp .ge 13, 3) := by decide +kernel
theorem dX0_isCircled_15 : decode cX0_isCircled 15 = .ok (.aload_n 2, 1) := by decide +kernel
theorem dX0_isCircled_16 : decode cX0_isCircled 16 = .ok (.iload_n 3, 1) := by decide +kernel
theorem dX0_isCircled_17 : decode cX0_isCircled 17 = .ok (.iconst 0, 1) := by decide +kernel
theorem dX0_isCircled_18 : decode cX0_isCircled 18 = .ok (.bastore, 1) := by decide +kernel
theorem dX0_isCircled_19 : decode cX0_isCircled 19 = .ok (.iinc 3 1, 3) := by decide +kernel
theorem dX0_isCircled_22 : decode cX0_isCircled 22 = .ok (.goto (-15), 3) := by decide +kernel
theorem dX0_isCircled_25 : decode cX0_isCircled 25 = .ok (.iconst 1, 1) := by decide +kernel
theorem dX0_isCircled_26 : decode cX0_isCircled 26 = .ok (.istore_n 3, 1) := by decide +kernel
theorem dX0_isCircled_27 : decode cX0_isCircled 27 = .ok (.iload_n 3, 1) := by decide +kernel
theorem dX0_isCircled_28 : decode cX0_isCircled 28 = .ok (.ifCond .eq 120, 3) := by decide +kernel
theorem dX0_isCircled_31 : decode cX0_isCircled 31 = .ok (.iconst 0, 1) := by decide +kernel
theorem dX0_isCircled_32 : decode cX0_isCircled 32 = .ok (.istore_n 3, 1) := by decide +kernel
theorem dX0_isCircled_33 : decode cX0_isCircled 33 = .ok (.iconst 0, 1) := by decide +kernel
theorem dX0_isCircled_34 : decode cX0_isCircled 34 = .ok (.istore 4, 2) := by decide +kernel
theorem dX0_isCircled_36 : decode cX0_isCircled 36 = .ok (.iload 4, 2) := by decide +kernel
theorem dX0_isCircled_38 : decode cX0_isCircled 38 = .ok (.aload_n 0, 1) := by decide +kernel
theorem dX0_isCircled_39 : decode cX0_isCircled 39 = .ok (.getfield 91, 3) := by decide +kernel
theorem dX0_isCircled_42 : decode cX0_isCircled 42 = .ok (.if_icmp .ge 103, 3) := by decide +kernel
theorem dX0_isCircled_45 : decode cX0_isCircled 45 = .ok (.aload_n 0, 1) := by decide +kernel
theorem dX0_isCircled_46 : decode cX0_isCircled 46 = .ok (.getfield 55, 3) := by decide +kernel
theorem dX0_isCircled_49 : decode cX0_isCircled 49 = .ok (.iload 4, 2) := by decide +kernel
theorem dX0_isCircled_51 : decode cX0_isCircled 51 = .ok (.aaload, 1) := by decide +kernel
theorem dX0_isCircled_52 : decode cX0_isCircled 52 = .ok (.invokevirtual 163, 3) := by decide +kernel
theorem dX0_isCircled_55 : decode cX0_isCircled 55 = .ok (.ifCond .ne 84, 3) := by decide +kernel
theorem dX0_isCircled_58 : decode cX0_isCircled 58 = .ok (.aload_n 2, 1) := by decide +kernel
theorem dX0_isCircled_59 : decode cX0_isCircled 59 = .ok (.iload 4, 2) := by decide +kernel
theorem dX0_isCircled_61 : decode cX0_isCircled 61 = .ok (.baload, 1) := by decide +kernel
theorem dX0_isCircled_62 : decode cX0_isCircled 62 = .ok (.ifCond .ne 77, 3) := by decide +kernel
theorem dX0_isCircled_65 : decode cX0_isCircled 65 = .ok (.iconst 0, 1) := by decide +kernel
theorem dX0_isCircled_66 : decode cX0_isCircled 66 = .ok (.istore 5, 2) := by decide +kernel
theorem dX0_isCircled_68 : decode cX0_isCircled 68 = .ok (.iconst 0, 1) := by decide +kernel
theorem dX0_isCircled_69 : decode cX0_isCircled 69 = .ok (.istore 6, 2) := by decide +kernel
theorem dX0_isCircled_71 : decode cX0_isCircled 71 = .ok (.iload 6, 2) := by decide +kernel
theorem dX0_isCircled_73 : decode cX0_isCircled 73 = .ok (.bipush 6, 2) := by decide +kernel
theorem dX0_isCircled_75 : decode cX0_isCircled 75 = .ok (.if_icmp .ge 53, 3) := by decide +kernel
theorem dX0_isCircled_78 : decode cX0_isCircled 78 = .ok (.aload_n 0, 1) := by decide +kernel
theorem dX0_isCircled_79 : decode cX0_isCircled 79 = .ok (.getfield 55, 3) := by decide +kernel
theorem dX0_isCircled_82 : decode cX0_isCircled 82 = .ok (.iload 4, 2) := by decide +kernel
theorem dX0_isCircled_84 : decode cX0_isCircled 84 = .ok (.aaload, 1) := by decide +kernel
theorem dX0_isCircled_85 : decode cX0_isCircled 85 = .ok (.getfield 145, 3) := by decide +kernel
theorem dX0_isCircled_88 : decode cX0_isCircled 88 = .ok (.iload 6, 2) := by decide +kernel
theorem dX0_isCircled_90 : decode cX0_isCircled 90 = .ok (.iaload, 1) := by decide +kernel
theorem dX0_isCircled_91 : decode cX0_isCircled 91 = .ok (.istore 7, 2) := by decide +kernel
theorem dX0_isCircled_93 : decode cX0_isCircled 93 = .ok (.iload 5, 2) := by decide +kernel
theorem dX0_isCircled_95 : decode cX0_isCircled 95 = .ok (.iload 7, 2) := by decide +kernel
theorem dX0_isCircled_97 : decode cX0_isCircled 97 = .ok (.iconst (-1), 1) := by decide +kernel
theorem dX0_isCircled_98 : decode cX0_isCircled 98 = .ok (.if_icmp .eq 20, 3) := by decide +kernel
theorem dX0_isCircled_101 : decode cX0_isCircled 101 = .ok (.iload 7, 2) := by decide +kernel
theorem dX0_isCircled_103 : decode cX0_isCircled 103 = .ok (.iload_n 1, 1) := by decide +kernel
theorem dX0_isCircled_104 : decode cX0_isCircled 104 = .ok (.if_icmp .eq 10, 3) := by decide +kernel
theorem dX0_isCircled_107 : decode cX0_isCircled 107 = .ok (.aload_n 2, 1) := by decide +kernel
theorem dX0_isCircled_108 : decode cX0_isCircled 108 = .ok (.iload 7, 2) := by decide +kernel
theorem dX0_isCircled_110 : decode cX0_isCircled 110 = .ok (.baload, 1) := by decide +kernel
theorem dX0_isCircled_111 : decode cX0_isCircled 111 = .ok (.ifCond .eq 7, 3) := by decide +kernel
theorem dX0_isCircled_114 : decode cX0_isCircled 114 = .ok (.iconst 1, 1) := by decide +kernel
theorem dX0_isCircled_115 : decode cX0_isCircled 115 = .ok (.goto 4, 3) := by decide +kernel
theorem dX0_isCircled_118 : decode cX0_isCircled 118 = .ok (.iconst 0, 1) := by decide +kernel
theorem dX0_isCircled_119 : decode cX0_isCircled 119 = .ok (.ior, 1) := by decide +kernel
theorem dX0_isCircled_120 : decode cX0_isCircled 120 = .ok (.istore 5, 2) := by decide +kernel
theorem dX0_isCircled_122 : decode cX0_isCircled 122 = .ok (.iinc 6 1, 3) := by decide +kernel
theorem dX0_isCircled_125 : decode cX0_isCircled 125 = .ok (.goto (-54), 3) := by decide +kernel
theorem dX0_isCircled_128 : decode cX0_isCircled 128 = .ok (.aload_n 2, 1) := by decide +kernel
theorem dX0_isCircled_129 : decode cX0_isCircled 129 = .ok (.iload 4, 2) := by decide +kernel
theorem dX0_isCircled_131 : decode cX0_isCircled 131 = .ok (.iload 5, 2) := by decide +kernel
theorem dX0_isCircled_133 : decode cX0_isCircled 133 = .ok (.bastore, 1) := by decide +kernel
theorem dX0_isCircled_134 : decode cX0_isCircled 134 = .ok (.iload_n 3, 1) := by decide +kernel
theorem dX0_isCircled_135 : decode cX0_isCircled 135 = .ok (.iload 5, 2) := by decide +kernel
theorem dX0_isCircled_137 : decode cX0_isCircled 137 = .ok (.ior, 1) := by decide +kernel
theorem dX0_isCircled_138 : decode cX0_isCircled 138 = .ok (.istore_n 3, 1) := by decide +kernel
theorem dX0_isCircled_139 : decode cX0_isCircled 139 = .ok (.iinc 4 1, 3) := by decide +kernel
theorem dX0_isCircled_142 : decode cX0_isCircled 142 = .ok (.goto (-106), 3) := by decide +kernel
theorem dX0_isCircled_145 : decode cX0_isCircled 145 = .ok (.goto (-118), 3) := by decide +kernel
theorem dX0_isCircled_148 : decode cX0_isCircled 148 = .ok (.aload_n 2, 1) := by decide +kernel
theorem dX0_isCircled_149 : decode cX0_isCircled 149 = .ok (.iload_n 1, 1) := by decide +kernel
theorem dX0_isCircled_150 : decode cX0_isCircled 150 = .ok (.baload, 1) := by decide +kernel
theorem dX0_isCircled_151 : decode cX0_isCircled 151 = .ok (.ireturn, 1) := by decide +kernel
theorem dX0_checked_0 : decode cX0_checked 0 = .ok (.aload_n 0, 1) := by decide +kernel
theorem dX0_checked_1 : decode cX0_checked 1 = .ok (.iconst 0, 1) := by decide +kernel
theorem dX0_checked_2 : decode cX0_checked 2 = .ok (.putfield 185, 3) := by decide +kernel
theorem dX0_checked_5 : decode cX0_checked 5 = .ok (.iconst 0, 1) := by decide +kernel
theorem dX0_checked_6 : decode cX0_checked 6 = .ok (.istore_n 1, 1) := by decide +kernel
theorem dX0_checked_7 : decode cX0_checked 7 = .ok (.iload_n 1, 1) := by decide +kernel
theorem dX0_checked_8 : decode cX0_checked 8 = .ok (.aload_n 0, 1) := by decide +kernel
theorem dX0_checked_9 : decode cX0_checked 9 = .ok (.getfield 91, 3) := by decide +kernel
theorem dX0_checked_12 : decode cX0_checked 12 = .ok (.if_icmp .ge 31, 3) := by decide +kernel
theorem dX0_checked_15 : decode cX0_checked 15 = .ok (.aload_n 0, 1) := by decide +kernel
theorem dX0_checked_16 : decode cX0_checked 16 = .ok (.aload_n 0, 1) := by decide +kernel
theorem dX0_checked_17 : decode cX0_checked 17 = .ok (.getfield 55, 3) := by decide +kernel
theorem dX0_checked_20 : decode cX0_checked 20 = .ok (.iload_n 1, 1) := by decide +kernel
theorem dX0_checked_21 : decode cX0_checked 21 = .ok (.aaload, 1) := by decide +kernel
theorem dX0_checked_22 : decode cX0_checked 22 = .ok (.invokevirtual 188, 3) := by decide +kernel
theorem dX0_checked_25 : decode cX0_checked 25 = .ok (.ifCond .ne 12, 3) := by decide +kernel
theorem dX0_checked_28 : decode cX0_checked 28 = .ok (.aload_n 0, 1) := by decide +kernel
theorem dX0_checked_29 : decode cX0_checked 29 = .ok (.iconst 1, 1) := by decide +kernel
theorem dX0_checked_30 : decode cX0_checked 30 = .ok (.putfield 185, 3) := by decide +kernel
theorem dX0_checked_33 : decode cX0_checked 33 = .ok (.iload_n 1, 1) := by decide +kernel
theorem dX0_checked_34 : decode cX0_checked 34 = .ok (.iconst 1, 1) := by decide +kernel
theorem dX0_checked_35 : decode cX0_checked 35 = .ok (.iadd, 1) := by decide +kernel
theorem dX0_checked_36 : decode cX0_checked 36 = .ok (.ireturn, 1) := by decide +kernel
theorem dX0_checked_37 : decode cX0_checked 37 = .ok (.iinc 1 1, 3) := by decide +kernel
theorem dX0_checked_40 : decode cX0_checked 40 = .ok (.goto (-33), 3) := by decide +kernel
theorem dX0_checked_43 : decode cX0_checked 43 = .ok (.iconst 0, 1) := by decide +kernel
theorem dX0_checked_44 : decode cX0_checked 44 = .ok (.istore_n 1, 1) := by decide +kernel
theorem dX0_checked_45 : decode cX0_checked 45 = .ok (.iload_n 1, 1) := by decide +kernel
theorem dX0_checked_46 : decode cX0_checked 46 = .ok (.aload_n 0, 1) := by decide +kernel
theorem dX0_checked_47 : decode cX0_checked 47 = .ok (.getfield 91, 3) := by decide +kernel
theorem dX0_checked_50 : decode cX0_checked 50 = .ok (.if_icmp .ge 48, 3) := by decide +kernel
theorem dX0_checked_53 : decode cX0_checked 53 = .ok (.aload_n 0, 1) := by decide +kernel
theorem dX0_checked_54 : decode cX0_checked 54 = .ok (.getfield 55, 3) := by decide +kernel
theorem dX0_checked_57 : decode cX0_checked 57 = .ok (.iload_n 1, 1) := by decide +kernel
theorem dX0_checked_58 : decode cX0_checked 58 = .ok (.aaload, 1) := by decide +kernel
theorem dX0_checked_59 : decode cX0_checked 59 = .ok (.getfield 151, 3) := by decide +kernel
theorem dX0_checked_62 : decode cX0_checked 62 = .ok (.bipush 7, 2) := by decide +kernel
theorem dX0_checked_64 : decode cX0_checked 64 = .ok (.if_icmp .ne 28, 3) := by decide +kernel
theorem dX0_checked_67 : decode cX0_checked 67 = .ok (.aload_n 0, 1) := by decide +kernel
theorem dX0_checked_68 : decode cX0_checked 68 = .ok (.getfield 55, 3) := by decide +kernel
theorem dX0_checked_71 : decode cX0_checked 71 = .ok (.iload_n 1, 1) := by decide +kernel
theorem dX0_checked_72 : decode cX0_checked 72 = .ok (.aaload, 1) := by decide +kernel
theorem dX0_checked_73 : decode cX0_checked 73 = .ok (.checkcast 25, 3) := by decide +kernel
theorem dX0_checked_76 : decode cX0_checked 76 = .ok (.getfield 156, 3) := by decide +kernel
theorem dX0_checked_79 : decode cX0_checked 79 = .ok (.iconst 2, 1) := by decide +kernel
theorem dX0_checked_80 : decode cX0_checked 80 = .ok (.if_icmp .ge 12, 3) := by decide +kernel
theorem dX0_checked_83 : decode cX0_checked 83 = .ok (.aload_n 0, 1) := by decide +kernel
theorem dX0_checked_84 : decode cX0_checked 84 = .ok (.iconst 2, 1) := by decide +kernel
theorem dX0_checked_85 : decode cX0_checked 85 = .ok (.putfield 185, 3) := by decide +kernel
theorem dX0_checked_88 : decode cX0_checked 88 = .ok (.iload_n 1, 1) := by decide +kernel
theorem dX0_checked_89 : decode cX0_checked 89 = .ok (.iconst 1, 1) := by decide +kernel
theorem dX0_checked_90 : decode cX0_checked 90 = .ok (.iadd, 1) := by decide +kernel
theorem dX0_checked_91 : decode cX0_checked 91 = .ok (.ireturn, 1) := by decide +kernel
theorem dX0_checked_92 : decode cX0_checked 92 = .ok (.iinc 1 1, 3) := by decide +kernel
theorem dX0_checked_95 : decode cX0_checked 95 = .ok (.goto (-50), 3) := by decide +kernel
theorem dX0_checked_98 : decode cX0_checked 98 = .ok (.iconst 0, 1) := by decide +kernel
theorem dX0_checked_99 : decode cX0_checked 99 = .ok (.istore_n 1, 1) := by decide +kernel
theorem dX0_checked_100 : decode cX0_checked 100 = .ok (.iload_n 1, 1) := by decide +kernel
theorem dX0_checked_101 : decode cX0_checked 101 = .ok (.aload_n 0, 1) := by decide +kernel
theorem dX0_checked_102 : decode cX0_checked 102 = .ok (.getfield 91, 3) := by decide +kernel
theorem dX0_checked_105 : decode cX0_checked 105 = .ok (.if_icmp .ge 38, 3) := by decide +kernel
theorem dX0_checked_108 : decode cX0_checked 108 = .ok (.aload_n 0, 1) := by decide +kernel
theorem dX0_checked_109 : decode cX0_checked 109 = .ok (.getfield 55, 3) := by decide +kernel
theorem dX0_checked_112 : decode cX0_checked 112 = .ok (.iload_n 1, 1) := by decide +kernel
theorem dX0_checked_113 : decode cX0_checked 113 = .ok (.aaload, 1) := by decide +kernel
theorem dX0_checked_114 : decode cX0_checked 114 = .ok (.invokevirtual 163, 3) := by decide +kernel
theorem dX0_checked_117 : decode cX0_checked 117 = .ok (.ifCond .ne 20, 3) := by decide +kernel
theorem dX0_checked_120 : decode cX0_checked 120 = .ok (.aload_n 0, 1) := by decide +kernel
theorem dX0_checked_121 : decode cX0_checked 121 = .ok (.iload_n 1, 1) := by decide +kernel
theorem dX0_checked_122 : decode cX0_checked 122 = .ok (.invokevirtual 192, 3) := by decide +kernel
theorem dX0_checked_125 : decode cX0_checked 125 = .ok (.ifCond .eq 12, 3) := by decide +kernel
theorem dX0_checked_128 : decode cX0_checked 128 = .ok (.aload_n 0, 1) := by decide +kernel
theorem dX0_checked_129 : decode cX0_checked 129 = .ok (.iconst 3, 1) := by decide +kernel
theorem dX0_checked_130 : decode cX0_checked 130 = .ok (.putfield 185, 3) := by decide +kernel
theorem dX0_checked_133 : decode cX0_checked 133 = .ok (.iload_n 1, 1) := by decide +kernel
theorem dX0_checked_134 : decode cX0_checked 134 = .ok (.iconst 1, 1) := by decide +kernel
theorem dX0_checked_135 : decode cX0_checked 135 = .ok (.iadd, 1) := by decide +kernel
theorem dX0_checked_136 : decode cX0_checked 136 = .ok (.ireturn, 1) := by decide +kernel
theorem dX0_checked_137 : decode cX0_checked 137 = .ok (.iinc 1 1, 3) := by decide +kernel
theorem dX0_checked_140 : decode cX0_checked 140 = .ok (.goto (-40), 3) := by decide +kernel
theorem dX0_checked_143 : decode cX0_checked 143 = .ok (.iconst 0, 1) := by decide +kernel
theorem dX0_checked_144 : decode cX0_checked 144 = .ok (.ireturn, 1) := by decide +kernel
theorem dX0_check_0 : decode cX0_check 0 = .ok (.aload_n 0, 1) := by decide +kernel
theorem dX0_check_1 : decode cX0_check 1 = .ok (.invokevirtual 195, 3) := by decide +kernel
theorem dX0_check_4 : decode cX0_check 4 = .ok (.ireturn, 1) := by decide +kernel
theorem dX0_count_0 : decode cX0_count 0 = .ok (.iload_n 1, 1) := by decide +kernel
theorem dX0_count_1 : decode cX0_count 1 = .ok (.tableswitch 87 0 7 #[47, 52, 57, 62, 67, 72, 77, 82], 47) := by decide +kernel
theorem dX0_count_48 : decode cX0_count 48 = .ok (.aload_n 0, 1) := by decide +kernel
theorem dX0_count_49 : decode cX0_count 49 = .ok (.getfield 91, 3) := by decide +kernel
theorem dX0_count_52 : decode cX0_count 52 = .ok (.ireturn, 1) := by decide +kernel
theorem dX0_count_53 : decode cX0_count 53 = .ok (.aload_n 0, 1) := by decide +kernel
theorem dX0_count_54 : decode cX0_count 54 = .ok (.getfield 249, 3) := by decide +kernel
theorem dX0_count_57 : decode cX0_count 57 = .ok (.ireturn, 1) := by decide +kernel
theorem dX0_count_58 : decode cX0_count 58 = .ok (.aload_n 0, 1) := by decide +kernel
theorem dX0_count_59 : decode cX0_count 59 = .ok (.invokevirtual 333, 3) := by decide +kernel
theorem dX0_count_62 : decode cX0_count 62 = .ok (.ireturn, 1) := by decide +kernel
theorem dX0_count_63 : decode cX0_count 63 = .ok (.aload_n 0, 1) := by decide +kernel
theorem dX0_count_64 : decode cX0_count 64 = .ok (.invokevirtual 336, 3) := by decide +kernel
theorem dX0_count_67 : decode cX0_count 67 = .ok (.ireturn, 1) := by decide +kernel
theorem dX0_count_68 : decode cX0_count 68 = .ok (.aload_n 0, 1) := by decide +kernel
theorem dX0_count_69 : decode cX0_count 69 = .ok (.invokevirtual 339, 3) := by decide +kernel
theorem dX0_count_72 : decode cX0_count 72 = .ok (.ireturn, 1) := by decide +kernel
theorem dX0_count_73 : decode cX0_count 73 = .ok (.aload_n 0, 1) := by decide +kernel
theorem dX0_count_74 : decode cX0_count 74 = .ok (.getfield 282, 3) := by decide +kernel
theorem dX0_count_77 : decode cX0_count 77 = .ok (.ireturn, 1) := by decide +kernel
theorem dX0_count_78 : decode cX0_count 78 = .ok (.aload_n 0, 1) := by decide +kernel
theorem dX0_count_79 : decode cX0_count 79 = .ok (.getfield 174, 3) := by decide +kernel
theorem dX0_count_82 : decode cX0_count 82 = .ok (.ireturn, 1) := by decide +kernel
theorem dX0_count_83 : decode cX0_count 83 = .ok (.aload_n 0, 1) := by decide +kernel
theorem dX0_count_84 : decode cX0_count 84 = .ok (.getfield 59, 3) := by decide +kernel
theorem dX0_count_87 : decode cX0_count 87 = .ok (.ireturn, 1) := by decide +kernel
theorem dX0_count_88 : decode cX0_count 88 = .ok (.bipush (-102), 2) := by decide +kernel
theorem dX0_count_90 : decode cX0_count 90 = .ok (.ireturn, 1) := by decide +kernel
theorem dX0_findOrder_0 : decode cX0_findOrder 0 = .ok (.aload_n 0, 1) := by decide +kernel
theorem dX0_findOrder_1 : decode cX0_findOrder 1 = .ok (.invokevirtual 198, 3) := by decide +kernel
theorem dX0_findOrder_4 : decode cX0_findOrder 4 = .ok (.iconst 0, 1) := by decide +kernel
theorem dX0_findOrder_5 : decode cX0_findOrder 5 = .ok (.istore_n 1, 1) := by decide +kernel
theorem dX0_findOrder_6 : decode cX0_findOrder 6 = .ok (.iconst 0, 1) := by decide +kernel
theorem dX0_findOrder_7 : decode cX0_findOrder 7 = .ok (.istore_n 2, 1) := by decide +kernel
theorem dX0_findOrder_8 : decode cX0_findOrder 8 = .ok (.iload_n 2, 1) := by decide +kernel
theorem dX0_findOrder_9 : decode cX0_findOrder 9 = .ok (.aload_n 0, 1) := by decide +kernel
theorem dX0_findOrder_10 : decode cX0_findOrder 10 = .ok (.getfield 91, 3) := by decide +kernel
theorem dX0_findOrder_13 : decode cX0_findOrder 13 = .ok (.if_icmp .gt 45, 3) := by decide +kernel
theorem dX0_findOrder_16 : decode cX0_findOrder 16 = .ok (.iconst 0, 1) := by decide +kernel
theorem dX0_findOrder_17 : decode cX0_findOrder 17 = .ok (.istore_n 3, 1) := by decide +kernel
theorem dX0_findOrder_18 : decode cX0_findOrder 18 = .ok (.iload_n 3, 1) := by decide +kernel
theorem dX0_findOrder_19 : decode cX0_findOrder 19 = .ok (.aload_n 0, 1) := by decide +kernel
theorem dX0_findOrder_20 : decode cX0_findOrder 20 = .ok (.getfield 91, 3) := by decide +kernel
theorem dX0_findOrder_23 : decode cX0_findOrder 23 = .ok (.if_icmp .ge 29, 3) := by decide +kernel
theorem dX0_findOrder_26 : decode cX0_findOrder 26 = .ok (.aload_n 0, 1) := by decide +kernel
theorem dX0_findOrder_27 : decode cX0_findOrder 27 = .ok (.getfield 78, 3) := by decide +kernel
theorem dX0_findOrder_30 : decode cX0_findOrder 30 = .ok (.iload_n 3, 1) := by decide +kernel
theorem dX0_findOrder_31 : decode cX0_findOrder 31 = .ok (.iaload, 1) := by decide +kernel
theorem dX0_findOrder_32 : decode cX0_findOrder 32 = .ok (.iload_n 2, 1) := by decide +kernel
theorem dX0_findOrder_33 : decode cX0_findOrder 33 = .ok (.if_icmp .ne 13, 3) := by decide +kernel
theorem dX0_findOrder_36 : decode cX0_findOrder 36 = .ok (.aload_n 0, 1) := by decide +kernel
theorem dX0_findOrder_37 : decode cX0_findOrder 37 = .ok (.getfield 85, 3) := by decide +kernel
theorem dX0_findOrder_40 : decode cX0_findOrder 40 = .ok (.iload_n 1, 1) := by decide +kernel
theorem dX0_findOrder_41 : decode cX0_findOrder 41 = .ok (.iload_n 3, 1) := by decide +kernel
theorem dX0_findOrder_42 : decode cX0_findOrder 42 = .ok (.iastore, 1) := by decide +kernel
theorem dX0_findOrder_43 : decode cX0_findOrder 43 = .ok (.iinc 1 1, 3) := by decide +kernel
theorem dX0_findOrder_46 : decode cX0_findOrder 46 = .ok (.iinc 3 1, 3) := by decide +kernel
theorem dX0_findOrder_49 : decode cX0_findOrder 49 = .ok (.goto (-31), 3) := by decide +kernel
theorem dX0_findOrder_52 : decode cX0_findOrder 52 = .ok (.iinc 2 1, 3) := by decide +kernel
theorem dX0_findOrder_55 : decode cX0_findOrder 55 = .ok (.goto (-47), 3) := by decide +kernel
theorem dX0_findOrder_58 : decode cX0_findOrder 58 = .ok (.return_, 1) := by decide +kernel
theorem dX0_read_0 : decode cX0_read 0 = .ok (.iconst 0, 1) := by decide +kernel
theorem dX0_read_1 : decode cX0_read 1 = .ok (.istore_n 2, 1) := by decide +kernel
theorem dX0_read_2 : decode cX0_read 2 = .ok (.iload_n 2, 1) := by decide +kernel
theorem dX0_read_3 : decode cX0_read 3 = .ok (.aload_n 0, 1) := by decide +kernel
theorem dX0_read_4 : decode cX0_read 4 = .ok (.getfield 91, 3) := by decide +kernel
theorem dX0_read_7 : decode cX0_read 7 = .ok (.if_icmp .ge 24, 3) := by decide +kernel
theorem dX0_read_10 : decode cX0_read 10 = .ok (.aload_n 0, 1) := by decide +kernel
theorem dX0_read_11 : decode cX0_read 11 = .ok (.getfield 55, 3) := by decide +kernel
theorem dX0_read_14 : decode cX0_read 14 = .ok (.aload_n 0, 1) := by decide +kernel
theorem dX0_read_15 : decode cX0_read 15 = .ok (.getfield 85, 3) := by decide +kernel
theorem dX0_read_18 : decode cX0_read 18 = .ok (.iload_n 2, 1) := by decide +kernel
theorem dX0_read_19 : decode cX0_read 19 = .ok (.iaload, 1) := by decide +kernel
theorem dX0_read_20 : decode cX0_read 20 = .ok (.aaload, 1) := by decide +kernel
theorem dX0_read_21 : decode cX0_read 21 = .ok (.iload_n 1, 1) := by decide +kernel
theorem dX0_read_22 : decode cX0_read 22 = .ok (.invokevirtual 201, 3) := by decide +kernel
theorem dX0_read_25 : decode cX0_read 25 = .ok (.iinc 2 1, 3) := by decide +kernel
theorem dX0_read_28 : decode cX0_read 28 = .ok (.goto (-26), 3) := by decide +kernel
theorem dX0_read_31 : decode cX0_read 31 = .ok (.return_, 1) := by decide +kernel
theorem hd_X0_checked : yX0_checked.cls = RX0 ∧ yX0_checked.cls ≠ "java/lang/invoke/MethodHandle" ∧ yX0_checked.cls ≠ "java/lang/invoke/VarHandle" ∧ (parseMethodDescriptor yX0_checked.desc).map (fun d => d.parameters.length) = some 0 := by decide +kernel
theorem hd_X0_cords : yX0_cords.cls = RX0 ∧ yX0_cords.cls ≠ "java/lang/invoke/MethodHandle" ∧ yX0_cords.cls ≠ "java/lang/invoke/VarHandle" ∧ (parseMethodDescriptor yX0_cords.desc).map (fun d => d.parameters.length) = some 0 := by decide +kernel
theorem hd_X0_greatest : yX0_greatest.cls = RX0 ∧ yX0_greatest.cls ≠ "java/lang/invoke/MethodHandle" ∧ yX0_greatest.cls ≠ "java/lang/invoke/VarHandle" ∧ (parseMethodDescriptor yX0_greatest.desc).map (fun d => d.parameters.length) = some 0 := by decide +kernel
theorem hd_X0_hasInputs : yX0_hasInputs.cls = RX0 ∧ yX0_hasInputs.cls ≠ "java/lang/invoke/MethodHandle" ∧ yX0_hasInputs.cls ≠ "java/lang/invoke/VarHandle" ∧ (parseMethodDescriptor yX0_hasInputs.desc).map (fun d => d.parameters.length) = some 1 := by decide +kernel
theorem hd_X0_isCircled : yX0_isCircled.cls = RX0 ∧ yX0_isCircled.cls ≠ "java/lang/invoke/MethodHandle" ∧ yX0_isCircled.cls ≠ "java/lang/invoke/VarHandle" ∧ (parseMethodDescriptor yX0_isCircled.desc).map (fun d => d.parameters.length) = some 1 := by decide +kernel
theorem hd_X0_lit : yX0_lit.cls = RX0 ∧ yX0_lit.cls ≠ "java/lang/invoke/MethodHandle" ∧ yX0_lit.cls ≠ "java/lang/invoke/VarHandle" ∧ (parseMethodDescriptor yX0_lit.desc).map (fun d => d.parameters.length) = some 0 := by decide +kernel
theorem hu_Module_read : "TwinPanel$Module" ≠ "java/lang/invoke/MethodHandle" ∧ "TwinPanel$Module" ≠ "java/lang/invoke/VarHandle" ∧ (parseMethodDescriptor "(I)V").map (fun d => d.parameters.length) = some 1 := by decide +kernel
theorem xt_X0_isCircled (l : Launch) (D : va_G) (dA : Nat → ClassId) (C : tp_C) (d : md_T) (j : xj_T) (m : Nat) (hC : mOK C) (hm : m < cN C) : xC l D dA yX0_isCircled cX0_isCircled 8 (some .boolean) 1 [.ref (jA j 0), .int (nI m)] C d j (some (.int (bI (icF C m (jRc j) m)))) C d (sRcA j (icF C m (jRc j))) := by
  refine xx_start (own := RX0) (by decide) rfl (Nat.le_of_ble_eq_true rfl) ?_
  intro p0 e0 s0 mid bl0 me0 co0 ls S hr hlk G hl
  have hx := S.1; have hb := S.2.1; have hml := S.2.2.1; have hown := S.2.2.2.1; have hts := S.2.2.2.2; have hN := hC.n
  have hl : lv_has ls 8 [(0, .ref (jA j 0)), (1, .int (nI m))] := hl
  have L0 : ∀ (n_ i : Nat), i ≤ cN C → cN C < i + n_ → ∀ (H : Heap) (locs : List Loc) (ls : Array Slot), xG D dA (xA dA C d j) C d (sRcA j (clB (jRc j) i)) s0 H locs → lv_has ls 8 [(3, .int (nI i)), (2, .ref (jA j 7)), (0, .ref (jA j 0)), (1, .int (nI m))] → (∀ (H : Heap) (locs : List Loc) (ls : Array Slot), xG D dA (xA dA C d j) C d (sRcA j (clB (jRc j) (cN C))) s0 H locs → lv_has ls 8 [(3, .int (nI (cN C))), (2, .ref (jA j 7)), (0, .ref (jA j 0)), (1, .int (nI m))] → W p0 l e0 (rm_ 1) s0 mid ([.ref (jA j 0), .int (nI m)] : List Value).toArray bl0 me0 co0 H locs 0 0 (MQ bl0 (xQ D dA C d j (some (.int (bI (icF C m (jRc j) m)))) C d (sRcA j (icF C m (jRc j)))) ([.ref (jA j 0), .int (nI m)] : List Value).toArray s0 0 0 (xA dA C d j)) (F0 mid 25 ls [])) → W p0 l e0 (rm_ 1) s0 mid ([.ref (jA j 0), .int (nI m)] : List Value).toArray bl0 me0 co0 H locs 0 0 (MQ bl0 (xQ D dA C d j (some (.int (bI (icF C m (jRc j) m)))) C d (sRcA j (icF C m (jRc j)))) ([.ref (jA j 0), .int (nI m)] : List Value).toArray s0 0 0 (xA dA C d j)) (F0 mid 7 ls []) := by
    intro n_
    induction n_ with
    | zero => intro i h1_ h2_; exact absurd h2_ (by omega)
    | succ n_ ih =>
      intro i h1_ h2_ H locs ls G hl kk
      refine lv_iload_n hx hb dX0_isCircled_7 rfl (lv_at hl 0 rfl) ?_
      refine lv_aload_n hx hb dX0_isCircled_8 rfl (lv_at hl 2 rfl) ?_
      refine xx_getP (j := (sRcA j (clB (jRc j) i))) S G 1 (by decide) q90 rfl (v := .int (nI (cN C))) rfl dX0_isCircled_9 ?_
      refine nn_cge (tgt := 25) hx hb (by omega) (by omega) dX0_isCircled_12 (by decide) (fun c_12 => ?_) (fun c_12 => ?_)
      · have hiN : i = cN C := by omega
        subst hiN
        exact kk H locs ls G (lv_sub hl [0, 1, 2, 3] rfl)
      · refine lv_aload_n hx hb dX0_isCircled_15 rfl (lv_at hl 1 rfl) ?_
        refine lv_iload_n hx hb dX0_isCircled_16 rfl (lv_at hl 0 rfl) ?_
        refine lv_iconst (v := nI 0) hx hb dX0_isCircled_17 (by decide) ?_
        refine xx_zast (j := (sRcA j (clB (jRc j) i))) S G (r := 7) (by decide) (xW_p (by decide) rfl) 1 rfl (i := i) (by omega) (by decide) (by first | rfl | exact bb_vp _) (xs_R7 (v := false)) dX0_isCircled_18 (fun H locs G => ?_)
        refine lv_iinc (v := nI (i + 1)) (lv' := [(3, .int (nI (i + 1))), (2, .ref (jA j 7)), (0, .ref (jA j 0)), (1, .int (nI m))]) hx hb dX0_isCircled_19 hl (k := 0) rfl (nI_1 _) (by decide) rfl (fun ls hl => ?_)
        refine lv_goto (tgt := 7) hx hb dX0_isCircled_22 (by decide) ?_
        exact ih (i + 1) (by omega) (by omega) H locs ls (xG_d (by exact xL_e rfl rfl rfl) G) (lv_sub hl [0, 1, 2, 3] rfl) kk
  have L3 : ∀ (g : Nat → Bool) (b : Bool) (k : Nat) (hk : k < cN C) (n_ i : Nat), i ≤ 6 → 6 < i + n_ → ∀ (H : Heap) (locs : List Loc) (ls : Array Slot), xG D dA (xA dA C d j) C d (sRcA j g) s0 H locs → lv_has ls 8 [(6, .int (nI i)), (5, .int (bI (mtA C m g k i))), (4, .int (nI k)), (3, .int (bI b)), (2, .ref (jA j 7)), (0, .ref (jA j 0)), (1, .int (nI m))] → (∀ (H : Heap) (locs : List Loc) (ls : Array Slot), xG D dA (xA dA C d j) C d (sRcA j g) s0 H locs → lv_has ls 8 [(6, .int (nI 6)), (5, .int (bI (mtA C m g k 6))), (4, .int (nI k)), (3, .int (bI b)), (2, .ref (jA j 7)), (0, .ref (jA j 0)), (1, .int (nI m))] → W p0 l e0 (rm_ 1) s0 mid ([.ref (jA j 0), .int (nI m)] : List Value).toArray bl0 me0 co0 H locs 0 0 (MQ bl0 (xQ D dA C d j (some (.int (bI (icF C m (jRc j) m)))) C d (sRcA j (icF C m (jRc j)))) ([.ref (jA j 0), .int (nI m)] : List Value).toArray s0 0 0 (xA dA C d j)) (F0 mid 128 ls [])) → W p0 l e0 (rm_ 1) s0 mid ([.ref (jA j 0), .int (nI m)] : List Value).toArray bl0 me0 co0 H locs 0 0 (MQ bl0 (xQ D dA C d j (some (.int (bI (icF C m (jRc j) m)))) C d (sRcA j (icF C m (jRc j)))) ([.ref (jA j 0), .int (nI m)] : List Value).toArray s0 0 0 (xA dA C d j)) (F0 mid 71 ls []) := by
    intro g b k hk n_
    induction n_ with
    | zero => intro i h1_ h2_; exact absurd h2_ (by omega)
    | succ n_ ih =>
      intro i h1_ h2_ H locs ls G hl kk
      refine lv_iload hx hb dX0_isCircled_71 (lv_at hl 0 rfl) ?_
      refine lv_bipush (v := nI 6) hx hb dX0_isCircled_73 (by decide) ?_
      refine nn_cge (tgt := 128) hx hb (by omega) (by omega) dX0_isCircled_75 (by decide) (fun c_75 => ?_) (fun c_75 => ?_)
      · have hiN : i = 6 := by omega
        subst hiN
        exact kk H locs ls G (lv_sub hl [0, 1, 2, 3, 4, 5, 6] rfl)
      · refine lv_aload_n hx hb dX0_isCircled_78 rfl (lv_at hl 5 rfl) ?_
        refine xx_getP (j := (sRcA j g)) S G 0 (by decide) q89 rfl (v := .ref (jA j 1)) rfl dX0_isCircled_79 ?_
        refine lv_iload hx hb dX0_isCircled_82 (lv_at hl 2 rfl) ?_
        refine xx_aald (j := (sRcA j g)) S G (r := 1) (by decide) (xW_p (by decide) rfl) (i := k) (by omega) (by decide) (o := some (jA j (xr k 0))) (if_pos (by omega)) dX0_isCircled_84 ?_
        refine W.eq (g2 := F0 mid 85 ls [.ref (jA j (xr k 0))]) rfl ?_
        refine xx_get11 (j := (sRcA j g)) S G (mm := k) (by omega) hN (hC.k _) 4 (by decide) q222 rfl (v := .ref (jA j (xr k 2))) rfl dX0_isCircled_85 ?_
        refine lv_iload hx hb dX0_isCircled_88 (lv_at hl 0 rfl) ?_
        refine xx_iald (j := (sRcA j g)) S G (r := xr k 2) (xr_lt (by decide) (Nat.lt_of_lt_of_le (by omega) hN)) (xW_m (by decide) (by omega) rfl) 0 rfl (i := i) (by omega) (by decide) (v := oI (cF C k i)) rfl dX0_isCircled_90 ?_
        refine lv_istore (lv' := [(7, .int (oI (cF C k i))), (6, .int (nI i)), (5, .int (bI (mtA C m g k i))), (4, .int (nI k)), (3, .int (bI b)), (2, .ref (jA j 7)), (0, .ref (jA j 0)), (1, .int (nI m))]) hx hb dX0_isCircled_91 hl (by decide) rfl (fun ls hl => ?_)
        refine lv_iload hx hb dX0_isCircled_93 (lv_at hl 2 rfl) ?_
        refine lv_iload hx hb dX0_isCircled_95 (lv_at hl 0 rfl) ?_
        refine lv_iconst (v := (-1)) hx hb dX0_isCircled_97 (by decide) ?_
        refine oo_ceq (tgt := 118) hx hb hC.f31 dX0_isCircled_98 (by decide) (fun c_98 => ?_) (fun k_98 c_98 => ?_)
        · rw [c_98] at hl
          have hl : lv_has ls 8 [(7, .int (-1)), (6, .int (nI i)), (5, .int (bI (mtA C m g k i))), (4, .int (nI k)), (3, .int (bI b)), (2, .ref (jA j 7)), (0, .ref (jA j 0)), (1, .int (nI m))] := hl
          refine lv_iconst (v := nI 0) hx hb dX0_isCircled_118 (by decide) ?_
          refine lv_ior hx hb dX0_isCircled_119 ?_
          refine w_st (st' := [.int (bI (mtA C m g k (i + 1)))]) (by simp [mtA_s, mtI, bo_1, bo_0, c_75, c_98]) ?_
          refine lv_istore (lv' := [(5, .int (bI (mtA C m g k (i + 1)))), (7, .int (-1)), (6, .int (nI i)), (4, .int (nI k)), (3, .int (bI b)), (2, .ref (jA j 7)), (0, .ref (jA j 0)), (1, .int (nI m))]) hx hb dX0_isCircled_120 hl (by decide) rfl (fun ls hl => ?_)
          refine lv_iinc (v := nI (i + 1)) (lv' := [(6, .int (nI (i + 1))), (5, .int (bI (mtA C m g k (i + 1)))), (7, .int (-1)), (4, .int (nI k)), (3, .int (bI b)), (2, .ref (jA j 7)), (0, .ref (jA j 0)), (1, .int (nI m))]) hx hb dX0_isCircled_122 hl (k := 2) rfl (nI_1 _) (by decide) rfl (fun ls hl => ?_)
          refine lv_goto (tgt := 71) hx hb dX0_isCircled_125 (by decide) ?_
          exact ih (i + 1) (by omega) (by omega) H locs ls G (lv_sub hl [0, 1, 3, 4, 5, 6, 7] rfl) kk
        · rw [c_98] at hl
          have hl : lv_has ls 8 [(7, .int (nI k_98)), (6, .int (nI i)), (5, .int (bI (mtA C m g k i))), (4, .int (nI k)), (3, .int (bI b)), (2, .ref (jA j 7)), (0, .ref (jA j 0)), (1, .int (nI m))] := hl
          have hkN := hC.f c_98
          refine lv_iload hx hb dX0_isCircled_101 (lv_at hl 0 rfl) ?_
          refine lv_iload_n hx hb dX0_isCircled_103 rfl (lv_at hl 7 rfl) ?_
          refine nn_ceq (tgt := 114) hx hb (by omega) (by omega) dX0_isCircled_104 (by decide) (fun c_104 => ?_) (fun c_104 => ?_)
          · refine lv_iconst (v := nI 1) hx hb dX0_isCircled_114 (by decide) ?_
            refine lv_goto (tgt := 119) hx hb dX0_isCircled_115 (by decide) ?_
            refine lv_ior hx hb dX0_isCircled_119 ?_
            refine w_st (st' := [.int (bI (mtA C m g k (i + 1)))]) (by simp [mtA_s, mtI, bo_1, bo_0, c_75, c_98, c_104]) ?_
            refine lv_istore (lv' := [(5, .int (bI (mtA C m g k (i + 1)))), (7, .int (nI k_98)), (6, .int (nI i)), (4, .int (nI k)), (3, .int (bI b)), (2, .ref (jA j 7)), (0, .ref (jA j 0)), (1, .int (nI m))]) hx hb dX0_isCircled_120 hl (by decide) rfl (fun ls hl => ?_)
            refine lv_iinc (v := nI (i + 1)) (lv' := [(6, .int (nI (i + 1))), (5, .int (bI (mtA C m g k (i + 1)))), (7, .int (nI k_98)), (4, .int (nI k)), (3, .int (bI b)), (2, .ref (jA j 7)), (0, .ref (jA j 0)), (1, .int (nI m))]) hx hb dX0_isCircled_122 hl (k := 2) rfl (nI_1 _) (by decide) rfl (fun ls hl => ?_)
            refine lv_goto (tgt := 71) hx hb dX0_isCircled_125 (by decide) ?_
            exact ih (i + 1) (by omega) (by omega) H locs ls G (lv_sub hl [0, 1, 3, 4, 5, 6, 7] rfl) kk
          · refine lv_aload_n hx hb dX0_isCircled_107 rfl (lv_at hl 5 rfl) ?_
            refine lv_iload hx hb dX0_isCircled_108 (lv_at hl 0 rfl) ?_
            refine xx_zald (j := (sRcA j g)) S G (r := 7) (by decide) (xW_p (by decide) rfl) 1 rfl (i := k_98) (by omega) (by decide) (v := bI (g k_98)) rfl dX0_isCircled_110 ?_
            refine bb_eq (tgt := 118) hx hb dX0_isCircled_111 (by decide) (fun c_111 => ?_) (fun c_111 => ?_)
            · refine lv_iconst (v := nI 0) hx hb dX0_isCircled_118 (by decide) ?_
              refine lv_ior hx hb dX0_isCircled_119 ?_
              refine w_st (st' := [.int (bI (mtA C m g k (i + 1)))]) (by simp [mtA_s, mtI, bo_1, bo_0, c_75, c_98, c_104, c_111]) ?_
              refine lv_istore (lv' := [(5, .int (bI (mtA C m g k (i + 1)))), (7, .int (nI k_98)), (6, .int (nI i)), (4, .int (nI k)), (3, .int (bI b)), (2, .ref (jA j 7)), (0, .ref (jA j 0)), (1, .int (nI m))]) hx hb dX0_isCircled_120 hl (by decide) rfl (fun ls hl => ?_)
              refine lv_iinc (v := nI (i + 1)) (lv' := [(6, .int (nI (i + 1))), (5, .int (bI (mtA C m g k (i + 1)))), (7, .int (nI k_98)), (4, .int (nI k)), (3, .int (bI b)), (2, .ref (jA j 7)), (0, .ref (jA j 0)), (1, .int (nI m))]) hx hb dX0_isCircled_122 hl (k := 2) rfl (nI_1 _) (by decide) rfl (fun ls hl => ?_)
              refine lv_goto (tgt := 71) hx hb dX0_isCircled_125 (by decide) ?_
              exact ih (i + 1) (by omega) (by omega) H locs ls G (lv_sub hl [0, 1, 3, 4, 5, 6, 7] rfl) kk
            · refine lv_iconst (v := nI 1) hx hb dX0_isCircled_114 (by decide) ?_
              refine lv_goto (tgt := 119) hx hb dX0_isCircled_115 (by decide) ?_
              refine lv_ior hx hb dX0_isCircled_119 ?_
              refine w_st (st' := [.int (bI (mtA C m g k (i + 1)))]) (by simp [mtA_s, mtI, bo_1, bo_0, c_75, c_98, c_104, c_111]) ?_
              refine lv_istore (lv' := [(5, .int (bI (mtA C m g k (i + 1)))), (7, .int (nI k_98)), (6, .int (nI i)), (4, .int (nI k)), (3, .int (bI b)), (2, .ref (jA j 7)), (0, .ref (jA j 0)), (1, .int (nI m))]) hx hb dX0_isCircled_120 hl (by decide) rfl (fun ls hl => ?_)
              refine lv_iinc (v := nI (i + 1)) (lv' := [(6, .int (nI (i + 1))), (5, .int (bI (mtA C m g k (i + 1)))), (7, .int (nI k_98)), (4, .int (nI k)), (3, .int (bI b)), (2, .ref (jA j 7)), (0, .ref (jA j 0)), (1, .int (nI m))]) hx hb dX0_isCircled_122 hl (k := 2) rfl (nI_1 _) (by decide) rfl (fun ls hl => ?_)
              refine lv_goto (tgt := 71) hx hb dX0_isCircled_125 (by decide) ?_
              exact ih (i + 1) (by omega) (by omega) H locs ls G (lv_sub hl [0, 1, 3, 4, 5, 6, 7] rfl) kk
  have L2 : ∀ (f : Nat → Bool) (n_ k : Nat), k ≤ cN C → cN C < k + n_ → ∀ (H : Heap) (locs : List Loc) (ls : Array Slot), xG D dA (xA dA C d j) C d (sRcA j ((mtP C m k f).1)) s0 H locs → lv_has ls 8 [(4, .int (nI k)), (3, .int (bI ((mtP C m k f).2))), (2, .ref (jA j 7)), (0, .ref (jA j 0)), (1, .int (nI m))] → (∀ (H : Heap) (locs : List Loc) (ls : Array Slot), xG D dA (xA dA C d j) C d (sRcA j ((mtP C m (cN C) f).1)) s0 H locs → lv_has ls 8 [(4, .int (nI (cN C))), (3, .int (bI ((mtP C m (cN C) f).2))), (2, .ref (jA j 7)), (0, .ref (jA j 0)), (1, .int (nI m))] → W p0 l e0 (rm_ 1) s0 mid ([.ref (jA j 0), .int (nI m)] : List Value).toArray bl0 me0 co0 H locs 0 0 (MQ bl0 (xQ D dA C d j (some (.int (bI (icF C m (jRc j) m)))) C d (sRcA j (icF C m (jRc j)))) ([.ref (jA j 0), .int (nI m)] : List Value).toArray s0 0 0 (xA dA C d j)) (F0 mid 145 ls [])) → W p0 l e0 (rm_ 1) s0 mid ([.ref (jA j 0), .int (nI m)] : List Value).toArray bl0 me0 co0 H locs 0 0 (MQ bl0 (xQ D dA C d j (some (.int (bI (icF C m (jRc j) m)))) C d (sRcA j (icF C m (jRc j)))) ([.ref (jA j 0), .int (nI m)] : List Value).toArray s0 0 0 (xA dA C d j)) (F0 mid 36 ls []) := by
    intro f n_
    induction n_ with
    | zero => intro k h1_ h2_; exact absurd h2_ (by omega)
    | succ n_ ih =>
      intro k h1_ h2_ H locs ls G hl kk
      refine lv_iload hx hb dX0_isCircled_36 (lv_at hl 0 rfl) ?_
      refine lv_aload_n hx hb dX0_isCircled_38 rfl (lv_at hl 3 rfl) ?_
      refine xx_getP (j := (sRcA j ((mtP C m k f).1))) S G 1 (by decide) q90 rfl (v := .int (nI (cN C))) rfl dX0_isCircled_39 ?_
      refine nn_cge (tgt := 145) hx hb (by omega) (by omega) dX0_isCircled_42 (by decide) (fun c_42 => ?_) (fun c_42 => ?_)
      · have hiN : k = cN C := by omega
        subst hiN
        exact kk H locs ls G (lv_sub hl [0, 1, 2, 3, 4] rfl)
      · refine lv_aload_n hx hb dX0_isCircled_45 rfl (lv_at hl 3 rfl) ?_
        refine xx_getP (j := (sRcA j ((mtP C m k f).1))) S G 0 (by decide) q89 rfl (v := .ref (jA j 1)) rfl dX0_isCircled_46 ?_
        refine lv_iload hx hb dX0_isCircled_49 (lv_at hl 0 rfl) ?_
        refine xx_aald (j := (sRcA j ((mtP C m k f).1))) S G (r := 1) (by decide) (xW_p (by decide) rfl) (i := k) (by omega) (by decide) (o := some (jA j (xr k 0))) (if_pos (by omega)) dX0_isCircled_51 ?_
        refine W.eq (g2 := F0 mid 52 ls [.ref (jA j (xr k 0))]) rfl ?_
        refine xo_remembers (j := (sRcA j ((mtP C m k f).1))) (mm := k) (rest := []) S G hC (by omega) ⟨Nat.le_of_ble_eq_true rfl, Nat.le_of_ble_eq_true rfl⟩ ⟨Nat.zero_le _, Nat.zero_le _⟩ hl.1 (Nat.le_of_ble_eq_true rfl) dX0_isCircled_52 (fun H locs G => ?_)
        refine W.eq (g2 := F0 mid 55 ls [.int (bI (rmB (cK C k)))]) rfl ?_
        refine bb_ne (tgt := 139) hx hb dX0_isCircled_55 (by decide) (fun c_55 => ?_) (fun c_55 => ?_)
        · refine lv_iinc (v := nI (k + 1)) (lv' := [(4, .int (nI (k + 1))), (3, .int (bI ((mtP C m k f).2))), (2, .ref (jA j 7)), (0, .ref (jA j 0)), (1, .int (nI m))]) hx hb dX0_isCircled_139 hl (k := 0) rfl (nI_1 _) (by decide) rfl (fun ls hl => ?_)
          refine lv_goto (tgt := 36) hx hb dX0_isCircled_142 (by decide) ?_
          exact ih (k + 1) (by omega) (by omega) H locs ls (xG_d (by exact xL_e rfl rfl (by simp [mtP_s, mtS, sRc_A, c_42, c_55])) G) (lv_eq (lv_sub (l' := [(4, .int (nI (k + 1))), (3, .int (bI ((mtP C m k f).2))), (2, .ref (jA j 7)), (0, .ref (jA j 0)), (1, .int (nI m))]) hl [0, 1, 2, 3, 4] rfl) (by simp [mtP_s, mtS, c_42, c_55])) kk
        · refine lv_aload_n hx hb dX0_isCircled_58 rfl (lv_at hl 2 rfl) ?_
          refine lv_iload hx hb dX0_isCircled_59 (lv_at hl 0 rfl) ?_
          refine xx_zald (j := (sRcA j ((mtP C m k f).1))) S G (r := 7) (by decide) (xW_p (by decide) rfl) 1 rfl (i := k) (by omega) (by decide) (v := bI ((mtP C m k f).1 k)) rfl dX0_isCircled_61 ?_
          refine bb_ne (tgt := 139) hx hb dX0_isCircled_62 (by decide) (fun c_62 => ?_) (fun c_62 => ?_)
          · refine lv_iinc (v := nI (k + 1)) (lv' := [(4, .int (nI (k + 1))), (3, .int (bI ((mtP C m k f).2))), (2, .ref (jA j 7)), (0, .ref (jA j 0)), (1, .int (nI m))]) hx hb dX0_isCircled_139 hl (k := 0) rfl (nI_1 _) (by decide) rfl (fun ls hl => ?_)
            refine lv_goto (tgt := 36) hx hb dX0_isCircled_142 (by decide) ?_
            exact ih (k + 1) (by omega) (by omega) H locs ls (xG_d (by exact xL_e rfl rfl (by simp [mtP_s, mtS, sRc_A, c_42, c_55, c_62])) G) (lv_eq (lv_sub (l' := [(4, .int (nI (k + 1))), (3, .int (bI ((mtP C m k f).2))), (2, .ref (jA j 7)), (0, .ref (jA j 0)), (1, .int (nI m))]) hl [0, 1, 2, 3, 4] rfl) (by simp [mtP_s, mtS, c_42, c_55, c_62])) kk
          · refine lv_iconst (v := nI 0) hx hb dX0_isCircled_65 (by decide) ?_
            refine lv_istore (lv' := [(5, .int (nI 0)), (4, .int (nI k)), (3, .int (bI ((mtP C m k f).2))), (2, .ref (jA j 7)), (0, .ref (jA j 0)), (1, .int (nI m))]) hx hb dX0_isCircled_66 hl (by decide) rfl (fun ls hl => ?_)
            refine lv_iconst (v := nI 0) hx hb dX0_isCircled_68 (by decide) ?_
            refine lv_istore (lv' := [(6, .int (nI 0)), (5, .int (nI 0)), (4, .int (nI k)), (3, .int (bI ((mtP C m k f).2))), (2, .ref (jA j 7)), (0, .ref (jA j 0)), (1, .int (nI m))]) hx hb dX0_isCircled_69 hl (by decide) rfl (fun ls hl => ?_)
            refine L3 (mtP C m k f).1 (mtP C m k f).2 k (by omega) 7 0 (by omega) (by omega) _ _ ls (xG_d (xL_e rfl (by rfl) rfl) G) (lv_eq (lv_sub (l' := [(6, .int (nI 0)), (5, .int (nI 0)), (4, .int (nI k)), (3, .int (bI ((mtP C m k f).2))), (2, .ref (jA j 7)), (0, .ref (jA j 0)), (1, .int (nI m))]) hl [0, 1, 2, 3, 4, 5, 6] rfl) (by rfl)) (fun H locs ls G hl => ?_)
            refine lv_aload_n hx hb dX0_isCircled_128 rfl (lv_at hl 4 rfl) ?_
            refine lv_iload hx hb dX0_isCircled_129 (lv_at hl 2 rfl) ?_
            refine lv_iload hx hb dX0_isCircled_131 (lv_at hl 1 rfl) ?_
            refine xx_zast (j := (sRcA j ((mtP C m k f).1))) S G (r := 7) (by decide) (xW_p (by decide) rfl) 1 rfl (i := k) (by omega) (by decide) (by first | rfl | exact bb_vp _) (xs_R7 (v := mtA C m (mtP C m k f).1 k 6)) dX0_isCircled_133 (fun H locs G => ?_)
            refine lv_iload_n hx hb dX0_isCircled_134 rfl (lv_at hl 3 rfl) ?_
            refine lv_iload hx hb dX0_isCircled_135 (lv_at hl 1 rfl) ?_
            refine lv_ior hx hb dX0_isCircled_137 ?_
            refine w_st (st' := [.int (bI ((mtP C m k f).2 || mtA C m (mtP C m k f).1 k 6))]) (by rw [bo_b]) ?_
            refine lv_istore_n (lv' := [(3, .int (bI ((mtP C m k f).2 || mtA C m (mtP C m k f).1 k 6))), (6, .int (nI 6)), (5, .int (bI (mtA C m (mtP C m k f).1 k 6))), (4, .int (nI k)), (2, .ref (jA j 7)), (0, .ref (jA j 0)), (1, .int (nI m))]) hx hb dX0_isCircled_138 rfl hl (by decide) rfl (fun ls hl => ?_)
            refine lv_iinc (v := nI (k + 1)) (lv' := [(4, .int (nI (k + 1))), (3, .int (bI ((mtP C m k f).2 || mtA C m (mtP C m k f).1 k 6))), (6, .int (nI 6)), (5, .int (bI (mtA C m (mtP C m k f).1 k 6))), (2, .ref (jA j 7)), (0, .ref (jA j 0)), (1, .int (nI m))]) hx hb dX0_isCircled_139 hl (k := 3) rfl (nI_1 _) (by decide) rfl (fun ls hl => ?_)
            refine lv_goto (tgt := 36) hx hb dX0_isCircled_142 (by decide) ?_
            exact ih (k + 1) (by omega) (by omega) H locs ls (xG_d (by exact xL_e rfl rfl (by simp [mtP_s, mtS, sRc_A, c_42, c_55, c_62])) G) (lv_eq (lv_sub (l' := [(4, .int (nI (k + 1))), (3, .int (bI ((mtP C m k f).2 || mtA C m (mtP C m k f).1 k 6))), (2, .ref (jA j 7)), (0, .ref (jA j 0)), (1, .int (nI m))]) hl [0, 1, 4, 5, 6] rfl) (by simp [mtP_s, mtS, c_42, c_55, c_62])) kk
  have L1 : ∀ (n_ : Nat) (f : Nat → Bool) (b : Bool), (unm f (cN C) + (if b then 1 else 0) < n_) → (mtW C m n_ f b = icF C m (jRc j)) → ∀ (H : Heap) (locs : List Loc) (ls : Array Slot), xG D dA (xA dA C d j) C d (sRcA j f) s0 H locs → lv_has ls 8 [(3, .int (bI b)), (2, .ref (jA j 7)), (0, .ref (jA j 0)), (1, .int (nI m))] → W p0 l e0 (rm_ 1) s0 mid ([.ref (jA j 0), .int (nI m)] : List Value).toArray bl0 me0 co0 H locs 0 0 (MQ bl0 (xQ D dA C d j (some (.int (bI (icF C m (jRc j) m)))) C d (sRcA j (icF C m (jRc j)))) ([.ref (jA j 0), .int (nI m)] : List Value).toArray s0 0 0 (xA dA C d j)) (F0 mid 27 ls []) := by
    intro n_
    induction n_ with
    | zero => intro f b h1_ hRes; exact absurd h1_ (Nat.not_lt_zero _)
    | succ n_ ih =>
      intro f b h1_ hRes H locs ls G hl
      refine lv_iload_n hx hb dX0_isCircled_27 rfl (lv_at hl 0 rfl) ?_
      refine bb_eq (tgt := 148) hx hb dX0_isCircled_28 (by decide) (fun c_28 => ?_) (fun c_28 => ?_)
      · refine lv_aload_n hx hb dX0_isCircled_148 rfl (lv_at hl 1 rfl) ?_
        refine lv_iload_n hx hb dX0_isCircled_149 rfl (lv_at hl 3 rfl) ?_
        refine xx_zald (j := (sRcA j f)) S G (r := 7) (by decide) (xW_p (by decide) rfl) 1 rfl (i := m) (by omega) (by decide) (v := bI (f m)) rfl dX0_isCircled_150 ?_
        exact xx_zret S hr hlk G (by first | rfl | exact bb_nar _) (by rw [← hRes]; simp [mtW, c_28]) (xL_e rfl rfl (by rw [← hRes]; simp [mtW, c_28])) dX0_isCircled_151
      · refine lv_iconst (v := nI 0) hx hb dX0_isCircled_31 (by decide) ?_
        refine lv_istore_n (lv' := [(3, .int (nI 0)), (2, .ref (jA j 7)), (0, .ref (jA j 0)), (1, .int (nI m))]) hx hb dX0_isCircled_32 rfl hl (by decide) rfl (fun ls hl => ?_)
        refine lv_iconst (v := nI 0) hx hb dX0_isCircled_33 (by decide) ?_
        refine lv_istore (lv' := [(4, .int (nI 0)), (3, .int (nI 0)), (2, .ref (jA j 7)), (0, .ref (jA j 0)), (1, .int (nI m))]) hx hb dX0_isCircled_34 hl (by decide) rfl (fun ls hl => ?_)
        refine L2 f (cN C + 1) 0 (by omega) (by omega) _ _ ls (xG_d (xL_e rfl (by rfl) rfl) G) (lv_eq (lv_sub (l' := [(4, .int (nI 0)), (3, .int (nI 0)), (2, .ref (jA j 7)), (0, .ref (jA j 0)), (1, .int (nI m))]) hl [0, 1, 2, 3, 4] rfl) (by rfl)) (fun H locs ls G hl => ?_)
        refine lv_goto (tgt := 27) hx hb dX0_isCircled_145 (by decide) ?_
        exact ih ((mtP C m (cN C) f).1) ((mtP C m (cN C) f).2) (mt_dec (by simpa [c_28] using h1_)) (by rw [← hRes]; simp [mtW, c_28]) H locs ls G (lv_sub hl [1, 2, 3, 4] rfl)
  refine lv_aload_n hx hb dX0_isCircled_0 rfl (lv_at hl 0 rfl) ?_
  refine xx_getP S G 15 (by decide) q104 rfl (v := .ref (jA j 7)) rfl dX0_isCircled_1 ?_
  refine lv_astore_n (lv' := [(2, .ref (jA j 7)), (0, .ref (jA j 0)), (1, .int (nI m))]) hx hb dX0_isCircled_4 rfl hl (by decide) rfl (fun ls hl => ?_)
  refine lv_iconst (v := nI 0) hx hb dX0_isCircled_5 (by decide) ?_
  refine lv_istore_n (lv' := [(3, .int (nI 0)), (2, .ref (jA j 7)), (0, .ref (jA j 0)), (1, .int (nI m))]) hx hb dX0_isCircled_6 rfl hl (by decide) rfl (fun ls hl => ?_)
  refine L0 (cN C + 1) 0 (by omega) (by omega) _ _ ls (xG_d (by exact xL_e rfl rfl rfl) G) (lv_sub hl [0, 1, 2, 3] rfl) (fun H locs ls G hl => ?_)
  refine lv_iconst (v := nI 1) hx hb dX0_isCircled_25 (by decide) ?_
  refine lv_istore_n (lv' := [(3, .int (nI 1)), (2, .ref (jA j 7)), (0, .ref (jA j 0)), (1, .int (nI m))]) hx hb dX0_isCircled_26 rfl hl (by decide) rfl (fun ls hl => ?_)
  refine L1 (cN C + 3) (clB (jRc j) (cN C)) true (by have := ctB_le (fun k => !clB (jRc j) (cN C) k) (cN C); unfold unm; simp; omega) rfl _ _ ls G (lv_eq (lv_sub (l' := [(3, .int (nI 1)), (2, .ref (jA j 7)), (0, .ref (jA j 0)), (1, .int (nI m))]) hl [0, 1, 2, 3] rfl) (by rfl))
theorem xt_X0_checked (l : Launch) (D : va_G) (dA : Nat → ClassId) (C : tp_C) (d : md_T) (j : xj_T) (hC : mOK C) : xC l D dA yX0_checked cX0_checked 2 (some .int) 2 [.ref (jA j 0)] C d j (some (.int (nI (xkN C (jRc j))))) C (uI d 16 (nI (xkB C (jRc j)))) (sRcA j (xkJ C (jRc j))) := by
  refine xx_start (own := RX0) (by decide) rfl (Nat.le_of_ble_eq_true rfl) ?_
  intro p0 e0 s0 mid bl0 me0 co0 ls S hr hlk G hl
  have hx := S.1; have hb := S.2.1; have hml := S.2.2.1; have hown := S.2.2.2.1; have hts := S.2.2.2.2; have hN := hC.n
  have hl : lv_has ls 2 [(0, .ref (jA j 0))] := hl
  have L1 : ∀ (n_ i : Nat), i ≤ cN C → cN C < i + n_ → (∀ k, k < i → ckP1 C k = false) → ∀ (H : Heap) (locs : List Loc) (ls : Array Slot), xG D dA (xA dA C d j) C (uI d 16 (nI 0)) j s0 H locs → lv_has ls 2 [(1, .int (nI i)), (0, .ref (jA j 0))] → (∀ (H : Heap) (locs : List Loc) (ls : Array Slot), (∀ k, k < cN C → ckP1 C k = false) → xG D dA (xA dA C d j) C (uI d 16 (nI 0)) j s0 H locs → lv_has ls 2 [(1, .int (nI (cN C))), (0, .ref (jA j 0))] → W p0 l e0 (rm_ 2) s0 mid ([.ref (jA j 0)] : List Value).toArray bl0 me0 co0 H locs 0 0 (MQ bl0 (xQ D dA C d j (some (.int (nI (xkN C (jRc j))))) C (uI d 16 (nI (xkB C (jRc j)))) (sRcA j (xkJ C (jRc j)))) ([.ref (jA j 0)] : List Value).toArray s0 0 0 (xA dA C d j)) (F0 mid 43 ls [])) → W p0 l e0 (rm_ 2) s0 mid ([.ref (jA j 0)] : List Value).toArray bl0 me0 co0 H locs 0 0 (MQ bl0 (xQ D dA C d j (some (.int (nI (xkN C (jRc j))))) C (uI d 16 (nI (xkB C (jRc j)))) (sRcA j (xkJ C (jRc j)))) ([.ref (jA j 0)] : List Value).toArray s0 0 0 (xA dA C d j)) (F0 mid 7 ls []) := by
    intro n_
    induction n_ with
    | zero => intro i h1_ h2_; exact absurd h2_ (by omega)
    | succ n_ ih =>
      intro i h1_ h2_ hh0 H locs ls G hl kk
      refine lv_iload_n hx hb dX0_checked_7 rfl (lv_at hl 0 rfl) ?_
      refine lv_aload_n hx hb dX0_checked_8 rfl (lv_at hl 1 rfl) ?_
      refine xx_getP S G 1 (by decide) q90 rfl (v := .int (nI (cN C))) rfl dX0_checked_9 ?_
      refine nn_cge (tgt := 43) hx hb (by omega) (by omega) dX0_checked_12 (by decide) (fun c_12 => ?_) (fun c_12 => ?_)
      · have hiN : i = cN C := by omega
        subst hiN
        exact kk H locs ls hh0 G (lv_sub hl [0, 1] rfl)
      · refine lv_aload_n hx hb dX0_checked_15 rfl (lv_at hl 1 rfl) ?_
        refine lv_aload_n hx hb dX0_checked_16 rfl (lv_at hl 1 rfl) ?_
        refine xx_getP S G 0 (by decide) q89 rfl (v := .ref (jA j 1)) rfl dX0_checked_17 ?_
        refine lv_iload_n hx hb dX0_checked_20 rfl (lv_at hl 0 rfl) ?_
        refine xx_aald S G (r := 1) (by decide) (xW_p (by decide) rfl) (i := i) (by omega) (by decide) (o := some (jA j (xr i 0))) (if_pos (by omega)) dX0_checked_21 ?_
        refine W.eq (g2 := F0 mid 22 ls [.ref (jA j (xr i 0)), .ref (jA j 0)]) rfl ?_
        refine xx_callP (As := [.ref (jA j (xr i 0))]) (rest := []) S G (xt_X0_hasInputs l D dA C (uI d 16 (nI 0)) j i hC (by omega)) q624 q626 qs2 q627 hd_X0_hasInputs ⟨Nat.le_of_ble_eq_true rfl, Nat.le_of_ble_eq_true rfl⟩ rfl hl.1 rfl (Nat.le_of_ble_eq_true rfl) dX0_checked_22 ⟨Nat.zero_le _, Nat.zero_le _⟩ (fun H locs G => ?_)
        refine W.eq (g2 := F0 mid 25 ls [.int (bI (hiB C i))]) rfl ?_
        refine bb_ne (tgt := 37) hx hb dX0_checked_25 (by decide) (fun c_25 => ?_) (fun c_25 => ?_)
        · refine lv_iinc (v := nI (i + 1)) (lv' := [(1, .int (nI (i + 1))), (0, .ref (jA j 0))]) hx hb dX0_checked_37 hl (k := 0) rfl (nI_1 _) (by decide) rfl (fun ls hl => ?_)
          refine lv_goto (tgt := 7) hx hb dX0_checked_40 (by decide) ?_
          exact ih (i + 1) (by omega) (by omega) (lt_sB hh0 (by simp [ckP1, c_25])) H locs ls (xG_d (xL_e rfl (by rfl) rfl) G) (lv_sub hl [0, 1] rfl) kk
        · have f1 : fi_ (ckP1 C) (cN C) = some i := fi_some (by omega) (by simp [ckP1, c_25]) hh0
          refine lv_aload_n hx hb dX0_checked_28 rfl (lv_at hl 1 rfl) ?_
          refine lv_iconst (v := nI 1) hx hb dX0_checked_29 (by decide) ?_
          refine xx_putP S G 7 (by decide) q96 rfl rfl rfl rfl xs_P7 dX0_checked_30 (fun H locs G => ?_)
          refine lv_iload_n hx hb dX0_checked_33 rfl (lv_at hl 0 rfl) ?_
          refine lv_iconst (v := nI 1) hx hb dX0_checked_34 (by decide) ?_
          refine nn_add hx hb dX0_checked_35 ?_
          exact xx_iret S hr hlk G (by simp [xkN, xkB, xkJ, uI_uI, f1, Nat.add_comm] <;> rfl) (xL_e rfl (by simp [xkN, xkB, xkJ, uI_uI, f1, Nat.add_comm] <;> rfl) (by simp [xkJ, f1] <;> rfl)) dX0_checked_36
  have L2 : ∀ (f1 : fi_ (ckP1 C) (cN C) = none) (n_ i : Nat), i ≤ cN C → cN C < i + n_ → (∀ k, k < i → ckP2 C k = false) → ∀ (H : Heap) (locs : List Loc) (ls : Array Slot), xG D dA (xA dA C d j) C (uI d 16 (nI 0)) j s0 H locs → lv_has ls 2 [(1, .int (nI i)), (0, .ref (jA j 0))] → (∀ (H : Heap) (locs : List Loc) (ls : Array Slot), (∀ k, k < cN C → ckP2 C k = false) → xG D dA (xA dA C d j) C (uI d 16 (nI 0)) j s0 H locs → lv_has ls 2 [(1, .int (nI (cN C))), (0, .ref (jA j 0))] → W p0 l e0 (rm_ 2) s0 mid ([.ref (jA j 0)] : List Value).toArray bl0 me0 co0 H locs 0 0 (MQ bl0 (xQ D dA C d j (some (.int (nI (xkN C (jRc j))))) C (uI d 16 (nI (xkB C (jRc j)))) (sRcA j (xkJ C (jRc j)))) ([.ref (jA j 0)] : List Value).toArray s0 0 0 (xA dA C d j)) (F0 mid 98 ls [])) → W p0 l e0 (rm_ 2) s0 mid ([.ref (jA j 0)] : List Value).toArray bl0 me0 co0 H locs 0 0 (MQ bl0 (xQ D dA C d j (some (.int (nI (xkN C (jRc j))))) C (uI d 16 (nI (xkB C (jRc j)))) (sRcA j (xkJ C (jRc j)))) ([.ref (jA j 0)] : List Value).toArray s0 0 0 (xA dA C d j)) (F0 mid 45 ls []) := by
    intro f1 n_
    induction n_ with
    | zero => intro i h1_ h2_; exact absurd h2_ (by omega)
    | succ n_ ih =>
      intro i h1_ h2_ hh0 H locs ls G hl kk
      have hp8 := hC.p i
      have hk14 := hC.k i
      refine lv_iload_n hx hb dX0_checked_45 rfl (lv_at hl 0 rfl) ?_
      refine lv_aload_n hx hb dX0_checked_46 rfl (lv_at hl 1 rfl) ?_
      refine xx_getP S G 1 (by decide) q90 rfl (v := .int (nI (cN C))) rfl dX0_checked_47 ?_
      refine nn_cge (tgt := 98) hx hb (by omega) (by omega) dX0_checked_50 (by decide) (fun c_50 => ?_) (fun c_50 => ?_)
      · have hiN : i = cN C := by omega
        subst hiN
        exact kk H locs ls hh0 G (lv_sub hl [0, 1] rfl)
      · refine lv_aload_n hx hb dX0_checked_53 rfl (lv_at hl 1 rfl) ?_
        refine xx_getP S G 0 (by decide) q89 rfl (v := .ref (jA j 1)) rfl dX0_checked_54 ?_
        refine lv_iload_n hx hb dX0_checked_57 rfl (lv_at hl 0 rfl) ?_
        refine xx_aald S G (r := 1) (by decide) (xW_p (by decide) rfl) (i := i) (by omega) (by decide) (o := some (jA j (xr i 0))) (if_pos (by omega)) dX0_checked_58 ?_
        refine W.eq (g2 := F0 mid 59 ls [.ref (jA j (xr i 0))]) rfl ?_
        refine xx_get11 S G (mm := i) (by omega) hN (hC.k _) 0 (by decide) q203 rfl (v := .int (nI (cK C i))) rfl dX0_checked_59 ?_
        refine lv_bipush (v := nI 7) hx hb dX0_checked_62 (by decide) ?_
        refine nn_cne (tgt := 92) hx hb (by omega) (by omega) dX0_checked_64 (by decide) (fun c_64 => ?_) (fun c_64 => ?_)
        · refine lv_iinc (v := nI (i + 1)) (lv' := [(1, .int (nI (i + 1))), (0, .ref (jA j 0))]) hx hb dX0_checked_92 hl (k := 0) rfl (nI_1 _) (by decide) rfl (fun ls hl => ?_)
          refine lv_goto (tgt := 45) hx hb dX0_checked_95 (by decide) ?_
          exact ih (i + 1) (by omega) (by omega) (lt_sB hh0 (by simp [ckP2]; omega)) H locs ls G (lv_sub hl [0, 1] rfl) kk
        · refine lv_aload_n hx hb dX0_checked_67 rfl (lv_at hl 1 rfl) ?_
          refine xx_getP S G 0 (by decide) q89 rfl (v := .ref (jA j 1)) rfl dX0_checked_68 ?_
          refine lv_iload_n hx hb dX0_checked_71 rfl (lv_at hl 0 rfl) ?_
          refine xx_aald S G (r := 1) (by decide) (xW_p (by decide) rfl) (i := i) (by omega) (by decide) (o := some (jA j (xr i 0))) (if_pos (by omega)) dX0_checked_72 ?_
          refine W.eq (g2 := F0 mid 73 ls [.ref (jA j (xr i 0))]) rfl ?_
          refine xx_cast S G (mm := i) (by omega) hN (hC.k _) (by rw [c_64]; exact q414) dX0_checked_73 ?_
          refine xx_getM S G (mm := i) (ref := "TwinPanel$Table") (by omega) hN (hC.k _) 13 (by rw [c_64]; decide) (by rw [c_64]; exact hts _ q425) (by rw [c_64]; exact fun x h => h) (v := .int (nI (cP C i))) (xV_7_13 c_64) dX0_checked_76 ?_
          refine lv_iconst (v := nI 2) hx hb dX0_checked_79 (by decide) ?_
          refine nn_cge (tgt := 92) hx hb (by omega) (by omega) dX0_checked_80 (by decide) (fun c_80 => ?_) (fun c_80 => ?_)
          · refine lv_iinc (v := nI (i + 1)) (lv' := [(1, .int (nI (i + 1))), (0, .ref (jA j 0))]) hx hb dX0_checked_92 hl (k := 0) rfl (nI_1 _) (by decide) rfl (fun ls hl => ?_)
            refine lv_goto (tgt := 45) hx hb dX0_checked_95 (by decide) ?_
            exact ih (i + 1) (by omega) (by omega) (lt_sB hh0 (by simp [ckP2]; omega)) H locs ls G (lv_sub hl [0, 1] rfl) kk
          · have f2 : fi_ (ckP2 C) (cN C) = some i := fi_some (by omega) (by simp [ckP2, c_64]; omega) hh0
            refine lv_aload_n hx hb dX0_checked_83 rfl (lv_at hl 1 rfl) ?_
            refine lv_iconst (v := nI 2) hx hb dX0_checked_84 (by decide) ?_
            refine xx_putP S G 7 (by decide) q96 rfl rfl rfl rfl xs_P7 dX0_checked_85 (fun H locs G => ?_)
            refine lv_iload_n hx hb dX0_checked_88 rfl (lv_at hl 0 rfl) ?_
            refine lv_iconst (v := nI 1) hx hb dX0_checked_89 (by decide) ?_
            refine nn_add hx hb dX0_checked_90 ?_
            exact xx_iret S hr hlk G (by simp [xkN, xkB, xkJ, uI_uI, f1, f2, Nat.add_comm] <;> rfl) (xL_e rfl (by simp [xkN, xkB, xkJ, uI_uI, f1, f2, Nat.add_comm] <;> rfl) (by simp [xkJ, f1, f2] <;> rfl)) dX0_checked_91
  have L3 : ∀ (f1 : fi_ (ckP1 C) (cN C) = none) (f2 : fi_ (ckP2 C) (cN C) = none) (n_ i : Nat), i ≤ cN C → cN C < i + n_ → (∀ k, k < i → xP3 C (jRc j) k = false) → ∀ (H : Heap) (locs : List Loc) (ls : Array Slot), xG D dA (xA dA C d j) C (uI d 16 (nI 0)) (sRcA j (icL C (jRc j) i)) s0 H locs → lv_has ls 2 [(1, .int (nI i)), (0, .ref (jA j 0))] → (∀ (H : Heap) (locs : List Loc) (ls : Array Slot), (∀ k, k < cN C → xP3 C (jRc j) k = false) → xG D dA (xA dA C d j) C (uI d 16 (nI 0)) (sRcA j (icL C (jRc j) (cN C))) s0 H locs → lv_has ls 2 [(1, .int (nI (cN C))), (0, .ref (jA j 0))] → W p0 l e0 (rm_ 2) s0 mid ([.ref (jA j 0)] : List Value).toArray bl0 me0 co0 H locs 0 0 (MQ bl0 (xQ D dA C d j (some (.int (nI (xkN C (jRc j))))) C (uI d 16 (nI (xkB C (jRc j)))) (sRcA j (xkJ C (jRc j)))) ([.ref (jA j 0)] : List Value).toArray s0 0 0 (xA dA C d j)) (F0 mid 143 ls [])) → W p0 l e0 (rm_ 2) s0 mid ([.ref (jA j 0)] : List Value).toArray bl0 me0 co0 H locs 0 0 (MQ bl0 (xQ D dA C d j (some (.int (nI (xkN C (jRc j))))) C (uI d 16 (nI (xkB C (jRc j)))) (sRcA j (xkJ C (jRc j)))) ([.ref (jA j 0)] : List Value).toArray s0 0 0 (xA dA C d j)) (F0 mid 100 ls []) := by
    intro f1 f2 n_
    induction n_ with
    | zero => intro i h1_ h2_; exact absurd h2_ (by omega)
    | succ n_ ih =>
      intro i h1_ h2_ hh0 H locs ls G hl kk
      refine lv_iload_n hx hb dX0_checked_100 rfl (lv_at hl 0 rfl) ?_
      refine lv_aload_n hx hb dX0_checked_101 rfl (lv_at hl 1 rfl) ?_
      refine xx_getP (j := (sRcA j (icL C (jRc j) i))) S G 1 (by decide) q90 rfl (v := .int (nI (cN C))) rfl dX0_checked_102 ?_
      refine nn_cge (tgt := 143) hx hb (by omega) (by omega) dX0_checked_105 (by decide) (fun c_105 => ?_) (fun c_105 => ?_)
      · have hiN : i = cN C := by omega
        subst hiN
        exact kk H locs ls hh0 G (lv_sub hl [0, 1] rfl)
      · refine lv_aload_n hx hb dX0_checked_108 rfl (lv_at hl 1 rfl) ?_
        refine xx_getP (j := (sRcA j (icL C (jRc j) i))) S G 0 (by decide) q89 rfl (v := .ref (jA j 1)) rfl dX0_checked_109 ?_
        refine lv_iload_n hx hb dX0_checked_112 rfl (lv_at hl 0 rfl) ?_
        refine xx_aald (j := (sRcA j (icL C (jRc j) i))) S G (r := 1) (by decide) (xW_p (by decide) rfl) (i := i) (by omega) (by decide) (o := some (jA j (xr i 0))) (if_pos (by omega)) dX0_checked_113 ?_
        refine W.eq (g2 := F0 mid 114 ls [.ref (jA j (xr i 0))]) rfl ?_
        refine xo_remembers (j := (sRcA j (icL C (jRc j) i))) (mm := i) (rest := []) S G hC (by omega) ⟨Nat.le_of_ble_eq_true rfl, Nat.le_of_ble_eq_true rfl⟩ ⟨Nat.zero_le _, Nat.zero_le _⟩ hl.1 (Nat.le_of_ble_eq_true rfl) dX0_checked_114 (fun H locs G => ?_)
        refine W.eq (g2 := F0 mid 117 ls [.int (bI (rmB (cK C i)))]) rfl ?_
        refine bb_ne (tgt := 137) hx hb dX0_checked_117 (by decide) (fun c_117 => ?_) (fun c_117 => ?_)
        · refine lv_iinc (v := nI (i + 1)) (lv' := [(1, .int (nI (i + 1))), (0, .ref (jA j 0))]) hx hb dX0_checked_137 hl (k := 0) rfl (nI_1 _) (by decide) rfl (fun ls hl => ?_)
          refine lv_goto (tgt := 100) hx hb dX0_checked_140 (by decide) ?_
          exact ih (i + 1) (by omega) (by omega) (lt_sB hh0 (by first | (simp [xP3, c_117]; done) | (unfold xP3; rw [show icF C i (icL C (jRc j) i) i = false from c_125]; simp))) H locs ls (xG_d (by exact xL_e rfl rfl (by rw [icL_s, if_pos c_117])) G) (lv_sub hl [0, 1] rfl) kk
        · refine lv_aload_n hx hb dX0_checked_120 rfl (lv_at hl 1 rfl) ?_
          refine lv_iload_n hx hb dX0_checked_121 rfl (lv_at hl 0 rfl) ?_
          refine xx_callP (j := (sRcA j (icL C (jRc j) i))) (As := [.int (nI i)]) (rest := []) S G (xt_X0_isCircled l D dA C (uI d 16 (nI 0)) (sRcA j (icL C (jRc j) i)) i hC (by omega)) q658 q660 qs3 q661 hd_X0_isCircled ⟨Nat.le_of_ble_eq_true rfl, Nat.le_of_ble_eq_true rfl⟩ rfl hl.1 rfl (Nat.le_of_ble_eq_true rfl) dX0_checked_122 ⟨Nat.zero_le _, Nat.zero_le _⟩ (fun H locs G => ?_)
          refine W.eq (g2 := F0 mid 125 ls [.int (bI (icF C i (jRc (sRcA j (icL C (jRc j) i))) i))]) rfl ?_
          refine bb_eq (tgt := 137) hx hb dX0_checked_125 (by decide) (fun c_125 => ?_) (fun c_125 => ?_)
          · refine lv_iinc (v := nI (i + 1)) (lv' := [(1, .int (nI (i + 1))), (0, .ref (jA j 0))]) hx hb dX0_checked_137 hl (k := 0) rfl (nI_1 _) (by decide) rfl (fun ls hl => ?_)
            refine lv_goto (tgt := 100) hx hb dX0_checked_140 (by decide) ?_
            exact ih (i + 1) (by omega) (by omega) (lt_sB hh0 (by first | (simp [xP3, c_117]; done) | (unfold xP3; rw [show icF C i (icL C (jRc j) i) i = false from c_125]; simp))) H locs ls (xG_d (by exact xL_e rfl rfl (by rw [icL_s, if_neg (by rw [c_117]; decide)]; rfl)) G) (lv_sub hl [0, 1] rfl) kk
          · have f3 : fi_ (xP3 C (jRc j)) (cN C) = some i := fi_some (by omega) (by simp [xP3]; exact ⟨c_117, c_125⟩) hh0
            have e3 : icL C (jRc j) (i + 1) = icF C i (icL C (jRc j) i) := by rw [icL_s, if_neg (by rw [c_117]; decide)]
            refine lv_aload_n hx hb dX0_checked_128 rfl (lv_at hl 1 rfl) ?_
            refine lv_iconst (v := nI 3) hx hb dX0_checked_129 (by decide) ?_
            refine xx_putP (j := (sRcA (sRcA j (icL C (jRc j) i)) (icF C i (jRc (sRcA j (icL C (jRc j) i)))))) S G 7 (by decide) q96 rfl rfl rfl rfl xs_P7 dX0_checked_130 (fun H locs G => ?_)
            refine lv_iload_n hx hb dX0_checked_133 rfl (lv_at hl 0 rfl) ?_
            refine lv_iconst (v := nI 1) hx hb dX0_checked_134 (by decide) ?_
            refine nn_add hx hb dX0_checked_135 ?_
            exact xx_iret S hr hlk G (by simp [xkN, xkB, xkJ, uI_uI, f1, f2, f3, Nat.add_comm] <;> rfl) (xL_e rfl (by simp [xkN, xkB, xkJ, uI_uI, f1, f2, f3, Nat.add_comm] <;> rfl) (by simp [xkJ, f1, f2, f3, e3, sRcA_A] <;> rfl)) dX0_checked_136
  refine lv_aload_n hx hb dX0_checked_0 rfl (lv_at hl 0 rfl) ?_
  refine lv_iconst (v := nI 0) hx hb dX0_checked_1 (by decide) ?_
  refine xx_putP S G 7 (by decide) q96 rfl rfl rfl rfl xs_P7 dX0_checked_2 (fun H locs G => ?_)
  refine lv_iconst (v := nI 0) hx hb dX0_checked_5 (by decide) ?_
  refine lv_istore_n (lv' := [(1, .int (nI 0)), (0, .ref (jA j 0))]) hx hb dX0_checked_6 rfl hl (by decide) rfl (fun ls hl => ?_)
  refine L1 (cN C + 1) 0 (by omega) (by omega) (fun k hk => by omega) _ _ ls G (lv_sub hl [0, 1] rfl) (fun H locs ls hh1 G hl => ?_)
  have f1 := fi_none hh1
  refine lv_iconst (v := nI 0) hx hb dX0_checked_43 (by decide) ?_
  refine lv_istore_n (lv' := [(1, .int (nI 0)), (0, .ref (jA j 0))]) hx hb dX0_checked_44 rfl hl (by decide) rfl (fun ls hl => ?_)
  refine L2 f1 (cN C + 1) 0 (by omega) (by omega) (fun k hk => by omega) _ _ ls G (lv_sub hl [0, 1] rfl) (fun H locs ls hh1 G hl => ?_)
  have f2 := fi_none hh1
  refine lv_iconst (v := nI 0) hx hb dX0_checked_98 (by decide) ?_
  refine lv_istore_n (lv' := [(1, .int (nI 0)), (0, .ref (jA j 0))]) hx hb dX0_checked_99 rfl hl (by decide) rfl (fun ls hl => ?_)
  refine L3 f1 f2 (cN C + 1) 0 (by omega) (by omega) (fun k hk => by omega) _ _ ls (xG_d (by exact xL_e rfl rfl rfl) G) (lv_sub hl [0, 1] rfl) (fun H locs ls hh1 G hl => ?_)
  have f3 := fi_none hh1
  refine lv_iconst (v := nI 0) hx hb dX0_checked_143 (by decide) ?_
  exact xx_iret S hr hlk G (by simp [xkN, xkB, xkJ, uI_uI, f1, f2, f3, Nat.add_comm] <;> rfl) (xL_e rfl (by simp [xkN, xkB, xkJ, uI_uI, f1, f2, f3, Nat.add_comm] <;> rfl) (by simp [xkJ, f1, f2, f3] <;> rfl)) dX0_checked_144
theorem xt_X0_check (l : Launch) (D : va_G) (dA : Nat → ClassId) (C : tp_C) (d : md_T) (j : xj_T) (hC : mOK C) : xC l D dA yX0_check cX0_check 1 (some .int) 3 [.ref (jA j 0)] C d j (some (.int (nI (xkN C (jRc j))))) C (uI d 16 (nI (xkB C (jRc j)))) (sRcA j (xkJ C (jRc j))) := by
  refine xx_start (own := RX0) (by decide) rfl (Nat.le_of_ble_eq_true rfl) ?_
  intro p0 e0 s0 mid bl0 me0 co0 ls S hr hlk G hl
  have hx := S.1; have hb := S.2.1; have hml := S.2.2.1; have hown := S.2.2.2.1; have hts := S.2.2.2.2; have hN := hC.n
  have hl : lv_has ls 1 [(0, .ref (jA j 0))] := hl
  refine lv_aload_n hx hb dX0_check_0 rfl (lv_at hl 0 rfl) ?_
  refine xx_callP (As := []) (rest := []) S G (xt_X0_checked l D dA C d j hC) q620 q622 qs1 q623 hd_X0_checked ⟨Nat.le_of_ble_eq_true rfl, Nat.le_of_ble_eq_true rfl⟩ rfl hl.1 rfl (Nat.le_of_ble_eq_true rfl) dX0_check_1 ⟨Nat.zero_le _, Nat.zero_le _⟩ (fun H locs G => ?_)
  refine W.eq (g2 := F0 mid 4 ls [.int (nI (xkN C (jRc j)))]) rfl ?_
  exact xx_iret S hr hlk G rfl rfl dX0_check_4
theorem xt_X0_count (l : Launch) (D : va_G) (dA : Nat → ClassId) (C : tp_C) (d : md_T) (j : xj_T) (a : Int32) (hC : mOK C) (hcx : ctX C (cN C) = ctF C c120) : xC l D dA yX0_count cX0_count 2 (some .int) 3 [.ref (jA j 0), .int a] C d j (some (.int (coI C d a))) C (coD C d a) j := by
  refine xx_start (own := RX0) (by decide) rfl (Nat.le_of_ble_eq_true rfl) ?_
  intro p0 e0 s0 mid bl0 me0 co0 ls S hr hlk G hl
  have hx := S.1; have hb := S.2.1; have hml := S.2.2.1; have hown := S.2.2.2.1; have hts := S.2.2.2.2; have hN := hC.n
  have hl : lv_has ls 2 [(0, .ref (jA j 0)), (1, .int a)] := hl
  refine lv_iload_n hx hb dX0_count_0 rfl (lv_at hl 1 rfl) ?_
  rcases sw8 a with ⟨b, hb8, rfl⟩ | ⟨c_3, c_3b⟩
  · have e_in : inB (nI b) (nI 0) (nI 7) = true := inB_spec.mpr ⟨nI_le (by omega) (by omega), nI_le hb8 (by decide)⟩
    rcases (show b = 0 ∨ b = 1 ∨ b = 2 ∨ b = 3 ∨ b = 4 ∨ b = 5 ∨ b = 6 ∨ b = 7 by omega) with rfl | rfl | rfl | rfl | rfl | rfl | rfl | rfl
    · refine sw_in (off := 47) (tgt := 48) [0] (by simp) hx hb dX0_count_1 (by decide) (by decide) ?_
      refine lv_aload_n hx hb dX0_count_48 rfl (lv_at hl 0 rfl) ?_
      refine xx_getP S G 1 (by decide) q90 rfl (v := .int (nI (cN C))) rfl dX0_count_49 ?_
      exact xx_iret S hr hlk G (by first | (simp [coI, coD, e_in]; done) | rfl | decide | (simp [coI, coD, e_in] <;> rfl)) (xL_e rfl (by first | (simp [coI, coD, e_in]; done) | rfl | decide | (simp [coI, coD, e_in] <;> rfl)) rfl) dX0_count_52
    · refine sw_in (off := 52) (tgt := 53) [1] (by simp) hx hb dX0_count_1 (by decide) (by decide) ?_
      refine lv_aload_n hx hb dX0_count_53 rfl (lv_at hl 0 rfl) ?_
      refine xx_getP S G 9 (by decide) q98 rfl (v := .int (nI (cZ C))) rfl dX0_count_54 ?_
      exact xx_iret S hr hlk G (by first | (simp [coI, coD, e_in]; done) | rfl | decide | (simp [coI, coD, e_in] <;> rfl)) (xL_e rfl (by first | (simp [coI, coD, e_in]; done) | rfl | decide | (simp [coI, coD, e_in] <;> rfl)) rfl) dX0_count_57
    · refine sw_in (off := 57) (tgt := 58) [2] (by simp) hx hb dX0_count_1 (by decide) (by decide) ?_
      refine lv_aload_n hx hb dX0_count_58 rfl (lv_at hl 0 rfl) ?_
      refine xx_callP (As := []) (rest := []) S G (xt_X0_cords l D dA C d j hC) q1243 q1245 qs16 q1246 hd_X0_cords ⟨Nat.le_of_ble_eq_true rfl, Nat.le_of_ble_eq_true rfl⟩ rfl hl.1 rfl (Nat.le_of_ble_eq_true rfl) dX0_count_59 ⟨Nat.zero_le _, Nat.zero_le _⟩ (fun H locs G => ?_)
      refine W.eq (g2 := F0 mid 62 ls [.int (nI (ctX C (cN C)))]) rfl ?_
      exact xx_iret S hr hlk G (by first | (simp [coI, e_in, hcx]; done) | rfl | (simp [coI, coD, e_in, hcx] <;> rfl)) (xL_e rfl (by first | (simp [coI, e_in, hcx]; done) | rfl | (simp [coI, coD, e_in, hcx] <;> rfl)) rfl) dX0_count_62
    · refine sw_in (off := 62) (tgt := 63) [3] (by simp) hx hb dX0_count_1 (by decide) (by decide) ?_
      refine lv_aload_n hx hb dX0_count_63 rfl (lv_at hl 0 rfl) ?_
      refine xx_callP (As := []) (rest := []) S G (xt_X0_greatest l D dA C d j hC) q1247 q1249 qs17 q1250 hd_X0_greatest ⟨Nat.le_of_ble_eq_true rfl, Nat.le_of_ble_eq_true rfl⟩ rfl hl.1 rfl (Nat.le_of_ble_eq_true rfl) dX0_count_64 ⟨Nat.zero_le _, Nat.zero_le _⟩ (fun H locs G => ?_)
      refine W.eq (g2 := F0 mid 67 ls [.int (rmx (leF C (dAI d 10)) (cN C))]) rfl ?_
      exact xx_iret S hr hlk G (by first | (simp [coI, coD, e_in]; done) | rfl | decide | (simp [coI, coD, e_in] <;> rfl)) (xL_e rfl (by first | (simp [coI, coD, e_in]; done) | rfl | decide | (simp [coI, coD, e_in] <;> rfl)) rfl) dX0_count_67
    · refine sw_in (off := 67) (tgt := 68) [4] (by simp) hx hb dX0_count_1 (by decide) (by decide) ?_
      refine lv_aload_n hx hb dX0_count_68 rfl (lv_at hl 0 rfl) ?_
      refine xx_callP (As := []) (rest := []) S G (xt_X0_lit l D dA C d j hC) q1251 q1253 qs18 q1254 hd_X0_lit ⟨Nat.le_of_ble_eq_true rfl, Nat.le_of_ble_eq_true rfl⟩ rfl hl.1 rfl (Nat.le_of_ble_eq_true rfl) dX0_count_69 ⟨Nat.zero_le _, Nat.zero_le _⟩ (fun H locs G => ?_)
      refine W.eq (g2 := F0 mid 72 ls [.int (nI (ctL d (cN C)))]) rfl ?_
      exact xx_iret S hr hlk G (by first | (simp [coI, coD, e_in]; done) | rfl | decide | (simp [coI, coD, e_in] <;> rfl)) (xL_e rfl (by first | (simp [coI, coD, e_in]; done) | rfl | decide | (simp [coI, coD, e_in] <;> rfl)) rfl) dX0_count_72
    · refine sw_in (off := 72) (tgt := 73) [5] (by simp) hx hb dX0_count_1 (by decide) (by decide) ?_
      refine lv_aload_n hx hb dX0_count_73 rfl (lv_at hl 0 rfl) ?_
      refine xx_getP S G 6 (by decide) q95 rfl (v := .int (dI d 15)) rfl dX0_count_74 ?_
      exact xx_iret S hr hlk G (by first | (simp [coI, coD, e_in]; done) | rfl | decide | (simp [coI, coD, e_in] <;> rfl)) (xL_e rfl (by first | (simp [coI, coD, e_in]; done) | rfl | decide | (simp [coI, coD, e_in] <;> rfl)) rfl) dX0_count_77
    · refine sw_in (off := 77) (tgt := 78) [6] (by simp) hx hb dX0_count_1 (by decide) (by decide) ?_
      refine lv_aload_n hx hb dX0_count_78 rfl (lv_at hl 0 rfl) ?_
      refine xx_getP S G 3 (by decide) q92 rfl (v := .int (nI (cR C))) rfl dX0_count_79 ?_
      exact xx_iret S hr hlk G (by first | (simp [coI, coD, e_in]; done) | rfl | decide | (simp [coI, coD, e_in] <;> rfl)) (xL_e rfl (by first | (simp [coI, coD, e_in]; done) | rfl | decide | (simp [coI, coD, e_in] <;> rfl)) rfl) dX0_count_82
    · refine sw_in (off := 82) (tgt := 83) [7] (by simp) hx hb dX0_count_1 (by decide) (by decide) ?_
      refine lv_aload_n hx hb dX0_count_83 rfl (lv_at hl 0 rfl) ?_
      refine xx_getP S G 4 (by decide) q93 rfl (v := .int (nI (cH C))) rfl dX0_count_84 ?_
      exact xx_iret S hr hlk G (by first | (simp [coI, coD, e_in]; done) | rfl | decide | (simp [coI, coD, e_in] <;> rfl)) (xL_e rfl (by first | (simp [coI, coD, e_in]; done) | rfl | decide | (simp [coI, coD, e_in] <;> rfl)) rfl) dX0_count_87
  · refine lv_tableOut (tgt := 88) hx hb dX0_count_1 c_3b (by decide) ?_
    refine lv_bipush (v := (-102)) hx hb dX0_count_88 (by decide) ?_
    exact xx_iret S hr hlk G (by first | (simp [coI, c_3]; done) | (simp only [coD]; rw [if_neg]; intro e; rw [e] at c_3; cases c_3)) (xL_e rfl (by first | (simp [coI, c_3]; done) | (simp only [coD]; rw [if_neg]; intro e; rw [e] at c_3; cases c_3)) rfl) dX0_count_90
theorem xt_X0_findOrder (l : Launch) (D : va_G) (dA : Nat → ClassId) (C : tp_C) (d : md_T) (j : xj_T) (hC : mOK C) : xC l D dA yX0_findOrder cX0_findOrder 4 none 2 [.ref (jA j 0)] C d j none C (leD C d) (sOdA j (orN (leF C (dAI d 10)) (cN C) (cN C + 1) (0, jOd j)).2) := by
  refine xx_start (own := RX0) (by decide) rfl (Nat.le_of_ble_eq_true rfl) ?_
  intro p0 e0 s0 mid bl0 me0 co0 ls S hr hlk G hl
  have hx := S.1; have hb := S.2.1; have hml := S.2.2.1; have hown := S.2.2.2.1; have hts := S.2.2.2.2; have hN := hC.n
  have hl : lv_has ls 4 [(0, .ref (jA j 0))] := hl
  have L2 : ∀ (a : Nat × (Nat → Int32)) (l_ : Nat) (hl_ : l_ ≤ cN C) (hbb : ∀ i, i < cN C → leF C (dAI d 10) i = nI l_ → (it_ (orS (leF C (dAI d 10)) l_) i a).1 < cN C) (ha : ∀ i, i ≤ cN C → (it_ (orS (leF C (dAI d 10)) l_) i a).1 < 2 ^ 30) (n_ i : Nat), i ≤ cN C → cN C < i + n_ → ∀ (H : Heap) (locs : List Loc) (ls : Array Slot), xG D dA (xA dA C d j) C (leD C d) (sOdA j ((it_ (orS (leF C (dAI d 10)) l_) i a).2)) s0 H locs → lv_has ls 4 [(3, .int (nI i)), (2, .int (nI l_)), (1, .int (nI ((it_ (orS (leF C (dAI d 10)) l_) i a).1))), (0, .ref (jA j 0))] → (∀ (H : Heap) (locs : List Loc) (ls : Array Slot), xG D dA (xA dA C d j) C (leD C d) (sOdA j ((it_ (orS (leF C (dAI d 10)) l_) (cN C) a).2)) s0 H locs → lv_has ls 4 [(3, .int (nI (cN C))), (2, .int (nI l_)), (1, .int (nI ((it_ (orS (leF C (dAI d 10)) l_) (cN C) a).1))), (0, .ref (jA j 0))] → W p0 l e0 (rm_ 2) s0 mid ([.ref (jA j 0)] : List Value).toArray bl0 me0 co0 H locs 0 0 (MQ bl0 (xQ D dA C d j none C (leD C d) (sOdA j (orN (leF C (dAI d 10)) (cN C) (cN C + 1) (0, jOd j)).2)) ([.ref (jA j 0)] : List Value).toArray s0 0 0 (xA dA C d j)) (F0 mid 52 ls [])) → W p0 l e0 (rm_ 2) s0 mid ([.ref (jA j 0)] : List Value).toArray bl0 me0 co0 H locs 0 0 (MQ bl0 (xQ D dA C d j none C (leD C d) (sOdA j (orN (leF C (dAI d 10)) (cN C) (cN C + 1) (0, jOd j)).2)) ([.ref (jA j 0)] : List Value).toArray s0 0 0 (xA dA C d j)) (F0 mid 18 ls []) := by
    intro a l_ hl_ hbb ha n_
    induction n_ with
    | zero => intro i h1_ h2_; exact absurd h2_ (by omega)
    | succ n_ ih =>
      intro i h1_ h2_ H locs ls G hl kk
      have hai := ha i (by omega)
      refine lv_iload_n hx hb dX0_findOrder_18 rfl (lv_at hl 0 rfl) ?_
      refine lv_aload_n hx hb dX0_findOrder_19 rfl (lv_at hl 3 rfl) ?_
      refine xx_getP (j := (sOdA j ((it_ (orS (leF C (dAI d 10)) l_) i a).2))) S G 1 (by decide) q90 rfl (v := .int (nI (cN C))) rfl dX0_findOrder_20 ?_
      refine nn_cge (tgt := 52) hx hb (by omega) (by omega) dX0_findOrder_23 (by decide) (fun c_23 => ?_) (fun c_23 => ?_)
      · have hiN : i = cN C := by omega
        subst hiN
        exact kk H locs ls G (lv_sub hl [0, 1, 2, 3] rfl)
      · refine lv_aload_n hx hb dX0_findOrder_26 rfl (lv_at hl 3 rfl) ?_
        refine xx_getP (j := (sOdA j ((it_ (orS (leF C (dAI d 10)) l_) i a).2))) S G 14 (by decide) q103 rfl (v := .ref (jA j 6)) rfl dX0_findOrder_27 ?_
        refine lv_iload_n hx hb dX0_findOrder_30 rfl (lv_at hl 0 rfl) ?_
        refine xx_iald (j := (sOdA j ((it_ (orS (leF C (dAI d 10)) l_) i a).2))) S G (r := 6) (by decide) (xW_p (by decide) rfl) 0 rfl (i := i) (by omega) (by decide) (v := leF C (dAI d 10) i) rfl dX0_findOrder_31 ?_
        refine lv_iload_n hx hb dX0_findOrder_32 rfl (lv_at hl 1 rfl) ?_
        refine lv_icmp_ne (tgt := 46) hx hb dX0_findOrder_33 (by decide) (fun c_33 => ?_) (fun c_33 => ?_)
        · refine lv_iinc (v := nI (i + 1)) (lv' := [(3, .int (nI (i + 1))), (2, .int (nI l_)), (1, .int (nI ((it_ (orS (leF C (dAI d 10)) l_) i a).1))), (0, .ref (jA j 0))]) hx hb dX0_findOrder_46 hl (k := 0) rfl (nI_1 _) (by decide) rfl (fun ls hl => ?_)
          refine lv_goto (tgt := 18) hx hb dX0_findOrder_49 (by decide) ?_
          exact ih (i + 1) (by omega) (by omega) H locs ls (xG_d (by exact xL_e rfl rfl (by rw [orS_s]; simp [c_23, c_33] <;> rfl)) G) (lv_eq (lv_sub (l' := [(3, .int (nI (i + 1))), (2, .int (nI l_)), (1, .int (nI ((it_ (orS (leF C (dAI d 10)) l_) i a).1))), (0, .ref (jA j 0))]) hl [0, 1, 2, 3] rfl) (by simp [orS_s, c_23, c_33])) kk
        · have hlt := hbb i (by omega) c_33
          refine lv_aload_n hx hb dX0_findOrder_36 rfl (lv_at hl 3 rfl) ?_
          refine xx_getP (j := (sOdA j ((it_ (orS (leF C (dAI d 10)) l_) i a).2))) S G 16 (by decide) q105 rfl (v := .ref (jA j 8)) rfl dX0_findOrder_37 ?_
          refine lv_iload_n hx hb dX0_findOrder_40 rfl (lv_at hl 2 rfl) ?_
          refine lv_iload_n hx hb dX0_findOrder_41 rfl (lv_at hl 0 rfl) ?_
          refine xx_iast (j := (sOdA j ((it_ (orS (leF C (dAI d 10)) l_) i a).2))) S G (r := 8) (by decide) (xW_p (by decide) rfl) 0 rfl (i := (it_ (orS (leF C (dAI d 10)) l_) i a).1) (by omega) (by decide) xs_R8 dX0_findOrder_42 (fun H locs G => ?_)
          refine lv_iinc (v := nI (((it_ (orS (leF C (dAI d 10)) l_) i a).1) + 1)) (lv' := [(1, .int (nI (((it_ (orS (leF C (dAI d 10)) l_) i a).1) + 1))), (3, .int (nI i)), (2, .int (nI l_)), (0, .ref (jA j 0))]) hx hb dX0_findOrder_43 hl (k := 2) rfl (nI_1 _) (by decide) rfl (fun ls hl => ?_)
          refine lv_iinc (v := nI (i + 1)) (lv' := [(3, .int (nI (i + 1))), (1, .int (nI (((it_ (orS (leF C (dAI d 10)) l_) i a).1) + 1))), (2, .int (nI l_)), (0, .ref (jA j 0))]) hx hb dX0_findOrder_46 hl (k := 1) rfl (nI_1 _) (by decide) rfl (fun ls hl => ?_)
          refine lv_goto (tgt := 18) hx hb dX0_findOrder_49 (by decide) ?_
          exact ih (i + 1) (by omega) (by omega) H locs ls (xG_d (by exact xL_e rfl rfl (by rw [orS_s]; simp [c_23, c_33] <;> rfl)) G) (lv_eq (lv_sub (l' := [(3, .int (nI (i + 1))), (2, .int (nI l_)), (1, .int (nI (((it_ (orS (leF C (dAI d 10)) l_) i a).1) + 1))), (0, .ref (jA j 0))]) hl [0, 2, 1, 3] rfl) (by simp [orS_s, c_23, c_33])) kk
  have L1 : ∀ (n_ l_ : Nat), l_ ≤ (cN C + 1) → (cN C + 1) < l_ + n_ → ∀ (H : Heap) (locs : List Loc) (ls : Array Slot), xG D dA (xA dA C d j) C (leD C d) (sOdA j ((orN (leF C (dAI d 10)) (cN C) l_ (0, jOd j)).2)) s0 H locs → lv_has ls 4 [(2, .int (nI l_)), (1, .int (nI ((orN (leF C (dAI d 10)) (cN C) l_ (0, jOd j)).1))), (0, .ref (jA j 0))] → (∀ (H : Heap) (locs : List Loc) (ls : Array Slot), xG D dA (xA dA C d j) C (leD C d) (sOdA j ((orN (leF C (dAI d 10)) (cN C) (cN C + 1) (0, jOd j)).2)) s0 H locs → lv_has ls 4 [(2, .int (nI (cN C + 1))), (1, .int (nI ((orN (leF C (dAI d 10)) (cN C) (cN C + 1) (0, jOd j)).1))), (0, .ref (jA j 0))] → W p0 l e0 (rm_ 2) s0 mid ([.ref (jA j 0)] : List Value).toArray bl0 me0 co0 H locs 0 0 (MQ bl0 (xQ D dA C d j none C (leD C d) (sOdA j (orN (leF C (dAI d 10)) (cN C) (cN C + 1) (0, jOd j)).2)) ([.ref (jA j 0)] : List Value).toArray s0 0 0 (xA dA C d j)) (F0 mid 58 ls [])) → W p0 l e0 (rm_ 2) s0 mid ([.ref (jA j 0)] : List Value).toArray bl0 me0 co0 H locs 0 0 (MQ bl0 (xQ D dA C d j none C (leD C d) (sOdA j (orN (leF C (dAI d 10)) (cN C) (cN C + 1) (0, jOd j)).2)) ([.ref (jA j 0)] : List Value).toArray s0 0 0 (xA dA C d j)) (F0 mid 8 ls []) := by
    intro n_
    induction n_ with
    | zero => intro l_ h1_ h2_; exact absurd h2_ (by omega)
    | succ n_ ih =>
      intro l_ h1_ h2_ H locs ls G hl kk
      have hA0 : ∀ i, i ≤ cN C → (it_ (orS (leF C (dAI d 10)) l_) i (orN (leF C (dAI d 10)) (cN C) l_ (0, jOd j))).1 < 2 ^ 30 := fun i hi => by rw [orS_n, orN_n _ _ _ rfl l_ (by omega)]; have := ctB_le (lbB (leF C (dAI d 10)) l_) (cN C); have := ctB_le (leqB (leF C (dAI d 10)) l_) i; omega
      have hAz := hA0 0 (Nat.zero_le _)
      have hAz : (orN (leF C (dAI d 10)) (cN C) l_ (0, jOd j)).1 < 2 ^ 30 := hAz
      refine lv_iload_n hx hb dX0_findOrder_8 rfl (lv_at hl 0 rfl) ?_
      refine lv_aload_n hx hb dX0_findOrder_9 rfl (lv_at hl 2 rfl) ?_
      refine xx_getP (j := (sOdA j ((orN (leF C (dAI d 10)) (cN C) l_ (0, jOd j)).2))) S G 1 (by decide) q90 rfl (v := .int (nI (cN C))) rfl dX0_findOrder_10 ?_
      refine nn_cgt (tgt := 58) hx hb (by omega) (by omega) dX0_findOrder_13 (by decide) (fun c_13 => ?_) (fun c_13 => ?_)
      · have hiN : l_ = (cN C + 1) := by omega
        subst hiN
        exact kk H locs ls G (lv_sub hl [0, 1, 2] rfl)
      · refine lv_iconst (v := nI 0) hx hb dX0_findOrder_16 (by decide) ?_
        refine lv_istore_n (lv' := [(3, .int (nI 0)), (2, .int (nI l_)), (1, .int (nI ((orN (leF C (dAI d 10)) (cN C) l_ (0, jOd j)).1))), (0, .ref (jA j 0))]) hx hb dX0_findOrder_17 rfl hl (by decide) rfl (fun ls hl => ?_)
        refine L2 (orN (leF C (dAI d 10)) (cN C) l_ (0, jOd j)) l_ (by omega) (fun i hi he => or_lt rfl (by omega) hi he) hA0 (cN C + 1) 0 (by omega) (by omega) _ _ ls (xG_d (xL_e rfl (by rfl) rfl) G) (lv_eq (lv_sub (l' := [(3, .int (nI 0)), (2, .int (nI l_)), (1, .int (nI ((orN (leF C (dAI d 10)) (cN C) l_ (0, jOd j)).1))), (0, .ref (jA j 0))]) hl [0, 1, 2, 3] rfl) (by rfl)) (fun H locs ls G hl => ?_)
        refine lv_iinc (v := nI (l_ + 1)) (lv' := [(2, .int (nI (l_ + 1))), (3, .int (nI (cN C))), (1, .int (nI ((it_ (orS (leF C (dAI d 10)) l_) (cN C) (orN (leF C (dAI d 10)) (cN C) l_ (0, jOd j))).1))), (0, .ref (jA j 0))]) hx hb dX0_findOrder_52 hl (k := 1) rfl (nI_1 _) (by decide) rfl (fun ls hl => ?_)
        refine lv_goto (tgt := 8) hx hb dX0_findOrder_55 (by decide) ?_
        exact ih (l_ + 1) (by omega) (by omega) H locs ls (xG_d (by exact xL_e rfl rfl rfl) G) (lv_eq (lv_sub (l' := [(2, .int (nI (l_ + 1))), (1, .int (nI ((it_ (orS (leF C (dAI d 10)) l_) (cN C) (orN (leF C (dAI d 10)) (cN C) l_ (0, jOd j))).1))), (0, .ref (jA j 0))]) hl [0, 2, 3] rfl) (by rfl)) kk
  refine lv_aload_n hx hb dX0_findOrder_0 rfl (lv_at hl 0 rfl) ?_
  refine xx_callP (As := []) (rest := []) S G (xt_X0_findLevels l D dA C d j hC) q670 q672 qs4 q673 hd_X0_findLevels ⟨Nat.le_of_ble_eq_true rfl, Nat.le_of_ble_eq_true rfl⟩ rfl hl.1 rfl (Nat.le_of_ble_eq_true rfl) dX0_findOrder_1 ⟨Nat.zero_le _, Nat.zero_le _⟩ (fun H locs G => ?_)
  refine W.eq (g2 := F0 mid 4 ls []) rfl ?_
  have G : xG D dA (xA dA C d j) C (leD C d) (sOdA j (jOd j)) s0 H locs := G
  refine lv_iconst (v := nI 0) hx hb dX0_findOrder_4 (by decide) ?_
  refine lv_istore_n (lv' := [(1, .int (nI 0)), (0, .ref (jA j 0))]) hx hb dX0_findOrder_5 rfl hl (by decide) rfl (fun ls hl => ?_)
  refine lv_iconst (v := nI 0) hx hb dX0_findOrder_6 (by decide) ?_
  refine lv_istore_n (lv' := [(2, .int (nI 0)), (1, .int (nI 0)), (0, .ref (jA j 0))]) hx hb dX0_findOrder_7 rfl hl (by decide) rfl (fun ls hl => ?_)
  refine L1 (cN C + 2) 0 (by omega) (by omega) _ _ ls (xG_d (by exact xL_e rfl rfl rfl) G) (lv_eq (lv_sub (l' := [(2, .int (nI 0)), (1, .int (nI 0)), (0, .ref (jA j 0))]) hl [0, 1, 2] rfl) (by rfl)) (fun H locs ls G hl => ?_)
  exact xx_vret S hr hlk G (xL_e rfl rfl (by rfl)) dX0_findOrder_58
theorem xt_X0_read (l : Launch) (D : va_G) (dA : Nat → ClassId) (C : tp_C) (d : md_T) (j : xj_T) (t : Int32) (hC : mOK C) (hV : vOK C) (hR : rOK d) (hA : aOK C) (ht : dI d 44 = t) (hJ : jOK C d j) (hO : orOK C (dAI d 10) j) : xC l D dA yX0_read cX0_read 3 none 7 [.ref (jA j 0), .int t] C d j none C (raD C d) j := by
  refine xx_start (own := RX0) (by decide) rfl (Nat.le_of_ble_eq_true rfl) ?_
  intro p0 e0 s0 mid bl0 me0 co0 ls S hr hlk G hl
  have hx := S.1; have hb := S.2.1; have hml := S.2.2.1; have hown := S.2.2.2.1; have hts := S.2.2.2.2; have hN := hC.n
  have hl : lv_has ls 3 [(0, .ref (jA j 0)), (1, .int t)] := hl
  have L1 : ∀ (n_ i : Nat), i ≤ cN C → cN C < i + n_ → ∀ (H : Heap) (locs : List Loc) (ls : Array Slot), xG D dA (xA dA C d j) C (rdO C (jOd j) i d) j s0 H locs → lv_has ls 3 [(2, .int (nI i)), (1, .int t), (0, .ref (jA j 0))] → (∀ (H : Heap) (locs : List Loc) (ls : Array Slot), xG D dA (xA dA C d j) C (rdO C (jOd j) (cN C) d) j s0 H locs → lv_has ls 3 [(2, .int (nI (cN C))), (1, .int t), (0, .ref (jA j 0))] → W p0 l e0 (rm_ 7) s0 mid ([.ref (jA j 0), .int t] : List Value).toArray bl0 me0 co0 H locs 0 0 (MQ bl0 (xQ D dA C d j none C (raD C d) j) ([.ref (jA j 0), .int t] : List Value).toArray s0 0 0 (xA dA C d j)) (F0 mid 31 ls [])) → W p0 l e0 (rm_ 7) s0 mid ([.ref (jA j 0), .int t] : List Value).toArray bl0 me0 co0 H locs 0 0 (MQ bl0 (xQ D dA C d j none C (raD C d) j) ([.ref (jA j 0), .int t] : List Value).toArray s0 0 0 (xA dA C d j)) (F0 mid 2 ls []) := by
    intro n_
    induction n_ with
    | zero => intro i h1_ h2_; exact absurd h2_ (by omega)
    | succ n_ ih =>
      intro i h1_ h2_ H locs ls G hl kk
      refine lv_iload_n hx hb dX0_read_2 rfl (lv_at hl 0 rfl) ?_
      refine lv_aload_n hx hb dX0_read_3 rfl (lv_at hl 2 rfl) ?_
      refine xx_getP S G 1 (by decide) q90 rfl (v := .int (nI (cN C))) rfl dX0_read_4 ?_
      refine nn_cge (tgt := 31) hx hb (by omega) (by omega) dX0_read_7 (by decide) (fun c_7 => ?_) (fun c_7 => ?_)
      · have hiN : i = cN C := by omega
        subst hiN
        exact kk H locs ls G (lv_sub hl [0, 1, 2] rfl)
      · obtain ⟨q, hq, eq_⟩ := hO.1 i (by omega)
        have hRi := rdO_ok hC hV hA hO.1 hR i (by omega)
        have hti : dI (rdO C (jOd j) i d) 44 = t := (rdO_keep (P := fun x => dI x 44 = t) (fun m x h => by rw [mRd_dI]; exact h) ht i)
        have hJi : jOK C (rdO C (jOd j) i d) j := (rdO_keep (P := fun x => jOK C x j) (fun m x h => jOK_Rd m h) hJ i)
        refine lv_aload_n hx hb dX0_read_10 rfl (lv_at hl 2 rfl) ?_
        refine xx_getP S G 0 (by decide) q89 rfl (v := .ref (jA j 1)) rfl dX0_read_11 ?_
        refine lv_aload_n hx hb dX0_read_14 rfl (lv_at hl 2 rfl) ?_
        refine xx_getP S G 16 (by decide) q105 rfl (v := .ref (jA j 8)) rfl dX0_read_15 ?_
        refine lv_iload_n hx hb dX0_read_18 rfl (lv_at hl 0 rfl) ?_
        refine xx_iald S G (r := 8) (by decide) (xW_p (by decide) rfl) 0 rfl (i := i) (by omega) (by decide) (v := nI q) eq_ dX0_read_19 ?_
        refine xx_aald S G (r := 1) (by decide) (xW_p (by decide) rfl) (i := q) (by omega) (by decide) (o := some (jA j (xr q 0))) (if_pos hq) dX0_read_20 ?_
        refine W.eq (g2 := F0 mid 21 ls [.ref (jA j (xr q 0))]) rfl ?_
        refine lv_iload_n hx hb dX0_read_21 rfl (lv_at hl 1 rfl) ?_
        refine xx_callM (mm := q) (As := [.int t]) (rest := []) S G hq hN (hC.k _) (xt_X2_read l D dA C (rdO C (jOd j) i d) j q t hC (by omega) hV hRi (hA q hq) hti hJi) (xx_cw hts q721 q723 (se_read (hC.k _)) q722 q58 q738 rfl hu_Module_read ⟨Nat.le_of_ble_eq_true rfl, Nat.le_of_ble_eq_true rfl⟩) rfl hl.1 rfl (Nat.le_of_ble_eq_true rfl) dX0_read_22 ⟨Nat.zero_le _, Nat.zero_le _⟩ (fun H locs G => ?_)
        refine W.eq (g2 := F0 mid 25 ls []) rfl ?_
        refine lv_iinc (v := nI (i + 1)) (lv' := [(2, .int (nI (i + 1))), (1, .int t), (0, .ref (jA j 0))]) hx hb dX0_read_25 hl (k := 0) rfl (nI_1 _) (by decide) rfl (fun ls hl => ?_)
        refine lv_goto (tgt := 2) hx hb dX0_read_28 (by decide) ?_
        exact ih (i + 1) (by omega) (by omega) H locs ls (xG_d (xL_e rfl (by show _ = mRd C (ixN (jOd j i)) (rdO C (jOd j) i d); rw [eq_, ixN_nI (by omega)]) rfl) G) (lv_sub hl [0, 1, 2] rfl) kk
  refine lv_iconst (v := nI 0) hx hb dX0_read_0 (by decide) ?_
  refine lv_istore_n (lv' := [(2, .int (nI 0)), (0, .ref (jA j 0)), (1, .int t)]) hx hb dX0_read_1 rfl hl (by decide) rfl (fun ls hl => ?_)
  refine L1 (cN C + 1) 0 (by omega) (by omega) _ _ ls (xG_d (xL_e rfl (by rfl) rfl) G) (lv_sub hl [0, 2, 1] rfl) (fun H locs ls G hl => ?_)
  exact xx_vret S hr hlk G (xL_e rfl (by exact hO.2 d rfl) rfl) dX0_read_31
