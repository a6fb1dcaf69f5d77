set_option maxRecDepth 100000
set_option maxHeartbeats 4000000
theorem dX1_readAll_0 : decode cX1_readAll 0 = .ok (.iconst 0, 1) := by decide +kernel
theorem dX1_readAll_1 : decode cX1_readAll 1 = .ok (.istore_n 1, 1) := by decide +kernel
theorem dX1_readAll_2 : decode cX1_readAll 2 = .ok (.iconst 0, 1) := by decide +kernel
theorem dX1_readAll_3 : decode cX1_readAll 3 = .ok (.istore_n 2, 1) := by decide +kernel
theorem dX1_readAll_4 : decode cX1_readAll 4 = .ok (.iload_n 2, 1) := by decide +kernel
theorem dX1_readAll_5 : decode cX1_readAll 5 = .ok (.aload_n 0, 1) := by decide +kernel
theorem dX1_readAll_6 : decode cX1_readAll 6 = .ok (.getfield 158, 3) := by decide +kernel
theorem dX1_readAll_9 : decode cX1_readAll 9 = .ok (.if_icmp .ge 30, 3) := by decide +kernel
theorem dX1_readAll_12 : decode cX1_readAll 12 = .ok (.aload_n 0, 1) := by decide +kernel
theorem dX1_readAll_13 : decode cX1_readAll 13 = .ok (.getfield 39, 3) := by decide +kernel
theorem dX1_readAll_16 : decode cX1_readAll 16 = .ok (.iload_n 2, 1) := by decide +kernel
theorem dX1_readAll_17 : decode cX1_readAll 17 = .ok (.iaload, 1) := by decide +kernel
theorem dX1_readAll_18 : decode cX1_readAll 18 = .ok (.iload_n 1, 1) := by decide +kernel
theorem dX1_readAll_19 : decode cX1_readAll 19 = .ok (.if_icmp .le 12, 3) := by decide +kernel
theorem dX1_readAll_22 : decode cX1_readAll 22 = .ok (.aload_n 0, 1) := by decide +kernel
theorem dX1_readAll_23 : decode cX1_readAll 23 = .ok (.getfield 39, 3) := by decide +kernel
theorem dX1_readAll_26 : decode cX1_readAll 26 = .ok (.iload_n 2, 1) := by decide +kernel
theorem dX1_readAll_27 : decode cX1_readAll 27 = .ok (.iaload, 1) := by decide +kernel
theorem dX1_readAll_28 : decode cX1_readAll 28 = .ok (.goto 4, 3) := by decide +kernel
theorem dX1_readAll_31 : decode cX1_readAll 31 = .ok (.iload_n 1, 1) := by decide +kernel
theorem dX1_readAll_32 : decode cX1_readAll 32 = .ok (.istore_n 1, 1) := by decide +kernel
theorem dX1_readAll_33 : decode cX1_readAll 33 = .ok (.iinc 2 1, 3) := by decide +kernel
theorem dX1_readAll_36 : decode cX1_readAll 36 = .ok (.goto (-32), 3) := by decide +kernel
theorem dX1_readAll_39 : decode cX1_readAll 39 = .ok (.iconst 0, 1) := by decide +kernel
theorem dX1_readAll_40 : decode cX1_readAll 40 = .ok (.istore_n 2, 1) := by decide +kernel
theorem dX1_readAll_41 : decode cX1_readAll 41 = .ok (.iload_n 2, 1) := by decide +kernel
theorem dX1_readAll_42 : decode cX1_readAll 42 = .ok (.iload_n 1, 1) := by decide +kernel
theorem dX1_readAll_43 : decode cX1_readAll 43 = .ok (.if_icmp .gt 67, 3) := by decide +kernel
theorem dX1_readAll_46 : decode cX1_readAll 46 = .ok (.iconst 0, 1) := by decide +kernel
theorem dX1_readAll_47 : decode cX1_readAll 47 = .ok (.istore_n 3, 1) := by decide +kernel
theorem dX1_readAll_48 : decode cX1_readAll 48 = .ok (.iload_n 3, 1) := by decide +kernel
theorem dX1_readAll_49 : decode cX1_readAll 49 = .ok (.aload_n 0, 1) := by decide +kernel
theorem dX1_readAll_50 : decode cX1_readAll 50 = .ok (.getfield 158, 3) := by decide +kernel
theorem dX1_readAll_53 : decode cX1_readAll 53 = .ok (.if_icmp .ge 51, 3) := by decide +kernel
theorem dX1_readAll_56 : decode cX1_readAll 56 = .ok (.aload_n 0, 1) := by decide +kernel
theorem dX1_readAll_57 : decode cX1_readAll 57 = .ok (.getfield 39, 3) := by decide +kernel
theorem dX1_readAll_60 : decode cX1_readAll 60 = .ok (.iload_n 3, 1) := by decide +kernel
theorem dX1_readAll_61 : decode cX1_readAll 61 = .ok (.iaload, 1) := by decide +kernel
theorem dX1_readAll_62 : decode cX1_readAll 62 = .ok (.iload_n 2, 1) := by decide +kernel
theorem dX1_readAll_63 : decode cX1_readAll 63 = .ok (.if_icmp .ne 35, 3) := by decide +kernel
theorem dX1_readAll_66 : decode cX1_readAll 66 = .ok (.aload_n 0, 1) := by decide +kernel
theorem dX1_readAll_67 : decode cX1_readAll 67 = .ok (.getfield 53, 3) := by decide +kernel
theorem dX1_readAll_70 : decode cX1_readAll 70 = .ok (.iload_n 3, 1) := by decide +kernel
theorem dX1_readAll_71 : decode cX1_readAll 71 = .ok (.aload_n 0, 1) := by decide +kernel
theorem dX1_readAll_72 : decode cX1_readAll 72 = .ok (.iload_n 3, 1) := by decide +kernel
theorem dX1_readAll_73 : decode cX1_readAll 73 = .ok (.aload_n 0, 1) := by decide +kernel
theorem dX1_readAll_74 : decode cX1_readAll 74 = .ok (.iload_n 3, 1) := by decide +kernel
theorem dX1_readAll_75 : decode cX1_readAll 75 = .ok (.invokevirtual 285, 3) := by decide +kernel
theorem dX1_readAll_78 : decode cX1_readAll 78 = .ok (.invokevirtual 288, 3) := by decide +kernel
theorem dX1_readAll_81 : decode cX1_readAll 81 = .ok (.dastore, 1) := by decide +kernel
theorem dX1_readAll_82 : decode cX1_readAll 82 = .ok (.aload_n 0, 1) := by decide +kernel
theorem dX1_readAll_83 : decode cX1_readAll 83 = .ok (.getfield 56, 3) := by decide +kernel
theorem dX1_readAll_86 : decode cX1_readAll 86 = .ok (.iload_n 3, 1) := by decide +kernel
theorem dX1_readAll_87 : decode cX1_readAll 87 = .ok (.aload_n 0, 1) := by decide +kernel
theorem dX1_readAll_88 : decode cX1_readAll 88 = .ok (.iload_n 3, 1) := by decide +kernel
theorem dX1_readAll_89 : decode cX1_readAll 89 = .ok (.aload_n 0, 1) := by decide +kernel
theorem dX1_readAll_90 : decode cX1_readAll 90 = .ok (.iload_n 3, 1) := by decide +kernel
theorem dX1_readAll_91 : decode cX1_readAll 91 = .ok (.invokevirtual 291, 3) := by decide +kernel
theorem dX1_readAll_94 : decode cX1_readAll 94 = .ok (.invokevirtual 294, 3) := by decide +kernel
theorem dX1_readAll_97 : decode cX1_readAll 97 = .ok (.fastore, 1) := by decide +kernel
theorem dX1_readAll_98 : decode cX1_readAll 98 = .ok (.iinc 3 1, 3) := by decide +kernel
theorem dX1_readAll_101 : decode cX1_readAll 101 = .ok (.goto (-53), 3) := by decide +kernel
theorem dX1_readAll_104 : decode cX1_readAll 104 = .ok (.iinc 2 1, 3) := by decide +kernel
theorem dX1_readAll_107 : decode cX1_readAll 107 = .ok (.goto (-66), 3) := by decide +kernel
theorem dX1_readAll_110 : decode cX1_readAll 110 = .ok (.return_, 1) := by decide +kernel
theorem dX1_rateAll_0 : decode cX1_rateAll 0 = .ok (.iconst 0, 1) := by decide +kernel
theorem dX1_rateAll_1 : decode cX1_rateAll 1 = .ok (.istore_n 1, 1) := by decide +kernel
theorem dX1_rateAll_2 : decode cX1_rateAll 2 = .ok (.iload_n 1, 1) := by decide +kernel
theorem dX1_rateAll_3 : decode cX1_rateAll 3 = .ok (.aload_n 0, 1) := by decide +kernel
theorem dX1_rateAll_4 : decode cX1_rateAll 4 = .ok (.getfield 158, 3) := by decide +kernel
theorem dX1_rateAll_7 : decode cX1_rateAll 7 = .ok (.if_icmp .ge 41, 3) := by decide +kernel
theorem dX1_rateAll_10 : decode cX1_rateAll 10 = .ok (.aload_n 0, 1) := by decide +kernel
theorem dX1_rateAll_11 : decode cX1_rateAll 11 = .ok (.getfield 7, 3) := by decide +kernel
theorem dX1_rateAll_14 : decode cX1_rateAll 14 = .ok (.iload_n 1, 1) := by decide +kernel
theorem dX1_rateAll_15 : decode cX1_rateAll 15 = .ok (.iaload, 1) := by decide +kernel
theorem dX1_rateAll_16 : decode cX1_rateAll 16 = .ok (.iconst 2, 1) := by decide +kernel
theorem dX1_rateAll_17 : decode cX1_rateAll 17 = .ok (.if_icmp .ne 25, 3) := by decide +kernel
theorem dX1_rateAll_20 : decode cX1_rateAll 20 = .ok (.aload_n 0, 1) := by decide +kernel
theorem dX1_rateAll_21 : decode cX1_rateAll 21 = .ok (.getfield 152, 3) := by decide +kernel
theorem dX1_rateAll_24 : decode cX1_rateAll 24 = .ok (.iload_n 1, 1) := by decide +kernel
theorem dX1_rateAll_25 : decode cX1_rateAll 25 = .ok (.aload_n 0, 1) := by decide +kernel
theorem dX1_rateAll_26 : decode cX1_rateAll 26 = .ok (.iload_n 1, 1) := by decide +kernel
theorem dX1_rateAll_27 : decode cX1_rateAll 27 = .ok (.invokevirtual 264, 3) := by decide +kernel
theorem dX1_rateAll_30 : decode cX1_rateAll 30 = .ok (.dastore, 1) := by decide +kernel
theorem dX1_rateAll_31 : decode cX1_rateAll 31 = .ok (.aload_n 0, 1) := by decide +kernel
theorem dX1_rateAll_32 : decode cX1_rateAll 32 = .ok (.getfield 155, 3) := by decide +kernel
theorem dX1_rateAll_35 : decode cX1_rateAll 35 = .ok (.iload_n 1, 1) := by decide +kernel
theorem dX1_rateAll_36 : decode cX1_rateAll 36 = .ok (.aload_n 0, 1) := by decide +kernel
theorem dX1_rateAll_37 : decode cX1_rateAll 37 = .ok (.iload_n 1, 1) := by decide +kernel
theorem dX1_rateAll_38 : decode cX1_rateAll 38 = .ok (.invokevirtual 276, 3) := by decide +kernel
theorem dX1_rateAll_41 : decode cX1_rateAll 41 = .ok (.fastore, 1) := by decide +kernel
theorem dX1_rateAll_42 : decode cX1_rateAll 42 = .ok (.iinc 1 1, 3) := by decide +kernel
theorem dX1_rateAll_45 : decode cX1_rateAll 45 = .ok (.goto (-43), 3) := by decide +kernel
theorem dX1_rateAll_48 : decode cX1_rateAll 48 = .ok (.return_, 1) := by decide +kernel
theorem dX1_stage_0 : decode cX1_stage 0 = .ok (.dload_n 1, 1) := by decide +kernel
theorem dX1_stage_1 : decode cX1_stage 1 = .ok (.d2f, 1) := by decide +kernel
theorem dX1_stage_2 : decode cX1_stage 2 = .ok (.fstore_n 3, 1) := by decide +kernel
theorem dX1_stage_3 : decode cX1_stage 3 = .ok (.iconst 0, 1) := by decide +kernel
theorem dX1_stage_4 : decode cX1_stage 4 = .ok (.istore 4, 2) := by decide +kernel
theorem dX1_stage_6 : decode cX1_stage 6 = .ok (.iload 4, 2) := by decide +kernel
theorem dX1_stage_8 : decode cX1_stage 8 = .ok (.aload_n 0, 1) := by decide +kernel
theorem dX1_stage_9 : decode cX1_stage 9 = .ok (.getfield 158, 3) := by decide +kernel
theorem dX1_stage_12 : decode cX1_stage 12 = .ok (.if_icmp .ge 88, 3) := by decide +kernel
theorem dX1_stage_15 : decode cX1_stage 15 = .ok (.aload_n 0, 1) := by decide +kernel
theorem dX1_stage_16 : decode cX1_stage 16 = .ok (.getfield 7, 3) := by decide +kernel
theorem dX1_stage_19 : decode cX1_stage 19 = .ok (.iload 4, 2) := by decide +kernel
theorem dX1_stage_21 : decode cX1_stage 21 = .ok (.iaload, 1) := by decide +kernel
theorem dX1_stage_22 : decode cX1_stage 22 = .ok (.iconst 2, 1) := by decide +kernel
theorem dX1_stage_23 : decode cX1_stage 23 = .ok (.if_icmp .ne 71, 3) := by decide +kernel
theorem dX1_stage_26 : decode cX1_stage 26 = .ok (.dload_n 1, 1) := by decide +kernel
theorem dX1_stage_27 : decode cX1_stage 27 = .ok (.aload_n 0, 1) := by decide +kernel
theorem dX1_stage_28 : decode cX1_stage 28 = .ok (.getfield 152, 3) := by decide +kernel
theorem dX1_stage_31 : decode cX1_stage 31 = .ok (.iload 4, 2) := by decide +kernel
theorem dX1_stage_33 : decode cX1_stage 33 = .ok (.daload, 1) := by decide +kernel
theorem dX1_stage_34 : decode cX1_stage 34 = .ok (.dmul, 1) := by decide +kernel
theorem dX1_stage_35 : decode cX1_stage 35 = .ok (.dstore 5, 2) := by decide +kernel
theorem dX1_stage_37 : decode cX1_stage 37 = .ok (.fload_n 3, 1) := by decide +kernel
theorem dX1_stage_38 : decode cX1_stage 38 = .ok (.aload_n 0, 1) := by decide +kernel
theorem dX1_stage_39 : decode cX1_stage 39 = .ok (.getfield 155, 3) := by decide +kernel
theorem dX1_stage_42 : decode cX1_stage 42 = .ok (.iload 4, 2) := by decide +kernel
theorem dX1_stage_44 : decode cX1_stage 44 = .ok (.faload, 1) := by decide +kernel
theorem dX1_stage_45 : decode cX1_stage 45 = .ok (.fmul, 1) := by decide +kernel
theorem dX1_stage_46 : decode cX1_stage 46 = .ok (.fstore 7, 2) := by decide +kernel
theorem dX1_stage_48 : decode cX1_stage 48 = .ok (.aload_n 0, 1) := by decide +kernel
theorem dX1_stage_49 : decode cX1_stage 49 = .ok (.getfield 46, 3) := by decide +kernel
theorem dX1_stage_52 : decode cX1_stage 52 = .ok (.iload 4, 2) := by decide +kernel
theorem dX1_stage_54 : decode cX1_stage 54 = .ok (.aload_n 0, 1) := by decide +kernel
theorem dX1_stage_55 : decode cX1_stage 55 = .ok (.iload 4, 2) := by decide +kernel
theorem dX1_stage_57 : decode cX1_stage 57 = .ok (.aload_n 0, 1) := by decide +kernel
theorem dX1_stage_58 : decode cX1_stage 58 = .ok (.getfield 131, 3) := by decide +kernel
theorem dX1_stage_61 : decode cX1_stage 61 = .ok (.iload 4, 2) := by decide +kernel
theorem dX1_stage_63 : decode cX1_stage 63 = .ok (.daload, 1) := by decide +kernel
theorem dX1_stage_64 : decode cX1_stage 64 = .ok (.dload 5, 2) := by decide +kernel
theorem dX1_stage_66 : decode cX1_stage 66 = .ok (.dadd, 1) := by decide +kernel
theorem dX1_stage_67 : decode cX1_stage 67 = .ok (.invokevirtual 288, 3) := by decide +kernel
theorem dX1_stage_70 : decode cX1_stage 70 = .ok (.dastore, 1) := by decide +kernel
theorem dX1_stage_71 : decode cX1_stage 71 = .ok (.aload_n 0, 1) := by decide +kernel
theorem dX1_stage_72 : decode cX1_stage 72 = .ok (.getfield 49, 3) := by decide +kernel
theorem dX1_stage_75 : decode cX1_stage 75 = .ok (.iload 4, 2) := by decide +kernel
theorem dX1_stage_77 : decode cX1_stage 77 = .ok (.aload_n 0, 1) := by decide +kernel
theorem dX1_stage_78 : decode cX1_stage 78 = .ok (.iload 4, 2) := by decide +kernel
theorem dX1_stage_80 : decode cX1_stage 80 = .ok (.aload_n 0, 1) := by decide +kernel
theorem dX1_stage_81 : decode cX1_stage 81 = .ok (.getfield 143, 3) := by decide +kernel
theorem dX1_stage_84 : decode cX1_stage 84 = .ok (.iload 4, 2) := by decide +kernel
theorem dX1_stage_86 : decode cX1_stage 86 = .ok (.faload, 1) := by decide +kernel
theorem dX1_stage_87 : decode cX1_stage 87 = .ok (.fload 7, 2) := by decide +kernel
theorem dX1_stage_89 : decode cX1_stage 89 = .ok (.fadd, 1) := by decide +kernel
theorem dX1_stage_90 : decode cX1_stage 90 = .ok (.invokevirtual 294, 3) := by decide +kernel
theorem dX1_stage_93 : decode cX1_stage 93 = .ok (.fastore, 1) := by decide +kernel
theorem dX1_stage_94 : decode cX1_stage 94 = .ok (.iinc 4 1, 3) := by decide +kernel
theorem dX1_stage_97 : decode cX1_stage 97 = .ok (.goto (-91), 3) := by decide +kernel
theorem dX1_stage_100 : decode cX1_stage 100 = .ok (.return_, 1) := by decide +kernel
theorem dX1_keepRates_0 : decode cX1_keepRates 0 = .ok (.iconst 0, 1) := by decide +kernel
theorem dX1_keepRates_1 : decode cX1_keepRates 1 = .ok (.istore_n 2, 1) := by decide +kernel
theorem dX1_keepRates_2 : decode cX1_keepRates 2 = .ok (.iload_n 2, 1) := by decide +kernel
theorem dX1_keepRates_3 : decode cX1_keepRates 3 = .ok (.aload_n 0, 1) := by decide +kernel
theorem dX1_keepRates_4 : decode cX1_keepRates 4 = .ok (.getfield 158, 3) := by decide +kernel
theorem dX1_keepRates_7 : decode cX1_keepRates 7 = .ok (.if_icmp .ge 97, 3) := by decide +kernel
theorem dX1_keepRates_10 : decode cX1_keepRates 10 = .ok (.iload_n 1, 1) := by decide +kernel
theorem dX1_keepRates_11 : decode cX1_keepRates 11 = .ok (.iconst 1, 1) := by decide +kernel
theorem dX1_keepRates_12 : decode cX1_keepRates 12 = .ok (.if_icmp .ne 30, 3) := by decide +kernel
theorem dX1_keepRates_15 : decode cX1_keepRates 15 = .ok (.aload_n 0, 1) := by decide +kernel
theorem dX1_keepRates_16 : decode cX1_keepRates 16 = .ok (.getfield 122, 3) := by decide +kernel
theorem dX1_keepRates_19 : decode cX1_keepRates 19 = .ok (.iload_n 2, 1) := by decide +kernel
theorem dX1_keepRates_20 : decode cX1_keepRates 20 = .ok (.aload_n 0, 1) := by decide +kernel
theorem dX1_keepRates_21 : decode cX1_keepRates 21 = .ok (.getfield 152, 3) := by decide +kernel
theorem dX1_keepRates_24 : decode cX1_keepRates 24 = .ok (.iload_n 2, 1) := by decide +kernel
theorem dX1_keepRates_25 : decode cX1_keepRates 25 = .ok (.daload, 1) := by decide +kernel
theorem dX1_keepRates_26 : decode cX1_keepRates 26 = .ok (.dastore, 1) := by decide +kernel
theorem dX1_keepRates_27 : decode cX1_keepRates 27 = .ok (.aload_n 0, 1) := by decide +kernel
theorem dX1_keepRates_28 : decode cX1_keepRates 28 = .ok (.getfield 134, 3) := by decide +kernel
theorem dX1_keepRates_31 : decode cX1_keepRates 31 = .ok (.iload_n 2, 1) := by decide +kernel
theorem dX1_keepRates_32 : decode cX1_keepRates 32 = .ok (.aload_n 0, 1) := by decide +kernel
theorem dX1_keepRates_33 : decode cX1_keepRates 33 = .ok (.getfield 155, 3) := by decide +kernel
theorem dX1_keepRates_36 : decode cX1_keepRates 36 = .ok (.iload_n 2, 1) := by decide +kernel
theorem dX1_keepRates_37 : decode cX1_keepRates 37 = .ok (.faload, 1) := by decide +kernel
theorem dX1_keepRates_38 : decode cX1_keepRates 38 = .ok (.fastore, 1) := by decide +kernel
theorem dX1_keepRates_39 : decode cX1_keepRates 39 = .ok (.goto 59, 3) := by decide +kernel
theorem dX1_keepRates_42 : decode cX1_keepRates 42 = .ok (.iload_n 1, 1) := by decide +kernel
theorem dX1_keepRates_43 : decode cX1_keepRates 43 = .ok (.iconst 2, 1) := by decide +kernel
theorem dX1_keepRates_44 : decode cX1_keepRates 44 = .ok (.if_icmp .ne 30, 3) := by decide +kernel
theorem dX1_keepRates_47 : decode cX1_keepRates 47 = .ok (.aload_n 0, 1) := by decide +kernel
theorem dX1_keepRates_48 : decode cX1_keepRates 48 = .ok (.getfield 125, 3) := by decide +kernel
theorem dX1_keepRates_51 : decode cX1_keepRates 51 = .ok (.iload_n 2, 1) := by decide +kernel
theorem dX1_keepRates_52 : decode cX1_keepRates 52 = .ok (.aload_n 0, 1) := by decide +kernel
theorem dX1_keepRates_53 : decode cX1_keepRates 53 = .ok (.getfield 152, 3) := by decide +kernel
theorem dX1_keepRates_56 : decode cX1_keepRates 56 = .ok (.iload_n 2, 1) := by decide +kernel
theorem dX1_keepRates_57 : decode cX1_keepRates 57 = .ok (.daload, 1) := by decide +kernel
theorem dX1_keepRates_58 : decode cX1_keepRates 58 = .ok (.dastore, 1) := by decide +kernel
theorem dX1_keepRates_59 : decode cX1_keepRates 59 = .ok (.aload_n 0, 1) := by decide +kernel
theorem dX1_keepRates_60 : decode cX1_keepRates 60 = .ok (.getfield 137, 3) := by decide +kernel
theorem dX1_keepRates_63 : decode cX1_keepRates 63 = .ok (.iload_n 2, 1) := by decide +kernel
theorem dX1_keepRates_64 : decode cX1_keepRates 64 = .ok (.aload_n 0, 1) := by decide +kernel
theorem dX1_keepRates_65 : decode cX1_keepRates 65 = .ok (.getfield 155, 3) := by decide +kernel
theorem dX1_keepRates_68 : decode cX1_keepRates 68 = .ok (.iload_n 2, 1) := by decide +kernel
theorem dX1_keepRates_69 : decode cX1_keepRates 69 = .ok (.faload, 1) := by decide +kernel
theorem dX1_keepRates_70 : decode cX1_keepRates 70 = .ok (.fastore, 1) := by decide +kernel
theorem dX1_keepRates_71 : decode cX1_keepRates 71 = .ok (.goto 27, 3) := by decide +kernel
theorem dX1_keepRates_74 : decode cX1_keepRates 74 = .ok (.aload_n 0, 1) := by decide +kernel
theorem dX1_keepRates_75 : decode cX1_keepRates 75 = .ok (.getfield 128, 3) := by decide +kernel
theorem dX1_keepRates_78 : decode cX1_keepRates 78 = .ok (.iload_n 2, 1) := by decide +kernel
theorem dX1_keepRates_79 : decode cX1_keepRates 79 = .ok (.aload_n 0, 1) := by decide +kernel
theorem dX1_keepRates_80 : decode cX1_keepRates 80 = .ok (.getfield 152, 3) := by decide +kernel
theorem dX1_keepRates_83 : decode cX1_keepRates 83 = .ok (.iload_n 2, 1) := by decide +kernel
theorem dX1_keepRates_84 : decode cX1_keepRates 84 = .ok (.daload, 1) := by decide +kernel
theorem dX1_keepRates_85 : decode cX1_keepRates 85 = .ok (.dastore, 1) := by decide +kernel
theorem dX1_keepRates_86 : decode cX1_keepRates 86 = .ok (.aload_n 0, 1) := by decide +kernel
theorem dX1_keepRates_87 : decode cX1_keepRates 87 = .ok (.getfield 140, 3) := by decide +kernel
theorem dX1_keepRates_90 : decode cX1_keepRates 90 = .ok (.iload_n 2, 1) := by decide +kernel
theorem dX1_keepRates_91 : decode cX1_keepRates 91 = .ok (.aload_n 0, 1) := by decide +kernel
theorem dX1_keepRates_92 : decode cX1_keepRates 92 = .ok (.getfield 155, 3) := by decide +kernel
theorem dX1_keepRates_95 : decode cX1_keepRates 95 = .ok (.iload_n 2, 1) := by decide +kernel
theorem dX1_keepRates_96 : decode cX1_keepRates 96 = .ok (.faload, 1) := by decide +kernel
theorem dX1_keepRates_97 : decode cX1_keepRates 97 = .ok (.fastore, 1) := by decide +kernel
theorem dX1_keepRates_98 : decode cX1_keepRates 98 = .ok (.iinc 2 1, 3) := by decide +kernel
theorem dX1_keepRates_101 : decode cX1_keepRates 101 = .ok (.goto (-99), 3) := by decide +kernel
theorem dX1_keepRates_104 : decode cX1_keepRates 104 = .ok (.return_, 1) := by decide +kernel
theorem hd_X1_after : yX1_after.cls = RX1 ∧ yX1_after.cls ≠ "java/lang/invoke/MethodHandle" ∧ yX1_after.cls ≠ "java/lang/invoke/VarHandle" ∧ (parseMethodDescriptor yX1_after.desc).map (fun d => d.parameters.length) = some 2 := by decide +kernel
theorem hd_X1_afterF : yX1_afterF.cls = RX1 ∧ yX1_afterF.cls ≠ "java/lang/invoke/MethodHandle" ∧ yX1_afterF.cls ≠ "java/lang/invoke/VarHandle" ∧ (parseMethodDescriptor yX1_afterF.desc).map (fun d => d.parameters.length) = some 2 := by decide +kernel
theorem hd_X1_made : yX1_made.cls = RX1 ∧ yX1_made.cls ≠ "java/lang/invoke/MethodHandle" ∧ yX1_made.cls ≠ "java/lang/invoke/VarHandle" ∧ (parseMethodDescriptor yX1_made.desc).map (fun d => d.parameters.length) = some 1 := by decide +kernel
theorem hd_X1_madeF : yX1_madeF.cls = RX1 ∧ yX1_madeF.cls ≠ "java/lang/invoke/MethodHandle" ∧ yX1_madeF.cls ≠ "java/lang/invoke/VarHandle" ∧ (parseMethodDescriptor yX1_madeF.desc).map (fun d => d.parameters.length) = some 1 := by decide +kernel
theorem mt_X1_readAll (l : Launch) (D : va_G) (dA : Nat → ClassId) (ad : Nat → Nat) (C : tp_C) (d : md_T) (hC : mOK C) (hV : vOK C) (hR : rOK d) (hA : aOK C) (hL : lvOK (dAI d 10)) : mC l D dA ad yX1_readAll cX1_readAll 4 none 4 [] C d none C (raD C d) := by
  refine mm_start (by decide) rfl (Nat.le_of_ble_eq_true rfl) ?_
  intro p0 e0 s0 mid bl0 me0 co0 ls S hr hlk G hl
  have hx := S.1; have hb := S.2.1; have hml := S.2.2.1; have hown := S.2.2.2.1; have hts := S.2.2.2.2
  have hl : lv_has ls 4 [(0, .ref (ad 0))] := hl
  have hN := hC.n
  have hMx := mxN_le hL (cN C)
  have L0 : ∀ (n_ i : Nat), i ≤ cN C → cN C < i + n_ → ∀ (H : Heap) (locs : List Loc) (ls : Array Slot), mG D dA ad C d s0 H locs → lv_has ls 4 [(2, .int (nI i)), (1, .int (rmx (dAI d 10) i)), (0, .ref (ad 0))] → (∀ (H : Heap) (locs : List Loc) (ls : Array Slot), mG D dA ad C d s0 H locs → lv_has ls 4 [(2, .int (nI (cN C))), (1, .int (rmx (dAI d 10) (cN C))), (0, .ref (ad 0))] → W p0 l e0 (rm_ 4) s0 mid (Value.ref (ad 0) :: []).toArray bl0 me0 co0 H locs 0 0 (MQ bl0 (mQ D dA ad none C (raD C d)) (Value.ref (ad 0) :: []).toArray s0 0 0 (mA ad)) (F0 mid 39 ls [])) → W p0 l e0 (rm_ 4) s0 mid (Value.ref (ad 0) :: []).toArray bl0 me0 co0 H locs 0 0 (MQ bl0 (mQ D dA ad none C (raD C d)) (Value.ref (ad 0) :: []).toArray s0 0 0 (mA ad)) (F0 mid 4 ls []) := by
    intro n_
    induction n_ with
    | zero => intro i h1_ h2_; exact absurd h2_ (by omega)
    | succ n_ ih =>
      intro i h1_ h2_ H locs ls G hl kk
      refine lv_iload_n hx hb dX1_readAll_4 rfl (lv_at hl 0 rfl) ?_
      refine lv_aload_n hx hb dX1_readAll_5 rfl (lv_at hl 2 rfl) ?_
      refine mm_get S G 0 (by decide) q1267 rfl (v := .int (nI (cN C))) rfl dX1_readAll_6 ?_
      refine nn_cge (tgt := 39) hx hb (by omega) (by omega) dX1_readAll_9 (by decide) (fun c_9 => ?_) (fun c_9 => ?_)
      · have hiN : i = cN C := by omega
        subst hiN
        exact kk H locs ls G (lv_sub hl [0, 1, 2] rfl)
      · refine lv_aload_n hx hb dX1_readAll_12 rfl (lv_at hl 2 rfl) ?_
        refine mm_get S G 10 (by decide) q1277 rfl (v := .ref (ad 11)) rfl dX1_readAll_13 ?_
        refine lv_iload_n hx hb dX1_readAll_16 rfl (lv_at hl 0 rfl) ?_
        refine mm_iald S G 10 0 (by decide) (n := 20) rfl rfl (by omega) (by decide) (v := dAI d 10 i) rfl dX1_readAll_17 ?_
        refine lv_iload_n hx hb dX1_readAll_18 rfl (lv_at hl 1 rfl) ?_
        refine lv_icmp_le (tgt := 31) hx hb dX1_readAll_19 (by decide) (fun c_19 => ?_) (fun c_19 => ?_)
        · refine lv_iload_n hx hb dX1_readAll_31 rfl (lv_at hl 1 rfl) ?_
          refine lv_istore_n (lv' := [(1, .int (rmx (dAI d 10) i)), (2, .int (nI i)), (0, .ref (ad 0))]) hx hb dX1_readAll_32 rfl hl (by decide) rfl (fun ls hl => ?_)
          refine lv_iinc (v := nI (i + 1)) (lv' := [(2, .int (nI (i + 1))), (1, .int (rmx (dAI d 10) i)), (0, .ref (ad 0))]) hx hb dX1_readAll_33 hl (k := 1) rfl (nI_1 _) (by decide) rfl (fun ls hl => ?_)
          refine lv_goto (tgt := 4) hx hb dX1_readAll_36 (by decide) ?_
          exact ih (i + 1) (by omega) (by omega) H locs ls G (lv_eq (lv_sub (l' := [(2, .int (nI (i + 1))), (1, .int (rmx (dAI d 10) i)), (0, .ref (ad 0))]) hl [0, 1, 2] rfl) (by simp [rmx_s, c_9, c_19])) kk
        · refine lv_aload_n hx hb dX1_readAll_22 rfl (lv_at hl 2 rfl) ?_
          refine mm_get S G 10 (by decide) q1277 rfl (v := .ref (ad 11)) rfl dX1_readAll_23 ?_
          refine lv_iload_n hx hb dX1_readAll_26 rfl (lv_at hl 0 rfl) ?_
          refine mm_iald S G 10 0 (by decide) (n := 20) rfl rfl (by omega) (by decide) (v := dAI d 10 i) rfl dX1_readAll_27 ?_
          refine lv_goto (tgt := 32) hx hb dX1_readAll_28 (by decide) ?_
          refine lv_istore_n (lv' := [(1, .int (dAI d 10 i)), (2, .int (nI i)), (0, .ref (ad 0))]) hx hb dX1_readAll_32 rfl hl (by decide) rfl (fun ls hl => ?_)
          refine lv_iinc (v := nI (i + 1)) (lv' := [(2, .int (nI (i + 1))), (1, .int (dAI d 10 i)), (0, .ref (ad 0))]) hx hb dX1_readAll_33 hl (k := 1) rfl (nI_1 _) (by decide) rfl (fun ls hl => ?_)
          refine lv_goto (tgt := 4) hx hb dX1_readAll_36 (by decide) ?_
          exact ih (i + 1) (by omega) (by omega) H locs ls G (lv_eq (lv_sub (l' := [(2, .int (nI (i + 1))), (1, .int (dAI d 10 i)), (0, .ref (ad 0))]) hl [0, 1, 2] rfl) (by simp [rmx_s, c_9, c_19])) kk
  have L2 : ∀ (f : md_T) (l_ : Nat) (hl_ : l_ ≤ 20) (hRf : rOK f) (n_ m : Nat), m ≤ cN C → cN C < m + n_ → ∀ (H : Heap) (locs : List Loc) (ls : Array Slot), mG D dA ad C (it_ (raS C l_) m f) s0 H locs → lv_has ls 4 [(3, .int (nI m)), (2, .int (nI l_)), (1, .int (nI (mxN (dAI d 10) (cN C)))), (0, .ref (ad 0))] → (∀ (H : Heap) (locs : List Loc) (ls : Array Slot), mG D dA ad C (it_ (raS C l_) (cN C) f) s0 H locs → lv_has ls 4 [(3, .int (nI (cN C))), (2, .int (nI l_)), (1, .int (nI (mxN (dAI d 10) (cN C)))), (0, .ref (ad 0))] → W p0 l e0 (rm_ 4) s0 mid (Value.ref (ad 0) :: []).toArray bl0 me0 co0 H locs 0 0 (MQ bl0 (mQ D dA ad none C (raD C d)) (Value.ref (ad 0) :: []).toArray s0 0 0 (mA ad)) (F0 mid 104 ls [])) → W p0 l e0 (rm_ 4) s0 mid (Value.ref (ad 0) :: []).toArray bl0 me0 co0 H locs 0 0 (MQ bl0 (mQ D dA ad none C (raD C d)) (Value.ref (ad 0) :: []).toArray s0 0 0 (mA ad)) (F0 mid 48 ls []) := by
    intro f l_ hl_ hRf n_
    induction n_ with
    | zero => intro m h1_ h2_; exact absurd h2_ (by omega)
    | succ n_ ih =>
      intro m h1_ h2_ H locs ls G hl kk
      have hRm := raS_ok (l := l_) hC hV hA hRf m (by omega)
      have hRx : m < cN C → rOK (mR1 C m (it_ (raS C l_) m f)) := fun h => mR1_ok hC hV hRm (hA m h)
      refine lv_iload_n hx hb dX1_readAll_48 rfl (lv_at hl 0 rfl) ?_
      refine lv_aload_n hx hb dX1_readAll_49 rfl (lv_at hl 3 rfl) ?_
      refine mm_get S G 0 (by decide) q1267 rfl (v := .int (nI (cN C))) rfl dX1_readAll_50 ?_
      refine nn_cge (tgt := 104) hx hb (by omega) (by omega) dX1_readAll_53 (by decide) (fun c_53 => ?_) (fun c_53 => ?_)
      · have hiN : m = cN C := by omega
        subst hiN
        exact kk H locs ls G (lv_sub hl [0, 1, 2, 3] rfl)
      · refine lv_aload_n hx hb dX1_readAll_56 rfl (lv_at hl 3 rfl) ?_
        refine mm_get S G 10 (by decide) q1277 rfl (v := .ref (ad 11)) rfl dX1_readAll_57 ?_
        refine lv_iload_n hx hb dX1_readAll_60 rfl (lv_at hl 0 rfl) ?_
        refine mm_iald S G 10 0 (by decide) (n := 20) rfl rfl (by omega) (by decide) (v := dAI (it_ (raS C l_) m f) 10 m) rfl dX1_readAll_61 ?_
        refine lv_iload_n hx hb dX1_readAll_62 rfl (lv_at hl 1 rfl) ?_
        refine lv_icmp_ne (tgt := 98) hx hb dX1_readAll_63 (by decide) (fun c_63 => ?_) (fun c_63 => ?_)
        · refine lv_iinc (v := nI (m + 1)) (lv' := [(3, .int (nI (m + 1))), (2, .int (nI l_)), (1, .int (nI (mxN (dAI d 10) (cN C)))), (0, .ref (ad 0))]) hx hb dX1_readAll_98 hl (k := 0) rfl (nI_1 _) (by decide) rfl (fun ls hl => ?_)
          refine lv_goto (tgt := 48) hx hb dX1_readAll_101 (by decide) ?_
          exact ih (m + 1) (by omega) (by omega) H locs ls (mG_d (by exact (if_neg c_63).symm) G) (lv_sub hl [0, 1, 2, 3] rfl) kk
        · refine lv_aload_n hx hb dX1_readAll_66 rfl (lv_at hl 3 rfl) ?_
          refine mm_get S G 19 (by decide) q1286 rfl (v := .ref (ad 20)) rfl dX1_readAll_67 ?_
          refine lv_iload_n hx hb dX1_readAll_70 rfl (lv_at hl 0 rfl) ?_
          refine lv_aload_n hx hb dX1_readAll_71 rfl (lv_at hl 3 rfl) ?_
          refine lv_iload_n hx hb dX1_readAll_72 rfl (lv_at hl 0 rfl) ?_
          refine lv_aload_n hx hb dX1_readAll_73 rfl (lv_at hl 3 rfl) ?_
          refine lv_iload_n hx hb dX1_readAll_74 rfl (lv_at hl 0 rfl) ?_
          refine mm_call (As := [.int (nI m)]) (rest := [.int (nI m), .ref (ad 0), .int (nI m), .ref (ad 20)]) S G (mt_X1_made l D dA ad C (it_ (raS C l_) m f) m hC (by omega) hV hRm (hA m (by omega))) q1550 q1552 qs27 q1553 hd_X1_made ⟨Nat.le_of_ble_eq_true rfl, Nat.le_of_ble_eq_true rfl⟩ rfl hl.1 rfl (Nat.le_of_ble_eq_true rfl) dX1_readAll_75 ⟨Nat.zero_le _, Nat.zero_le _⟩ (fun H locs G => ?_)
          refine W.eq (g2 := F0 mid 78 ls [.double (mkD C (it_ (raS C l_) m f) m), .int (nI m), .ref (ad 0), .int (nI m), .ref (ad 20)]) rfl ?_
          refine mm_call (As := [.int (nI m), .double (mkD C (it_ (raS C l_) m f) m)]) (rest := [.int (nI m), .ref (ad 20)]) S G (mt_X1_after l D dA ad C (mkL C (it_ (raS C l_) m f) m) m (mkD C (it_ (raS C l_) m f) m) (by omega)) q1580 q1582 qs32 q1583 hd_X1_after ⟨Nat.le_of_ble_eq_true rfl, Nat.le_of_ble_eq_true rfl⟩ rfl hl.1 rfl (Nat.le_of_ble_eq_true rfl) dX1_readAll_78 ⟨Nat.zero_le _, Nat.zero_le _⟩ (fun H locs G => ?_)
          refine W.eq (g2 := F0 mid 81 ls [.double (clD (mkD C (it_ (raS C l_) m f) m)), .int (nI m), .ref (ad 20)]) rfl ?_
          refine mm_dast S G 19 rfl (by decide) (n := 20) rfl (by omega) dX1_readAll_81 (fun H locs G => ?_)
          have G : mG D dA ad C (mR1 C m (it_ (raS C l_) m f)) s0 H locs := G
          have hR1 := hRx (by omega)
          refine lv_aload_n hx hb dX1_readAll_82 rfl (lv_at hl 3 rfl) ?_
          refine mm_get S G 20 (by decide) q1287 rfl (v := .ref (ad 21)) rfl dX1_readAll_83 ?_
          refine lv_iload_n hx hb dX1_readAll_86 rfl (lv_at hl 0 rfl) ?_
          refine lv_aload_n hx hb dX1_readAll_87 rfl (lv_at hl 3 rfl) ?_
          refine lv_iload_n hx hb dX1_readAll_88 rfl (lv_at hl 0 rfl) ?_
          refine lv_aload_n hx hb dX1_readAll_89 rfl (lv_at hl 3 rfl) ?_
          refine lv_iload_n hx hb dX1_readAll_90 rfl (lv_at hl 0 rfl) ?_
          refine mm_call (As := [.int (nI m)]) (rest := [.int (nI m), .ref (ad 0), .int (nI m), .ref (ad 21)]) S G (mt_X1_madeF l D dA ad C (mR1 C m (it_ (raS C l_) m f)) m hC (by omega) hV hR1 (hA m (by omega))) q1584 q1586 qs33 q1587 hd_X1_madeF ⟨Nat.le_of_ble_eq_true rfl, Nat.le_of_ble_eq_true rfl⟩ rfl hl.1 rfl (Nat.le_of_ble_eq_true rfl) dX1_readAll_91 ⟨Nat.zero_le _, Nat.zero_le _⟩ (fun H locs G => ?_)
          refine W.eq (g2 := F0 mid 94 ls [.float (mkF C (mR1 C m (it_ (raS C l_) m f)) m), .int (nI m), .ref (ad 0), .int (nI m), .ref (ad 21)]) rfl ?_
          refine mm_call (As := [.int (nI m), .float (mkF C (mR1 C m (it_ (raS C l_) m f)) m)]) (rest := [.int (nI m), .ref (ad 21)]) S G (mt_X1_afterF l D dA ad C (mkLF C (mR1 C m (it_ (raS C l_) m f)) m) m (mkF C (mR1 C m (it_ (raS C l_) m f)) m) (by omega)) q1603 q1605 qs37 q1606 hd_X1_afterF ⟨Nat.le_of_ble_eq_true rfl, Nat.le_of_ble_eq_true rfl⟩ rfl hl.1 rfl (Nat.le_of_ble_eq_true rfl) dX1_readAll_94 ⟨Nat.zero_le _, Nat.zero_le _⟩ (fun H locs G => ?_)
          refine W.eq (g2 := F0 mid 97 ls [.float (clF (mkF C (mR1 C m (it_ (raS C l_) m f)) m)), .int (nI m), .ref (ad 21)]) rfl ?_
          refine mm_fast S G 20 rfl (by decide) (n := 20) rfl (by omega) dX1_readAll_97 (fun H locs G => ?_)
          refine lv_iinc (v := nI (m + 1)) (lv' := [(3, .int (nI (m + 1))), (2, .int (nI l_)), (1, .int (nI (mxN (dAI d 10) (cN C)))), (0, .ref (ad 0))]) hx hb dX1_readAll_98 hl (k := 0) rfl (nI_1 _) (by decide) rfl (fun ls hl => ?_)
          refine lv_goto (tgt := 48) hx hb dX1_readAll_101 (by decide) ?_
          exact ih (m + 1) (by omega) (by omega) H locs ls (mG_d (by exact (if_pos c_63).symm) G) (lv_sub hl [0, 1, 2, 3] rfl) kk
  have L1 : ∀ (n_ l_ : Nat), l_ ≤ (mxN (dAI d 10) (cN C) + 1) → (mxN (dAI d 10) (cN C) + 1) < l_ + n_ → ∀ (H : Heap) (locs : List Loc) (ls : Array Slot), mG D dA ad C (raN C l_ d) s0 H locs → lv_has ls 4 [(2, .int (nI l_)), (1, .int (nI (mxN (dAI d 10) (cN C)))), (0, .ref (ad 0))] → (∀ (H : Heap) (locs : List Loc) (ls : Array Slot), mG D dA ad C (raN C (mxN (dAI d 10) (cN C) + 1) d) s0 H locs → lv_has ls 4 [(2, .int (nI (mxN (dAI d 10) (cN C) + 1))), (1, .int (nI (mxN (dAI d 10) (cN C)))), (0, .ref (ad 0))] → W p0 l e0 (rm_ 4) s0 mid (Value.ref (ad 0) :: []).toArray bl0 me0 co0 H locs 0 0 (MQ bl0 (mQ D dA ad none C (raD C d)) (Value.ref (ad 0) :: []).toArray s0 0 0 (mA ad)) (F0 mid 110 ls [])) → W p0 l e0 (rm_ 4) s0 mid (Value.ref (ad 0) :: []).toArray bl0 me0 co0 H locs 0 0 (MQ bl0 (mQ D dA ad none C (raD C d)) (Value.ref (ad 0) :: []).toArray s0 0 0 (mA ad)) (F0 mid 41 ls []) := by
    intro n_
    induction n_ with
    | zero => intro l_ h1_ h2_; exact absurd h2_ (by omega)
    | succ n_ ih =>
      intro l_ h1_ h2_ H locs ls G hl kk
      refine lv_iload_n hx hb dX1_readAll_41 rfl (lv_at hl 0 rfl) ?_
      refine lv_iload_n hx hb dX1_readAll_42 rfl (lv_at hl 1 rfl) ?_
      refine nn_cgt (tgt := 110) hx hb (by omega) (by omega) dX1_readAll_43 (by decide) (fun c_43 => ?_) (fun c_43 => ?_)
      · have hiN : l_ = (mxN (dAI d 10) (cN C) + 1) := by omega
        subst hiN
        exact kk H locs ls G (lv_sub hl [0, 1, 2] rfl)
      · refine lv_iconst (v := nI 0) hx hb dX1_readAll_46 (by decide) ?_
        refine lv_istore_n (lv' := [(3, .int (nI 0)), (2, .int (nI l_)), (1, .int (nI (mxN (dAI d 10) (cN C)))), (0, .ref (ad 0))]) hx hb dX1_readAll_47 rfl hl (by decide) rfl (fun ls hl => ?_)
        refine L2 (raN C l_ d) l_ (by omega) (raN_ok hC hV hA hR l_) (cN C + 1) 0 (by omega) (by omega) _ _ ls (mG_d (by rfl) G) (lv_sub hl [0, 1, 2, 3] rfl) (fun H locs ls G hl => ?_)
        refine lv_iinc (v := nI (l_ + 1)) (lv' := [(2, .int (nI (l_ + 1))), (3, .int (nI (cN C))), (1, .int (nI (mxN (dAI d 10) (cN C)))), (0, .ref (ad 0))]) hx hb dX1_readAll_104 hl (k := 1) rfl (nI_1 _) (by decide) rfl (fun ls hl => ?_)
        refine lv_goto (tgt := 41) hx hb dX1_readAll_107 (by decide) ?_
        exact ih (l_ + 1) (by omega) (by omega) H locs ls (mG_d (by rfl) G) (lv_sub hl [0, 2, 3] rfl) kk
  refine lv_iconst (v := nI 0) hx hb dX1_readAll_0 (by decide) ?_
  refine lv_istore_n (lv' := [(1, .int (nI 0)), (0, .ref (ad 0))]) hx hb dX1_readAll_1 rfl hl (by decide) rfl (fun ls hl => ?_)
  refine lv_iconst (v := nI 0) hx hb dX1_readAll_2 (by decide) ?_
  refine lv_istore_n (lv' := [(2, .int (nI 0)), (1, .int (nI 0)), (0, .ref (ad 0))]) hx hb dX1_readAll_3 rfl hl (by decide) rfl (fun ls hl => ?_)
  refine L0 (cN C + 1) 0 (by omega) (by omega) _ _ ls G (lv_eq (lv_sub (l' := [(2, .int (nI 0)), (1, .int (nI 0)), (0, .ref (ad 0))]) hl [0, 1, 2] rfl) (by rfl)) (fun H locs ls G hl => ?_)
  rw [mxN_eq hL] at hl
  refine lv_iconst (v := nI 0) hx hb dX1_readAll_39 (by decide) ?_
  refine lv_istore_n (lv' := [(2, .int (nI 0)), (1, .int (nI (mxN (dAI d 10) (cN C)))), (0, .ref (ad 0))]) hx hb dX1_readAll_40 rfl hl (by decide) rfl (fun ls hl => ?_)
  refine L1 (mxN (dAI d 10) (cN C) + 2) 0 (by omega) (by omega) _ _ ls (mG_d (by rfl) G) (lv_sub hl [0, 1, 2] rfl) (fun H locs ls G hl => ?_)
  exact mm_vret S hr hlk G rfl (by rfl) dX1_readAll_110
theorem mt_X1_rateAll (l : Launch) (D : va_G) (dA : Nat → ClassId) (ad : Nat → Nat) (C : tp_C) (d : md_T) (hC : mOK C) (hR : rOK d) : mC l D dA ad yX1_rateAll cX1_rateAll 2 none 2 [] C d none C (rateD C d) := by
  refine mm_start (by decide) rfl (Nat.le_of_ble_eq_true rfl) ?_
  intro p0 e0 s0 mid bl0 me0 co0 ls S hr hlk G hl
  have hx := S.1; have hb := S.2.1; have hml := S.2.2.1; have hown := S.2.2.2.1; have hts := S.2.2.2.2
  have hl : lv_has ls 2 [(0, .ref (ad 0))] := hl
  have hN := hC.n
  have L1 : ∀ (n_ m : Nat), m ≤ cN C → cN C < m + n_ → ∀ (H : Heap) (locs : List Loc) (ls : Array Slot), mG D dA ad C (rtI C d m) s0 H locs → lv_has ls 2 [(1, .int (nI m)), (0, .ref (ad 0))] → (∀ (H : Heap) (locs : List Loc) (ls : Array Slot), mG D dA ad C (rtI C d (cN C)) s0 H locs → lv_has ls 2 [(1, .int (nI (cN C))), (0, .ref (ad 0))] → W p0 l e0 (rm_ 2) s0 mid (Value.ref (ad 0) :: []).toArray bl0 me0 co0 H locs 0 0 (MQ bl0 (mQ D dA ad none C (rateD C d)) (Value.ref (ad 0) :: []).toArray s0 0 0 (mA ad)) (F0 mid 48 ls [])) → W p0 l e0 (rm_ 2) s0 mid (Value.ref (ad 0) :: []).toArray bl0 me0 co0 H locs 0 0 (MQ bl0 (mQ D dA ad none C (rateD C d)) (Value.ref (ad 0) :: []).toArray s0 0 0 (mA ad)) (F0 mid 2 ls []) := by
    intro n_
    induction n_ with
    | zero => intro m h1_ h2_; exact absurd h2_ (by omega)
    | succ n_ ih =>
      intro m h1_ h2_ H locs ls G hl kk
      have hk14 := hC.k m
      refine lv_iload_n hx hb dX1_rateAll_2 rfl (lv_at hl 0 rfl) ?_
      refine lv_aload_n hx hb dX1_rateAll_3 rfl (lv_at hl 1 rfl) ?_
      refine mm_get S G 0 (by decide) q1267 rfl (v := .int (nI (cN C))) rfl dX1_rateAll_4 ?_
      refine nn_cge (tgt := 48) hx hb (by omega) (by omega) dX1_rateAll_7 (by decide) (fun c_7 => ?_) (fun c_7 => ?_)
      · have hiN : m = cN C := by omega
        subst hiN
        exact kk H locs ls G (lv_sub hl [0, 1] rfl)
      · refine lv_aload_n hx hb dX1_rateAll_10 rfl (lv_at hl 1 rfl) ?_
        refine mm_get S G 1 (by decide) q1268 rfl (v := .ref (ad 2)) rfl dX1_rateAll_11 ?_
        refine lv_iload_n hx hb dX1_rateAll_14 rfl (lv_at hl 0 rfl) ?_
        refine mm_iald S G 1 0 (by decide) (n := 20) rfl rfl (by omega) (by decide) (v := nI (cK C m)) rfl dX1_rateAll_15 ?_
        refine lv_iconst (v := nI 2) hx hb dX1_rateAll_16 (by decide) ?_
        refine nn_cne (tgt := 42) hx hb (by omega) (by omega) dX1_rateAll_17 (by decide) (fun c_17 => ?_) (fun c_17 => ?_)
        · refine lv_iinc (v := nI (m + 1)) (lv' := [(1, .int (nI (m + 1))), (0, .ref (ad 0))]) hx hb dX1_rateAll_42 hl (k := 0) rfl (nI_1 _) (by decide) rfl (fun ls hl => ?_)
          refine lv_goto (tgt := 2) hx hb dX1_rateAll_45 (by decide) ?_
          exact ih (m + 1) (by omega) (by omega) H locs ls (mG_d (by exact rtI_k C d m c_17) G) (lv_sub hl [0, 1] rfl) kk
        · refine lv_aload_n hx hb dX1_rateAll_20 rfl (lv_at hl 1 rfl) ?_
          refine mm_get S G 56 (by decide) q1323 rfl (v := .ref (ad 57)) rfl dX1_rateAll_21 ?_
          refine lv_iload_n hx hb dX1_rateAll_24 rfl (lv_at hl 0 rfl) ?_
          refine lv_aload_n hx hb dX1_rateAll_25 rfl (lv_at hl 1 rfl) ?_
          refine lv_iload_n hx hb dX1_rateAll_26 rfl (lv_at hl 0 rfl) ?_
          refine mm_call (As := [.int (nI m)]) (rest := [.int (nI m), .ref (ad 57)]) S G (mt_X1_sum l D dA ad C (rtI C d m) m hC (by omega) hR.rd) q1558 q1560 qs29 q1561 hd_X1_sum ⟨Nat.le_of_ble_eq_true rfl, Nat.le_of_ble_eq_true rfl⟩ rfl hl.1 rfl (Nat.le_of_ble_eq_true rfl) dX1_rateAll_27 ⟨Nat.zero_le _, Nat.zero_le _⟩ (fun H locs G => ?_)
          refine W.eq (g2 := F0 mid 30 ls [.double (suD C (dAD (rtI C d m) 19) m), .int (nI m), .ref (ad 57)]) rfl ?_
          refine mm_dast S G 56 rfl (by decide) (n := 20) rfl (by omega) dX1_rateAll_30 (fun H locs G => ?_)
          refine lv_aload_n hx hb dX1_rateAll_31 rfl (lv_at hl 1 rfl) ?_
          refine mm_get S G 57 (by decide) q1324 rfl (v := .ref (ad 58)) rfl dX1_rateAll_32 ?_
          refine lv_iload_n hx hb dX1_rateAll_35 rfl (lv_at hl 0 rfl) ?_
          refine lv_aload_n hx hb dX1_rateAll_36 rfl (lv_at hl 1 rfl) ?_
          refine lv_iload_n hx hb dX1_rateAll_37 rfl (lv_at hl 0 rfl) ?_
          refine mm_call (As := [.int (nI m)]) (rest := [.int (nI m), .ref (ad 58)]) S G (mt_X1_sumF l D dA ad C (uAD (rtI C d m) 56 m (suD C (dAD (rtI C d m) 19) m)) m hC (by omega) hR.rf) q1592 q1594 qs35 q1595 hd_X1_sumF ⟨Nat.le_of_ble_eq_true rfl, Nat.le_of_ble_eq_true rfl⟩ rfl hl.1 rfl (Nat.le_of_ble_eq_true rfl) dX1_rateAll_38 ⟨Nat.zero_le _, Nat.zero_le _⟩ (fun H locs G => ?_)
          refine W.eq (g2 := F0 mid 41 ls [.float (suF C (dAF (uAD (rtI C d m) 56 m (suD C (dAD (rtI C d m) 19) m)) 20) m), .int (nI m), .ref (ad 58)]) rfl ?_
          refine mm_fast S G 57 rfl (by decide) (n := 20) rfl (by omega) dX1_rateAll_41 (fun H locs G => ?_)
          refine lv_iinc (v := nI (m + 1)) (lv' := [(1, .int (nI (m + 1))), (0, .ref (ad 0))]) hx hb dX1_rateAll_42 hl (k := 0) rfl (nI_1 _) (by decide) rfl (fun ls hl => ?_)
          refine lv_goto (tgt := 2) hx hb dX1_rateAll_45 (by decide) ?_
          exact ih (m + 1) (by omega) (by omega) H locs ls (mG_d (by exact rtI_s C d m c_17) G) (lv_sub hl [0, 1] rfl) kk
  refine lv_iconst (v := nI 0) hx hb dX1_rateAll_0 (by decide) ?_
  refine lv_istore_n (lv' := [(1, .int (nI 0)), (0, .ref (ad 0))]) hx hb dX1_rateAll_1 rfl hl (by decide) rfl (fun ls hl => ?_)
  refine L1 (cN C + 1) 0 (by omega) (by omega) _ _ ls (mG_d (by exact (rtI_0 C d).symm) G) (lv_sub hl [0, 1] rfl) (fun H locs ls G hl => ?_)
  exact mm_vret S hr hlk G rfl (by rfl) dX1_rateAll_48
theorem mt_X1_stage (l : Launch) (D : va_G) (dA : Nat → ClassId) (ad : Nat → Nat) (C : tp_C) (d : md_T) (t : UInt64) (hC : mOK C) (ht : tOK t) (hq : qOK d) : mC l D dA ad yX1_stage cX1_stage 8 none 2 [.double t] C d none C (sgA C t d) := by
  refine mm_start (by decide) rfl (Nat.le_of_ble_eq_true rfl) ?_
  intro p0 e0 s0 mid bl0 me0 co0 ls S hr hlk G hl
  have hx := S.1; have hb := S.2.1; have hml := S.2.2.1; have hown := S.2.2.2.1; have hts := S.2.2.2.2
  have hl : lv_has ls 8 [(0, .ref (ad 0)), (1, .double t)] := hl
  have hN := hC.n
  have L1 : ∀ (n_ m : Nat), m ≤ cN C → cN C < m + n_ → ∀ (H : Heap) (locs : List Loc) (ls : Array Slot), mG D dA ad C (sgN C t m d) s0 H locs → lv_has ls 8 [(4, .int (nI m)), (3, .float (FP.d2f t)), (0, .ref (ad 0)), (1, .double t)] → (∀ (H : Heap) (locs : List Loc) (ls : Array Slot), mG D dA ad C (sgN C t (cN C) d) s0 H locs → lv_has ls 8 [(4, .int (nI (cN C))), (3, .float (FP.d2f t)), (0, .ref (ad 0)), (1, .double t)] → W p0 l e0 (rm_ 2) s0 mid (Value.ref (ad 0) :: [.double t]).toArray bl0 me0 co0 H locs 0 0 (MQ bl0 (mQ D dA ad none C (sgA C t d)) (Value.ref (ad 0) :: [.double t]).toArray s0 0 0 (mA ad)) (F0 mid 100 ls [])) → W p0 l e0 (rm_ 2) s0 mid (Value.ref (ad 0) :: [.double t]).toArray bl0 me0 co0 H locs 0 0 (MQ bl0 (mQ D dA ad none C (sgA C t d)) (Value.ref (ad 0) :: [.double t]).toArray s0 0 0 (mA ad)) (F0 mid 6 ls []) := by
    intro n_
    induction n_ with
    | zero => intro m h1_ h2_; exact absurd h2_ (by omega)
    | succ n_ ih =>
      intro m h1_ h2_ H locs ls G hl kk
      have hk14 := hC.k m
      have hQm := (sgN_q (C := C) (t := t) hq m)
      refine lv_iload hx hb dX1_stage_6 (lv_at hl 0 rfl) ?_
      refine lv_aload_n hx hb dX1_stage_8 rfl (lv_at hl 2 rfl) ?_
      refine mm_get S G 0 (by decide) q1267 rfl (v := .int (nI (cN C))) rfl dX1_stage_9 ?_
      refine nn_cge (tgt := 100) hx hb (by omega) (by omega) dX1_stage_12 (by decide) (fun c_12 => ?_) (fun c_12 => ?_)
      · have hiN : m = cN C := by omega
        subst hiN
        exact kk H locs ls G (lv_sub hl [0, 1, 2, 3] rfl)
      · refine lv_aload_n hx hb dX1_stage_15 rfl (lv_at hl 2 rfl) ?_
        refine mm_get S G 1 (by decide) q1268 rfl (v := .ref (ad 2)) rfl dX1_stage_16 ?_
        refine lv_iload hx hb dX1_stage_19 (lv_at hl 0 rfl) ?_
        refine mm_iald S G 1 0 (by decide) (n := 20) rfl rfl (by omega) (by decide) (v := nI (cK C m)) rfl dX1_stage_21 ?_
        refine lv_iconst (v := nI 2) hx hb dX1_stage_22 (by decide) ?_
        refine nn_cne (tgt := 94) hx hb (by omega) (by omega) dX1_stage_23 (by decide) (fun c_23 => ?_) (fun c_23 => ?_)
        · refine lv_iinc (v := nI (m + 1)) (lv' := [(4, .int (nI (m + 1))), (3, .float (FP.d2f t)), (0, .ref (ad 0)), (1, .double t)]) hx hb dX1_stage_94 hl (k := 0) rfl (nI_1 _) (by decide) rfl (fun ls hl => ?_)
          refine lv_goto (tgt := 6) hx hb dX1_stage_97 (by decide) ?_
          exact ih (m + 1) (by omega) (by omega) H locs ls (mG_d (by exact (if_neg c_23).symm) G) (lv_sub hl [0, 1, 2, 3] rfl) kk
        · refine lv_dload_n hx hb dX1_stage_26 rfl (lv_at hl 3 rfl) ?_
          refine lv_aload_n hx hb dX1_stage_27 rfl (lv_at hl 2 rfl) ?_
          refine mm_get S G 56 (by decide) q1323 rfl (v := .ref (ad 57)) rfl dX1_stage_28 ?_
          refine lv_iload hx hb dX1_stage_31 (lv_at hl 0 rfl) ?_
          refine mm_dald S G 56 2 (by decide) (n := 20) rfl rfl (by omega) (by decide) (v := dAD (sgN C t m d) 56 m) rfl dX1_stage_33 ?_
          refine lv_dmul hx hb dX1_stage_34 (nD_mulz ht.1 (hQm.2.2.1 m)) ?_
          refine lv_dstore (lv' := [(5, .double (FP.dmul t (dAD (sgN C t m d) 56 m))), (4, .int (nI m)), (3, .float (FP.d2f t)), (0, .ref (ad 0)), (1, .double t)]) hx hb dX1_stage_35 hl (by decide) rfl (fun ls hl => ?_)
          refine lv_fload_n hx hb dX1_stage_37 rfl (lv_at hl 2 rfl) ?_
          refine lv_aload_n hx hb dX1_stage_38 rfl (lv_at hl 3 rfl) ?_
          refine mm_get S G 57 (by decide) q1324 rfl (v := .ref (ad 58)) rfl dX1_stage_39 ?_
          refine lv_iload hx hb dX1_stage_42 (lv_at hl 1 rfl) ?_
          refine mm_fald S G 57 3 (by decide) (n := 20) rfl rfl (by omega) (by decide) (v := dAF (sgN C t m d) 57 m) rfl dX1_stage_44 ?_
          refine lv_fmul hx hb dX1_stage_45 (nF_mulz ht.2.1 (hQm.2.2.2 m)) ?_
          refine lv_fstore (lv' := [(7, .float (FP.fmul (FP.d2f t) (dAF (sgN C t m d) 57 m))), (5, .double (FP.dmul t (dAD (sgN C t m d) 56 m))), (4, .int (nI m)), (3, .float (FP.d2f t)), (0, .ref (ad 0)), (1, .double t)]) hx hb dX1_stage_46 hl (by decide) rfl (fun ls hl => ?_)
          refine lv_aload_n hx hb dX1_stage_48 rfl (lv_at hl 4 rfl) ?_
          refine mm_get S G 17 (by decide) q1284 rfl (v := .ref (ad 18)) rfl dX1_stage_49 ?_
          refine lv_iload hx hb dX1_stage_52 (lv_at hl 2 rfl) ?_
          refine lv_aload_n hx hb dX1_stage_54 rfl (lv_at hl 4 rfl) ?_
          refine lv_iload hx hb dX1_stage_55 (lv_at hl 2 rfl) ?_
          refine lv_aload_n hx hb dX1_stage_57 rfl (lv_at hl 4 rfl) ?_
          refine mm_get S G 49 (by decide) q1316 rfl (v := .ref (ad 50)) rfl dX1_stage_58 ?_
          refine lv_iload hx hb dX1_stage_61 (lv_at hl 2 rfl) ?_
          refine mm_dald S G 49 2 (by decide) (n := 20) rfl rfl (by omega) (by decide) (v := dAD (sgN C t m d) 49 m) rfl dX1_stage_63 ?_
          refine lv_dload hx hb dX1_stage_64 (lv_at hl 1 rfl) ?_
          refine lv_dadd hx hb dX1_stage_66 (show vf_n64 (FP.dadd _ _) from sgV_n ht hQm) ?_
          refine mm_call (As := [.int (nI m), .double (FP.dadd (dAD (sgN C t m d) 49 m) (FP.dmul t (dAD (sgN C t m d) 56 m)))]) (rest := [.int (nI m), .ref (ad 18)]) S G (mt_X1_after l D dA ad C (sgN C t m d) m (FP.dadd (dAD (sgN C t m d) 49 m) (FP.dmul t (dAD (sgN C t m d) 56 m))) (by omega)) q1580 q1582 qs32 q1583 hd_X1_after ⟨Nat.le_of_ble_eq_true rfl, Nat.le_of_ble_eq_true rfl⟩ rfl hl.1 rfl (Nat.le_of_ble_eq_true rfl) dX1_stage_67 ⟨Nat.zero_le _, Nat.zero_le _⟩ (fun H locs G => ?_)
          refine W.eq (g2 := F0 mid 70 ls [.double (clD (FP.dadd (dAD (sgN C t m d) 49 m) (FP.dmul t (dAD (sgN C t m d) 56 m)))), .int (nI m), .ref (ad 18)]) rfl ?_
          refine mm_dast S G 17 rfl (by decide) (n := 20) rfl (by omega) dX1_stage_70 (fun H locs G => ?_)
          have G : mG D dA ad C (sg1 t m (sgN C t m d)) s0 H locs := G
          refine lv_aload_n hx hb dX1_stage_71 rfl (lv_at hl 4 rfl) ?_
          refine mm_get S G 18 (by decide) q1285 rfl (v := .ref (ad 19)) rfl dX1_stage_72 ?_
          refine lv_iload hx hb dX1_stage_75 (lv_at hl 2 rfl) ?_
          refine lv_aload_n hx hb dX1_stage_77 rfl (lv_at hl 4 rfl) ?_
          refine lv_iload hx hb dX1_stage_78 (lv_at hl 2 rfl) ?_
          refine lv_aload_n hx hb dX1_stage_80 rfl (lv_at hl 4 rfl) ?_
          refine mm_get S G 53 (by decide) q1320 rfl (v := .ref (ad 54)) rfl dX1_stage_81 ?_
          refine lv_iload hx hb dX1_stage_84 (lv_at hl 2 rfl) ?_
          refine mm_fald S G 53 3 (by decide) (n := 20) rfl rfl (by omega) (by decide) (v := dAF (sgN C t m d) 53 m) (congrFun (congrFun (sg1_F t m (sgN C t m d)) 53) m) dX1_stage_86 ?_
          refine lv_fload hx hb dX1_stage_87 (lv_at hl 0 rfl) ?_
          refine lv_fadd hx hb dX1_stage_89 (nF_add' (hQm.2.1 m) (nF_mulz ht.2.1 (hQm.2.2.2 m))) ?_
          refine mm_call (As := [.int (nI m), .float (FP.fadd (dAF (sgN C t m d) 53 m) (FP.fmul (FP.d2f t) (dAF (sgN C t m d) 57 m)))]) (rest := [.int (nI m), .ref (ad 19)]) S G (mt_X1_afterF l D dA ad C (sg1 t m (sgN C t m d)) m (FP.fadd (dAF (sgN C t m d) 53 m) (FP.fmul (FP.d2f t) (dAF (sgN C t m d) 57 m))) (by omega)) q1603 q1605 qs37 q1606 hd_X1_afterF ⟨Nat.le_of_ble_eq_true rfl, Nat.le_of_ble_eq_true rfl⟩ rfl hl.1 rfl (Nat.le_of_ble_eq_true rfl) dX1_stage_90 ⟨Nat.zero_le _, Nat.zero_le _⟩ (fun H locs G => ?_)
          refine W.eq (g2 := F0 mid 93 ls [.float (clF (FP.fadd (dAF (sgN C t m d) 53 m) (FP.fmul (FP.d2f t) (dAF (sgN C t m d) 57 m)))), .int (nI m), .ref (ad 19)]) rfl ?_
          refine mm_fast S G 18 rfl (by decide) (n := 20) rfl (by omega) dX1_stage_93 (fun H locs G => ?_)
          refine lv_iinc (v := nI (m + 1)) (lv' := [(4, .int (nI (m + 1))), (7, .float (FP.fmul (FP.d2f t) (dAF (sgN C t m d) 57 m))), (5, .double (FP.dmul t (dAD (sgN C t m d) 56 m))), (3, .float (FP.d2f t)), (0, .ref (ad 0)), (1, .double t)]) hx hb dX1_stage_94 hl (k := 2) rfl (nI_1 _) (by decide) rfl (fun ls hl => ?_)
          refine lv_goto (tgt := 6) hx hb dX1_stage_97 (by decide) ?_
          exact ih (m + 1) (by omega) (by omega) H locs ls (mG_d (by exact sgS_fin c_23 _) G) (lv_sub hl [0, 3, 4, 5] rfl) kk
  refine lv_dload_n hx hb dX1_stage_0 rfl (lv_at hl 1 rfl) ?_
  refine lv_d2f hx hb dX1_stage_1 (nF_d2f (bD_n ht.2.2)) ?_
  refine lv_fstore_n (lv' := [(3, .float (FP.d2f t)), (0, .ref (ad 0)), (1, .double t)]) hx hb dX1_stage_2 rfl hl (by decide) rfl (fun ls hl => ?_)
  refine lv_iconst (v := nI 0) hx hb dX1_stage_3 (by decide) ?_
  refine lv_istore (lv' := [(4, .int (nI 0)), (3, .float (FP.d2f t)), (0, .ref (ad 0)), (1, .double t)]) hx hb dX1_stage_4 hl (by decide) rfl (fun ls hl => ?_)
  refine L1 (cN C + 1) 0 (by omega) (by omega) _ _ ls (mG_d (by rfl) G) (lv_sub hl [0, 1, 2, 3] rfl) (fun H locs ls G hl => ?_)
  exact mm_vret S hr hlk G rfl (by rfl) dX1_stage_100
theorem mt_X1_keepRates (l : Launch) (D : va_G) (dA : Nat → ClassId) (ad : Nat → Nat) (C : tp_C) (d : md_T) (w : Nat) (hC : mOK C) (hw : w < 10) : mC l D dA ad yX1_keepRates cX1_keepRates 3 none 0 [.int (nI w)] C d none C (kpD C w d) := by
  refine mm_start (by decide) rfl (Nat.le_of_ble_eq_true rfl) ?_
  intro p0 e0 s0 mid bl0 me0 co0 ls S hr hlk G hl
  have hx := S.1; have hb := S.2.1; have hml := S.2.2.1; have hown := S.2.2.2.1; have hts := S.2.2.2.2
  have hl : lv_has ls 3 [(0, .ref (ad 0)), (1, .int (nI w))] := hl
  have hN := hC.n
  have L1 : ∀ (n_ m : Nat), m ≤ cN C → cN C < m + n_ → ∀ (H : Heap) (locs : List Loc) (ls : Array Slot), mG D dA ad C (kpI w d m) s0 H locs → lv_has ls 3 [(2, .int (nI m)), (0, .ref (ad 0)), (1, .int (nI w))] → (∀ (H : Heap) (locs : List Loc) (ls : Array Slot), mG D dA ad C (kpI w d (cN C)) s0 H locs → lv_has ls 3 [(2, .int (nI (cN C))), (0, .ref (ad 0)), (1, .int (nI w))] → W p0 l e0 (rm_ 0) s0 mid (Value.ref (ad 0) :: [.int (nI w)]).toArray bl0 me0 co0 H locs 0 0 (MQ bl0 (mQ D dA ad none C (kpD C w d)) (Value.ref (ad 0) :: [.int (nI w)]).toArray s0 0 0 (mA ad)) (F0 mid 104 ls [])) → W p0 l e0 (rm_ 0) s0 mid (Value.ref (ad 0) :: [.int (nI w)]).toArray bl0 me0 co0 H locs 0 0 (MQ bl0 (mQ D dA ad none C (kpD C w d)) (Value.ref (ad 0) :: [.int (nI w)]).toArray s0 0 0 (mA ad)) (F0 mid 2 ls []) := by
    intro n_
    induction n_ with
    | zero => intro m h1_ h2_; exact absurd h2_ (by omega)
    | succ n_ ih =>
      intro m h1_ h2_ H locs ls G hl kk
      refine lv_iload_n hx hb dX1_keepRates_2 rfl (lv_at hl 0 rfl) ?_
      refine lv_aload_n hx hb dX1_keepRates_3 rfl (lv_at hl 1 rfl) ?_
      refine mm_get S G 0 (by decide) q1267 rfl (v := .int (nI (cN C))) rfl dX1_keepRates_4 ?_
      refine nn_cge (tgt := 104) hx hb (by omega) (by omega) dX1_keepRates_7 (by decide) (fun c_7 => ?_) (fun c_7 => ?_)
      · have hiN : m = cN C := by omega
        subst hiN
        exact kk H locs ls G (lv_sub hl [0, 1, 2] rfl)
      · refine lv_iload_n hx hb dX1_keepRates_10 rfl (lv_at hl 2 rfl) ?_
        refine lv_iconst (v := nI 1) hx hb dX1_keepRates_11 (by decide) ?_
        refine nn_cne (tgt := 42) hx hb (by omega) (by omega) dX1_keepRates_12 (by decide) (fun c_12 => ?_) (fun c_12 => ?_)
        · refine lv_iload_n hx hb dX1_keepRates_42 rfl (lv_at hl 2 rfl) ?_
          refine lv_iconst (v := nI 2) hx hb dX1_keepRates_43 (by decide) ?_
          refine nn_cne (tgt := 74) hx hb (by omega) (by omega) dX1_keepRates_44 (by decide) (fun c_44 => ?_) (fun c_44 => ?_)
          · refine lv_aload_n hx hb dX1_keepRates_74 rfl (lv_at hl 1 rfl) ?_
            refine mm_get S G 48 (by decide) q1315 rfl (v := .ref (ad 49)) rfl dX1_keepRates_75 ?_
            refine lv_iload_n hx hb dX1_keepRates_78 rfl (lv_at hl 0 rfl) ?_
            refine lv_aload_n hx hb dX1_keepRates_79 rfl (lv_at hl 1 rfl) ?_
            refine mm_get S G 56 (by decide) q1323 rfl (v := .ref (ad 57)) rfl dX1_keepRates_80 ?_
            refine lv_iload_n hx hb dX1_keepRates_83 rfl (lv_at hl 0 rfl) ?_
            refine mm_dald S G 56 2 (by decide) (n := 20) rfl rfl (by omega) (by decide) (v := dAD d 56 m) (congrFun (kpI_56 w d m) m) dX1_keepRates_84 ?_
            refine mm_dast S G 48 rfl (by decide) (n := 20) rfl (by omega) dX1_keepRates_85 (fun H locs G => ?_)
            refine lv_aload_n hx hb dX1_keepRates_86 rfl (lv_at hl 1 rfl) ?_
            refine mm_get S G 52 (by decide) q1319 rfl (v := .ref (ad 53)) rfl dX1_keepRates_87 ?_
            refine lv_iload_n hx hb dX1_keepRates_90 rfl (lv_at hl 0 rfl) ?_
            refine lv_aload_n hx hb dX1_keepRates_91 rfl (lv_at hl 1 rfl) ?_
            refine mm_get S G 57 (by decide) q1324 rfl (v := .ref (ad 58)) rfl dX1_keepRates_92 ?_
            refine lv_iload_n hx hb dX1_keepRates_95 rfl (lv_at hl 0 rfl) ?_
            refine mm_fald S G 57 3 (by decide) (n := 20) rfl rfl (by omega) (by decide) (v := dAF d 57 m) (by show dAF (kpI w d m) 57 m = _; rw [kpI_57]) dX1_keepRates_96 ?_
            refine mm_fast S G 52 rfl (by decide) (n := 20) rfl (by omega) dX1_keepRates_97 (fun H locs G => ?_)
            refine lv_iinc (v := nI (m + 1)) (lv' := [(2, .int (nI (m + 1))), (0, .ref (ad 0)), (1, .int (nI w))]) hx hb dX1_keepRates_98 hl (k := 0) rfl (nI_1 _) (by decide) rfl (fun ls hl => ?_)
            refine lv_goto (tgt := 2) hx hb dX1_keepRates_101 (by decide) ?_
            exact ih (m + 1) (by omega) (by omega) H locs ls (mG_d (by exact kpI_3 d m c_12 c_44) G) (lv_sub hl [0, 1, 2] rfl) kk
          · refine lv_aload_n hx hb dX1_keepRates_47 rfl (lv_at hl 1 rfl) ?_
            refine mm_get S G 47 (by decide) q1314 rfl (v := .ref (ad 48)) rfl dX1_keepRates_48 ?_
            refine lv_iload_n hx hb dX1_keepRates_51 rfl (lv_at hl 0 rfl) ?_
            refine lv_aload_n hx hb dX1_keepRates_52 rfl (lv_at hl 1 rfl) ?_
            refine mm_get S G 56 (by decide) q1323 rfl (v := .ref (ad 57)) rfl dX1_keepRates_53 ?_
            refine lv_iload_n hx hb dX1_keepRates_56 rfl (lv_at hl 0 rfl) ?_
            refine mm_dald S G 56 2 (by decide) (n := 20) rfl rfl (by omega) (by decide) (v := dAD d 56 m) (congrFun (kpI_56 w d m) m) dX1_keepRates_57 ?_
            refine mm_dast S G 47 rfl (by decide) (n := 20) rfl (by omega) dX1_keepRates_58 (fun H locs G => ?_)
            refine lv_aload_n hx hb dX1_keepRates_59 rfl (lv_at hl 1 rfl) ?_
            refine mm_get S G 51 (by decide) q1318 rfl (v := .ref (ad 52)) rfl dX1_keepRates_60 ?_
            refine lv_iload_n hx hb dX1_keepRates_63 rfl (lv_at hl 0 rfl) ?_
            refine lv_aload_n hx hb dX1_keepRates_64 rfl (lv_at hl 1 rfl) ?_
            refine mm_get S G 57 (by decide) q1324 rfl (v := .ref (ad 58)) rfl dX1_keepRates_65 ?_
            refine lv_iload_n hx hb dX1_keepRates_68 rfl (lv_at hl 0 rfl) ?_
            refine mm_fald S G 57 3 (by decide) (n := 20) rfl rfl (by omega) (by decide) (v := dAF d 57 m) (by show dAF (kpI w d m) 57 m = _; rw [kpI_57]) dX1_keepRates_69 ?_
            refine mm_fast S G 51 rfl (by decide) (n := 20) rfl (by omega) dX1_keepRates_70 (fun H locs G => ?_)
            refine lv_goto (tgt := 98) hx hb dX1_keepRates_71 (by decide) ?_
            refine lv_iinc (v := nI (m + 1)) (lv' := [(2, .int (nI (m + 1))), (0, .ref (ad 0)), (1, .int (nI w))]) hx hb dX1_keepRates_98 hl (k := 0) rfl (nI_1 _) (by decide) rfl (fun ls hl => ?_)
            refine lv_goto (tgt := 2) hx hb dX1_keepRates_101 (by decide) ?_
            exact ih (m + 1) (by omega) (by omega) H locs ls (mG_d (by exact kpI_2 d m c_12 c_44) G) (lv_sub hl [0, 1, 2] rfl) kk
        · refine lv_aload_n hx hb dX1_keepRates_15 rfl (lv_at hl 1 rfl) ?_
          refine mm_get S G 46 (by decide) q1313 rfl (v := .ref (ad 47)) rfl dX1_keepRates_16 ?_
          refine lv_iload_n hx hb dX1_keepRates_19 rfl (lv_at hl 0 rfl) ?_
          refine lv_aload_n hx hb dX1_keepRates_20 rfl (lv_at hl 1 rfl) ?_
          refine mm_get S G 56 (by decide) q1323 rfl (v := .ref (ad 57)) rfl dX1_keepRates_21 ?_
          refine lv_iload_n hx hb dX1_keepRates_24 rfl (lv_at hl 0 rfl) ?_
          refine mm_dald S G 56 2 (by decide) (n := 20) rfl rfl (by omega) (by decide) (v := dAD d 56 m) (congrFun (kpI_56 w d m) m) dX1_keepRates_25 ?_
          refine mm_dast S G 46 rfl (by decide) (n := 20) rfl (by omega) dX1_keepRates_26 (fun H locs G => ?_)
          refine lv_aload_n hx hb dX1_keepRates_27 rfl (lv_at hl 1 rfl) ?_
          refine mm_get S G 50 (by decide) q1317 rfl (v := .ref (ad 51)) rfl dX1_keepRates_28 ?_
          refine lv_iload_n hx hb dX1_keepRates_31 rfl (lv_at hl 0 rfl) ?_
          refine lv_aload_n hx hb dX1_keepRates_32 rfl (lv_at hl 1 rfl) ?_
          refine mm_get S G 57 (by decide) q1324 rfl (v := .ref (ad 58)) rfl dX1_keepRates_33 ?_
          refine lv_iload_n hx hb dX1_keepRates_36 rfl (lv_at hl 0 rfl) ?_
          refine mm_fald S G 57 3 (by decide) (n := 20) rfl rfl (by omega) (by decide) (v := dAF d 57 m) (by show dAF (kpI w d m) 57 m = _; rw [kpI_57]) dX1_keepRates_37 ?_
          refine mm_fast S G 50 rfl (by decide) (n := 20) rfl (by omega) dX1_keepRates_38 (fun H locs G => ?_)
          refine lv_goto (tgt := 98) hx hb dX1_keepRates_39 (by decide) ?_
          refine lv_iinc (v := nI (m + 1)) (lv' := [(2, .int (nI (m + 1))), (0, .ref (ad 0)), (1, .int (nI w))]) hx hb dX1_keepRates_98 hl (k := 0) rfl (nI_1 _) (by decide) rfl (fun ls hl => ?_)
          refine lv_goto (tgt := 2) hx hb dX1_keepRates_101 (by decide) ?_
          exact ih (m + 1) (by omega) (by omega) H locs ls (mG_d (by exact kpI_1 d m c_12) G) (lv_sub hl [0, 1, 2] rfl) kk
  refine lv_iconst (v := nI 0) hx hb dX1_keepRates_0 (by decide) ?_
  refine lv_istore_n (lv' := [(2, .int (nI 0)), (0, .ref (ad 0)), (1, .int (nI w))]) hx hb dX1_keepRates_1 rfl hl (by decide) rfl (fun ls hl => ?_)
  refine L1 (cN C + 1) 0 (by omega) (by omega) _ _ ls (mG_d (by exact (kpI_0 w d).symm) G) (lv_sub hl [0, 1, 2] rfl) (fun H locs ls G hl => ?_)
  exact mm_vret S hr hlk G rfl (by rfl) dX1_keepRates_104
