set_option maxRecDepth 100000
theorem dX4_sideOf_5 : decode cX4_sideOf 5 = .ok (.goto 26, 3) := by decide +kernel
theorem dX4_sideOf_8 : decode cX4_sideOf 8 = .ok (.iload_n 0, 1) := by decide +kernel
theorem dX4_sideOf_9 : decode cX4_sideOf 9 = .ok (.iconst 1, 1) := by decide +kernel
theorem dX4_sideOf_10 : decode cX4_sideOf 10 = .ok (.if_icmp .ne 7, 3) := by decide +kernel
theorem dX4_sideOf_13 : decode cX4_sideOf 13 = .ok (.iload_n 2, 1) := by decide +kernel
theorem dX4_sideOf_14 : decode cX4_sideOf 14 = .ok (.goto 17, 3) := by decide +kernel
theorem dX4_sideOf_17 : decode cX4_sideOf 17 = .ok (.iload_n 0, 1) := by decide +kernel
theorem dX4_sideOf_18 : decode cX4_sideOf 18 = .ok (.iconst 2, 1) := by decide +kernel
theorem dX4_sideOf_19 : decode cX4_sideOf 19 = .ok (.if_icmp .ne 9, 3) := by decide +kernel
theorem dX4_sideOf_22 : decode cX4_sideOf 22 = .ok (.iload_n 1, 1) := by decide +kernel
theorem dX4_sideOf_23 : decode cX4_sideOf 23 = .ok (.iconst 1, 1) := by decide +kernel
theorem dX4_sideOf_24 : decode cX4_sideOf 24 = .ok (.ixor, 1) := by decide +kernel
theorem dX4_sideOf_25 : decode cX4_sideOf 25 = .ok (.goto 6, 3) := by decide +kernel
theorem dX4_sideOf_28 : decode cX4_sideOf 28 = .ok (.iload_n 2, 1) := by decide +kernel
theorem dX4_sideOf_29 : decode cX4_sideOf 29 = .ok (.iconst 1, 1) := by decide +kernel
theorem dX4_sideOf_30 : decode cX4_sideOf 30 = .ok (.ixor, 1) := by decide +kernel
theorem dX4_sideOf_31 : decode cX4_sideOf 31 = .ok (.ireturn, 1) := by decide +kernel
theorem dX4_sideX_0 : decode cX4_sideX 0 = .ok (.iload_n 0, 1) := by decide +kernel
theorem dX4_sideX_1 : decode cX4_sideX 1 = .ok (.ifCond .ne 7, 3) := by decide +kernel
theorem dX4_sideX_4 : decode cX4_sideX 4 = .ok (.iconst 1, 1) := by decide +kernel
theorem dX4_sideX_5 : decode cX4_sideX 5 = .ok (.goto 13, 3) := by decide +kernel
theorem dX4_sideX_8 : decode cX4_sideX 8 = .ok (.iload_n 0, 1) := by decide +kernel
theorem dX4_sideX_9 : decode cX4_sideX 9 = .ok (.iconst 2, 1) := by decide +kernel
theorem dX4_sideX_10 : decode cX4_sideX 10 = .ok (.if_icmp .ne 7, 3) := by decide +kernel
theorem dX4_sideX_13 : decode cX4_sideX 13 = .ok (.iconst (-1), 1) := by decide +kernel
theorem dX4_sideX_14 : decode cX4_sideX 14 = .ok (.goto 4, 3) := by decide +kernel
theorem dX4_sideX_17 : decode cX4_sideX 17 = .ok (.iconst 0, 1) := by decide +kernel
theorem dX4_sideX_18 : decode cX4_sideX 18 = .ok (.ireturn, 1) := by decide +kernel
theorem dX4_sideY_0 : decode cX4_sideY 0 = .ok (.iload_n 0, 1) := by decide +kernel
theorem dX4_sideY_1 : decode cX4_sideY 1 = .ok (.iconst 1, 1) := by decide +kernel
theorem dX4_sideY_2 : decode cX4_sideY 2 = .ok (.if_icmp .ne 7, 3) := by decide +kernel
theorem dX4_sideY_5 : decode cX4_sideY 5 = .ok (.iconst 1, 1) := by decide +kernel
theorem dX4_sideY_6 : decode cX4_sideY 6 = .ok (.goto 13, 3) := by decide +kernel
theorem dX4_sideY_9 : decode cX4_sideY 9 = .ok (.iload_n 0, 1) := by decide +kernel
theorem dX4_sideY_10 : decode cX4_sideY 10 = .ok (.iconst 3, 1) := by decide +kernel
theorem dX4_sideY_11 : decode cX4_sideY 11 = .ok (.if_icmp .ne 7, 3) := by decide +kernel
theorem dX4_sideY_14 : decode cX4_sideY 14 = .ok (.iconst (-1), 1) := by decide +kernel
theorem dX4_sideY_15 : decode cX4_sideY 15 = .ok (.goto 4, 3) := by decide +kernel
theorem dX4_sideY_18 : decode cX4_sideY 18 = .ok (.iconst 0, 1) := by decide +kernel
theorem dX4_sideY_19 : decode cX4_sideY 19 = .ok (.ireturn, 1) := by decide +kernel
theorem dX4_nextRight_0 : decode cX4_nextRight 0 = .ok (.aload_n 0, 1) := by decide +kernel
theorem dX4_nextRight_1 : decode cX4_nextRight 1 = .ok (.iload_n 1, 1) := by decide +kernel
theorem dX4_nextRight_2 : decode cX4_nextRight 2 = .ok (.iload_n 2, 1) := by decide +kernel
theorem dX4_nextRight_3 : decode cX4_nextRight 3 = .ok (.iload_n 3, 1) := by decide +kernel
theorem dX4_nextRight_4 : decode cX4_nextRight 4 = .ok (.iload 4, 2) := by decide +kernel
theorem dX4_nextRight_6 : decode cX4_nextRight 6 = .ok (.invokestatic 176, 3) := by decide +kernel
theorem dX4_nextRight_9 : decode cX4_nextRight 9 = .ok (.invokevirtual 179, 3) := by decide +kernel
theorem dX4_nextRight_12 : decode cX4_nextRight 12 = .ok (.istore 5, 2) := by decide +kernel
theorem dX4_nextRight_14 : decode cX4_nextRight 14 = .ok (.iload_n 2, 1) := by decide +kernel
theorem dX4_nextRight_15 : decode cX4_nextRight 15 = .ok (.ifCond .ne 8, 3) := by decide +kernel
theorem dX4_nextRight_18 : decode cX4_nextRight 18 = .ok (.iload 5, 2) := by decide +kernel
theorem dX4_nextRight_20 : decode cX4_nextRight 20 = .ok (.goto 16, 3) := by decide +kernel
theorem dX4_nextRight_23 : decode cX4_nextRight 23 = .ok (.iload_n 2, 1) := by decide +kernel
theorem dX4_nextRight_24 : decode cX4_nextRight 24 = .ok (.iconst 2, 1) := by decide +kernel
theorem dX4_nextRight_25 : decode cX4_nextRight 25 = .ok (.if_icmp .ne 10, 3) := by decide +kernel
theorem dX4_nextRight_28 : decode cX4_nextRight 28 = .ok (.iload 5, 2) := by decide +kernel
theorem dX4_nextRight_30 : decode cX4_nextRight 30 = .ok (.iconst 1, 1) := by decide +kernel
theorem dX4_nextRight_31 : decode cX4_nextRight 31 = .ok (.ixor, 1) := by decide +kernel
theorem dX4_nextRight_32 : decode cX4_nextRight 32 = .ok (.goto 4, 3) := by decide +kernel
theorem dX4_nextRight_35 : decode cX4_nextRight 35 = .ok (.iload_n 3, 1) := by decide +kernel
theorem dX4_nextRight_36 : decode cX4_nextRight 36 = .ok (.ireturn, 1) := by decide +kernel
theorem dX4_lead_0 : decode cX4_lead 0 = .ok (.aload_n 0, 1) := by decide +kernel
theorem dX4_lead_1 : decode cX4_lead 1 = .ok (.getfield 77, 3) := by decide +kernel
theorem dX4_lead_4 : decode cX4_lead 4 = .ok (.bipush 6, 2) := by decide +kernel
theorem dX4_lead_6 : decode cX4_lead 6 = .ok (.iload_n 1, 1) := by decide +kernel
theorem dX4_lead_7 : decode cX4_lead 7 = .ok (.imul, 1) := by decide +kernel
theorem dX4_lead_8 : decode cX4_lead 8 = .ok (.iload_n 2, 1) := by decide +kernel
theorem dX4_lead_9 : decode cX4_lead 9 = .ok (.iadd, 1) := by decide +kernel
theorem dX4_lead_10 : decode cX4_lead 10 = .ok (.iaload, 1) := by decide +kernel
theorem dX4_lead_11 : decode cX4_lead 11 = .ok (.ireturn, 1) := by decide +kernel
theorem dX4_nextUp_0 : decode cX4_nextUp 0 = .ok (.aload_n 0, 1) := by decide +kernel
theorem dX4_nextUp_1 : decode cX4_nextUp 1 = .ok (.iload_n 1, 1) := by decide +kernel
theorem dX4_nextUp_2 : decode cX4_nextUp 2 = .ok (.iload_n 2, 1) := by decide +kernel
theorem dX4_nextUp_3 : decode cX4_nextUp 3 = .ok (.iload_n 3, 1) := by decide +kernel
theorem dX4_nextUp_4 : decode cX4_nextUp 4 = .ok (.iload 4, 2) := by decide +kernel
theorem dX4_nextUp_6 : decode cX4_nextUp 6 = .ok (.invokestatic 176, 3) := by decide +kernel
theorem dX4_nextUp_9 : decode cX4_nextUp 9 = .ok (.invokevirtual 179, 3) := by decide +kernel
theorem dX4_nextUp_12 : decode cX4_nextUp 12 = .ok (.istore 5, 2) := by decide +kernel
theorem dX4_nextUp_14 : decode cX4_nextUp 14 = .ok (.iload_n 2, 1) := by decide +kernel
theorem dX4_nextUp_15 : decode cX4_nextUp 15 = .ok (.iconst 1, 1) := by decide +kernel
theorem dX4_nextUp_16 : decode cX4_nextUp 16 = .ok (.if_icmp .ne 8, 3) := by decide +kernel
theorem dX4_nextUp_19 : decode cX4_nextUp 19 = .ok (.iload 5, 2) := by decide +kernel
theorem dX4_nextUp_21 : decode cX4_nextUp 21 = .ok (.goto 17, 3) := by decide +kernel
theorem dX4_nextUp_24 : decode cX4_nextUp 24 = .ok (.iload_n 2, 1) := by decide +kernel
theorem dX4_nextUp_25 : decode cX4_nextUp 25 = .ok (.iconst 3, 1) := by decide +kernel
theorem dX4_nextUp_26 : decode cX4_nextUp 26 = .ok (.if_icmp .ne 10, 3) := by decide +kernel
theorem dX4_nextUp_29 : decode cX4_nextUp 29 = .ok (.iload 5, 2) := by decide +kernel
theorem dX4_nextUp_31 : decode cX4_nextUp 31 = .ok (.iconst 1, 1) := by decide +kernel
theorem dX4_nextUp_32 : decode cX4_nextUp 32 = .ok (.ixor, 1) := by decide +kernel
theorem dX4_nextUp_33 : decode cX4_nextUp 33 = .ok (.goto 5, 3) := by decide +kernel
theorem dX4_nextUp_36 : decode cX4_nextUp 36 = .ok (.iload 4, 2) := by decide +kernel
theorem dX4_nextUp_38 : decode cX4_nextUp 38 = .ok (.ireturn, 1) := by decide +kernel
theorem dX4_paper_0 : decode cX4_paper 0 = .ok (.aload_n 0, 1) := by decide +kernel
theorem dX4_paper_1 : decode cX4_paper 1 = .ok (.iload_n 1, 1) := by decide +kernel
theorem dX4_paper_2 : decode cX4_paper 2 = .ok (.invokevirtual 185, 3) := by decide +kernel
theorem dX4_paper_5 : decode cX4_paper 5 = .ok (.ifCond .eq 21, 3) := by decide +kernel
theorem dX4_paper_8 : decode cX4_paper 8 = .ok (.aload_n 0, 1) := by decide +kernel
theorem dX4_paper_9 : decode cX4_paper 9 = .ok (.getfield 25, 3) := by decide +kernel
theorem dX4_paper_12 : decode cX4_paper 12 = .ok (.iload_n 1, 1) := by decide +kernel
theorem dX4_paper_13 : decode cX4_paper 13 = .ok (.baload, 1) := by decide +kernel
theorem dX4_paper_14 : decode cX4_paper 14 = .ok (.ifCond .eq 12, 3) := by decide +kernel
theorem dX4_paper_17 : decode cX4_paper 17 = .ok (.iload_n 2, 1) := by decide +kernel
theorem dX4_paper_18 : decode cX4_paper 18 = .ok (.ifCond .lt 8, 3) := by decide +kernel
theorem dX4_paper_21 : decode cX4_paper 21 = .ok (.iload_n 2, 1) := by decide +kernel
theorem dX4_paper_22 : decode cX4_paper 22 = .ok (.iconst 3, 1) := by decide +kernel
theorem dX4_paper_23 : decode cX4_paper 23 = .ok (.if_icmp .le 7, 3) := by decide +kernel
theorem dX4_paper_26 : decode cX4_paper 26 = .ok (.sipush (-1000), 3) := by decide +kernel
theorem dX4_paper_29 : decode cX4_paper 29 = .ok (.ireturn, 1) := by decide +kernel
theorem dX4_paper_30 : decode cX4_paper 30 = .ok (.iload_n 2, 1) := by decide +kernel
theorem dX4_paper_31 : decode cX4_paper 31 = .ok (.ifCond .ne 12, 3) := by decide +kernel
theorem dX4_paper_34 : decode cX4_paper 34 = .ok (.aload_n 0, 1) := by decide +kernel
theorem dX4_paper_35 : decode cX4_paper 35 = .ok (.getfield 29, 3) := by decide +kernel
theorem dX4_paper_38 : decode cX4_paper 38 = .ok (.iload_n 1, 1) := by decide +kernel
theorem dX4_paper_39 : decode cX4_paper 39 = .ok (.iaload, 1) := by decide +kernel
theorem dX4_paper_40 : decode cX4_paper 40 = .ok (.goto 37, 3) := by decide +kernel
theorem dX4_paper_43 : decode cX4_paper 43 = .ok (.iload_n 2, 1) := by decide +kernel
theorem dX4_paper_44 : decode cX4_paper 44 = .ok (.iconst 1, 1) := by decide +kernel
theorem dX4_paper_45 : decode cX4_paper 45 = .ok (.if_icmp .ne 12, 3) := by decide +kernel
theorem dX4_paper_48 : decode cX4_paper 48 = .ok (.aload_n 0, 1) := by decide +kernel
theorem dX4_paper_49 : decode cX4_paper 49 = .ok (.getfield 32, 3) := by decide +kernel
theorem dX4_paper_52 : decode cX4_paper 52 = .ok (.iload_n 1, 1) := by decide +kernel
theorem dX4_paper_53 : decode cX4_paper 53 = .ok (.iaload, 1) := by decide +kernel
theorem dX4_paper_54 : decode cX4_paper 54 = .ok (.goto 23, 3) := by decide +kernel
theorem dX4_paper_57 : decode cX4_paper 57 = .ok (.iload_n 2, 1) := by decide +kernel
theorem dX4_paper_58 : decode cX4_paper 58 = .ok (.iconst 2, 1) := by decide +kernel
theorem dX4_paper_59 : decode cX4_paper 59 = .ok (.if_icmp .ne 12, 3) := by decide +kernel
theorem dX4_paper_62 : decode cX4_paper 62 = .ok (.aload_n 0, 1) := by decide +kernel
theorem dX4_paper_63 : decode cX4_paper 63 = .ok (.getfield 35, 3) := by decide +kernel
theorem dX4_paper_66 : decode cX4_paper 66 = .ok (.iload_n 1, 1) := by decide +kernel
theorem dX4_paper_67 : decode cX4_paper 67 = .ok (.iaload, 1) := by decide +kernel
theorem dX4_paper_68 : decode cX4_paper 68 = .ok (.goto 9, 3) := by decide +kernel
theorem dX4_paper_71 : decode cX4_paper 71 = .ok (.aload_n 0, 1) := by decide +kernel
theorem dX4_paper_72 : decode cX4_paper 72 = .ok (.getfield 38, 3) := by decide +kernel
theorem dX4_paper_75 : decode cX4_paper 75 = .ok (.iload_n 1, 1) := by decide +kernel
theorem dX4_paper_76 : decode cX4_paper 76 = .ok (.iaload, 1) := by decide +kernel
theorem dX4_paper_77 : decode cX4_paper 77 = .ok (.ireturn, 1) := by decide +kernel
theorem dX4_run_0 : decode cX4_run 0 = .ok (.iload_n 1, 1) := by decide +kernel
theorem dX4_run_1 : decode cX4_run 1 = .ok (.iconst 1, 1) := by decide +kernel
theorem dX4_run_2 : decode cX4_run 2 = .ok (.if_icmp .lt 10, 3) := by decide +kernel
theorem dX4_run_5 : decode cX4_run 5 = .ok (.iload_n 1, 1) := by decide +kernel
theorem dX4_run_6 : decode cX4_run 6 = .ok (.sipush 500, 3) := by decide +kernel
theorem dX4_run_9 : decode cX4_run 9 = .ok (.if_icmp .le 5, 3) := by decide +kernel
theorem dX4_run_12 : decode cX4_run 12 = .ok (.iconst (-1), 1) := by decide +kernel
theorem dX4_run_13 : decode cX4_run 13 = .ok (.ireturn, 1) := by decide +kernel
theorem dX4_run_14 : decode cX4_run 14 = .ok (.aload_n 0, 1) := by decide +kernel
theorem dX4_run_15 : decode cX4_run 15 = .ok (.getfield 118, 3) := by decide +kernel
theorem dX4_run_18 : decode cX4_run 18 = .ok (.ifCond .ne 6, 3) := by decide +kernel
theorem dX4_run_21 : decode cX4_run 21 = .ok (.bipush (-2), 2) := by decide +kernel
theorem dX4_run_23 : decode cX4_run 23 = .ok (.ireturn, 1) := by decide +kernel
theorem dX4_run_24 : decode cX4_run 24 = .ok (.iconst 0, 1) := by decide +kernel
theorem dX4_run_25 : decode cX4_run 25 = .ok (.istore_n 2, 1) := by decide +kernel
theorem dX4_run_26 : decode cX4_run 26 = .ok (.aload_n 0, 1) := by decide +kernel
theorem dX4_run_27 : decode cX4_run 27 = .ok (.getfield 140, 3) := by decide +kernel
theorem dX4_run_30 : decode cX4_run 30 = .ok (.ifCond .ne 331, 3) := by decide +kernel
theorem dX4_run_33 : decode cX4_run 33 = .ok (.aload_n 0, 1) := by decide +kernel
theorem dX4_run_34 : decode cX4_run 34 = .ok (.getfield 147, 3) := by decide +kernel
theorem dX4_run_37 : decode cX4_run 37 = .ok (.iconst 4, 1) := by decide +kernel
theorem dX4_run_38 : decode cX4_run 38 = .ok (.aload_n 0, 1) := by decide +kernel
theorem dX4_run_39 : decode cX4_run 39 = .ok (.getfield 144, 3) := by decide +kernel
theorem dX4_run_42 : decode cX4_run 42 = .ok (.imul, 1) := by decide +kernel
theorem dX4_run_43 : decode cX4_run 43 = .ok (.if_icmp .ne 77, 3) := by decide +kernel
theorem dX4_run_46 : decode cX4_run 46 = .ok (.aload_n 0, 1) := by decide +kernel
theorem dX4_run_47 : decode cX4_run 47 = .ok (.getfield 144, 3) := by decide +kernel
theorem dX4_run_50 : decode cX4_run 50 = .ok (.aload_n 0, 1) := by decide +kernel
theorem dX4_run_51 : decode cX4_run 51 = .ok (.getfield 115, 3) := by decide +kernel
theorem dX4_run_54 : decode cX4_run 54 = .ok (.if_icmp .ne 7, 3) := by decide +kernel
theorem dX4_run_57 : decode cX4_run 57 = .ok (.aload_n 0, 1) := by decide +kernel
theorem dX4_run_58 : decode cX4_run 58 = .ok (.invokevirtual 221, 3) := by decide +kernel
theorem dX4_run_61 : decode cX4_run 61 = .ok (.aload_n 0, 1) := by decide +kernel
theorem dX4_run_62 : decode cX4_run 62 = .ok (.getfield 144, 3) := by decide +kernel
theorem dX4_run_65 : decode cX4_run 65 = .ok (.iconst 1, 1) := by decide +kernel
theorem dX4_run_66 : decode cX4_run 66 = .ok (.if_icmp .ne 11, 3) := by decide +kernel
theorem dX4_run_69 : decode cX4_run 69 = .ok (.aload_n 0, 1) := by decide +kernel
theorem dX4_run_70 : decode cX4_run 70 = .ok (.iconst 1, 1) := by decide +kernel
theorem dX4_run_71 : decode cX4_run 71 = .ok (.putfield 140, 3) := by decide +kernel
theorem dX4_run_74 : decode cX4_run 74 = .ok (.goto (-48), 3) := by decide +kernel
theorem dX4_run_77 : decode cX4_run 77 = .ok (.aload_n 0, 1) := by decide +kernel
theorem dX4_run_78 : decode cX4_run 78 = .ok (.dup, 1) := by decide +kernel
theorem dX4_run_79 : decode cX4_run 79 = .ok (.getfield 144, 3) := by decide +kernel
theorem dX4_run_82 : decode cX4_run 82 = .ok (.iconst 1, 1) := by decide +kernel
theorem dX4_run_83 : decode cX4_run 83 = .ok (.isub, 1) := by decide +kernel
theorem dX4_run_84 : decode cX4_run 84 = .ok (.putfield 144, 3) := by decide +kernel
theorem dX4_run_87 : decode cX4_run 87 = .ok (.aload_n 0, 1) := by decide +kernel
theorem dX4_run_88 : decode cX4_run 88 = .ok (.getfield 47, 3) := by decide +kernel
theorem dX4_run_91 : decode cX4_run 91 = .ok (.aload_n 0, 1) := by decide +kernel
theorem dX4_run_92 : decode cX4_run 92 = .ok (.getfield 41, 3) := by decide +kernel
theorem dX4_run_95 : decode cX4_run 95 = .ok (.aload_n 0, 1) := by decide +kernel
theorem dX4_run_96 : decode cX4_run 96 = .ok (.getfield 144, 3) := by decide +kernel
theorem dX4_run_99 : decode cX4_run 99 = .ok (.iaload, 1) := by decide +kernel
theorem dX4_run_100 : decode cX4_run 100 = .ok (.iconst 0, 1) := by decide +kernel
theorem dX4_run_101 : decode cX4_run 101 = .ok (.bastore, 1) := by decide +kernel
theorem dX4_run_102 : decode cX4_run 102 = .ok (.aload_n 0, 1) := by decide +kernel
theorem dX4_run_103 : decode cX4_run 103 = .ok (.aload_n 0, 1) := by decide +kernel
theorem dX4_run_104 : decode cX4_run 104 = .ok (.getfield 44, 3) := by decide +kernel
theorem dX4_run_107 : decode cX4_run 107 = .ok (.aload_n 0, 1) := by decide +kernel
theorem dX4_run_108 : decode cX4_run 108 = .ok (.getfield 144, 3) := by decide +kernel
theorem dX4_run_111 : decode cX4_run 111 = .ok (.iaload, 1) := by decide +kernel
theorem dX4_run_112 : decode cX4_run 112 = .ok (.iconst 1, 1) := by decide +kernel
theorem dX4_run_113 : decode cX4_run 113 = .ok (.iadd, 1) := by decide +kernel
theorem dX4_run_114 : decode cX4_run 114 = .ok (.putfield 147, 3) := by decide +kernel
theorem dX4_run_117 : decode cX4_run 117 = .ok (.goto (-91), 3) := by decide +kernel
theorem dX4_run_120 : decode cX4_run 120 = .ok (.aload_n 0, 1) := by decide +kernel
theorem dX4_run_121 : decode cX4_run 121 = .ok (.getfield 41, 3) := by decide +kernel
theorem dX4_run_124 : decode cX4_run 124 = .ok (.aload_n 0, 1) := by decide +kernel
theorem dX4_run_125 : decode cX4_run 125 = .ok (.getfield 147, 3) := by decide +kernel
theorem dX4_run_128 : decode cX4_run 128 = .ok (.iconst 4, 1) := by decide +kernel
theorem dX4_run_129 : decode cX4_run 129 = .ok (.idiv, 1) := by decide +kernel
theorem dX4_run_130 : decode cX4_run 130 = .ok (.iaload, 1) := by decide +kernel
theorem dX4_run_131 : decode cX4_run 131 = .ok (.istore_n 3, 1) := by decide +kernel
theorem dX4_run_132 : decode cX4_run 132 = .ok (.aload_n 0, 1) := by decide +kernel
theorem dX4_run_133 : decode cX4_run 133 = .ok (.getfield 147, 3) := by decide +kernel
theorem dX4_run_136 : decode cX4_run 136 = .ok (.iconst 4, 1) := by decide +kernel
theorem dX4_run_137 : decode cX4_run 137 = .ok (.irem, 1) := by decide +kernel
theorem dX4_run_138 : decode cX4_run 138 = .ok (.istore 4, 2) := by decide +kernel
theorem dX4_run_140 : decode cX4_run 140 = .ok (.aload_n 0, 1) := by decide +kernel
theorem dX4_run_141 : decode cX4_run 141 = .ok (.iload_n 3, 1) := by decide +kernel
theorem dX4_run_142 : decode cX4_run 142 = .ok (.iload 4, 2) := by decide +kernel
theorem dX4_run_144 : decode cX4_run 144 = .ok (.aload_n 0, 1) := by decide +kernel
theorem dX4_run_145 : decode cX4_run 145 = .ok (.getfield 56, 3) := by decide +kernel
theorem dX4_run_148 : decode cX4_run 148 = .ok (.iload_n 3, 1) := by decide +kernel
theorem dX4_run_149 : decode cX4_run 149 = .ok (.iaload, 1) := by decide +kernel
theorem dX4_run_150 : decode cX4_run 150 = .ok (.aload_n 0, 1) := by decide +kernel
theorem dX4_run_151 : decode cX4_run 151 = .ok (.getfield 59, 3) := by decide +kernel
theorem dX4_run_154 : decode cX4_run 154 = .ok (.iload_n 3, 1) := by decide +kernel
theorem dX4_run_155 : decode cX4_run 155 = .ok (.iaload, 1) := by decide +kernel
theorem dX4_run_156 : decode cX4_run 156 = .ok (.invokestatic 176, 3) := by decide +kernel
theorem dX4_run_159 : decode cX4_run 159 = .ok (.invokevirtual 189, 3) := by decide +kernel
theorem dX4_run_162 : decode cX4_run 162 = .ok (.istore 5, 2) := by decide +kernel
theorem dX4_run_164 : decode cX4_run 164 = .ok (.aload_n 0, 1) := by decide +kernel
theorem dX4_run_165 : decode cX4_run 165 = .ok (.getfield 50, 3) := by decide +kernel
theorem dX4_run_168 : decode cX4_run 168 = .ok (.iload_n 3, 1) := by decide +kernel
theorem dX4_run_169 : decode cX4_run 169 = .ok (.iaload, 1) := by decide +kernel
theorem dX4_run_170 : decode cX4_run 170 = .ok (.iload 4, 2) := by decide +kernel
theorem dX4_run_172 : decode cX4_run 172 = .ok (.invokestatic 208, 3) := by decide +kernel
theorem dX4_run_175 : decode cX4_run 175 = .ok (.iadd, 1) := by decide +kernel
theorem dX4_run_176 : decode cX4_run 176 = .ok (.istore 6, 2) := by decide +kernel
theorem dX4_run_178 : decode cX4_run 178 = .ok (.aload_n 0, 1) := by decide +kernel
theorem dX4_run_179 : decode cX4_run 179 = .ok (.getfield 53, 3) := by decide +kernel
theorem dX4_run_182 : decode cX4_run 182 = .ok (.iload_n 3, 1) := by decide +kernel
theorem dX4_run_183 : decode cX4_run 183 = .ok (.iaload, 1) := by decide +kernel
theorem dX4_run_184 : decode cX4_run 184 = .ok (.iload 4, 2) := by decide +kernel
theorem dX4_run_186 : decode cX4_run 186 = .ok (.invokestatic 211, 3) := by decide +kernel
theorem dX4_run_189 : decode cX4_run 189 = .ok (.iadd, 1) := by decide +kernel
theorem dX4_run_190 : decode cX4_run 190 = .ok (.istore 7, 2) := by decide +kernel
theorem dX4_run_192 : decode cX4_run 192 = .ok (.aload_n 0, 1) := by decide +kernel
theorem dX4_run_193 : decode cX4_run 193 = .ok (.getfield 47, 3) := by decide +kernel
theorem dX4_run_196 : decode cX4_run 196 = .ok (.iload 5, 2) := by decide +kernel
theorem dX4_run_198 : decode cX4_run 198 = .ok (.baload, 1) := by decide +kernel
theorem dX4_run_199 : decode cX4_run 199 = .ok (.ifCond .ne 149, 3) := by decide +kernel
theorem dX4_run_202 : decode cX4_run 202 = .ok (.aload_n 0, 1) := by decide +kernel
theorem dX4_run_203 : decode cX4_run 203 = .ok (.iload 6, 2) := by decide +kernel
theorem dX4_run_205 : decode cX4_run 205 = .ok (.iload 7, 2) := by decide +kernel
theorem dX4_run_207 : decode cX4_run 207 = .ok (.invokevirtual 224, 3) := by decide +kernel
theorem dX4_run_210 : decode cX4_run 210 = .ok (.ifCond .eq 138, 3) := by decide +kernel
theorem dX4_run_213 : decode cX4_run 213 = .ok (.iload_n 2, 1) := by decide +kernel
theorem dX4_run_214 : decode cX4_run 214 = .ok (.iload_n 1, 1) := by decide +kernel
theorem dX4_run_215 : decode cX4_run 215 = .ok (.if_icmp .ne 8, 3) := by decide +kernel
theorem dX4_run_218 : decode cX4_run 218 = .ok (.aload_n 0, 1) := by decide +kernel
theorem dX4_run_219 : decode cX4_run 219 = .ok (.getfield 131, 3) := by decide +kernel
theorem dX4_run_222 : decode cX4_run 222 = .ok (.ireturn, 1) := by decide +kernel
theorem dX4_run_223 : decode cX4_run 223 = .ok (.iinc 2 1, 3) := by decide +kernel
theorem dX4_run_226 : decode cX4_run 226 = .ok (.aload_n 0, 1) := by decide +kernel
theorem dX4_run_227 : decode cX4_run 227 = .ok (.dup, 1) := by decide +kernel
theorem dX4_run_228 : decode cX4_run 228 = .ok (.getfield 134, 3) := by decide +kernel
theorem dX4_run_231 : decode cX4_run 231 = .ok (.iconst 1, 1) := by decide +kernel
theorem dX4_run_232 : decode cX4_run 232 = .ok (.iadd, 1) := by decide +kernel
theorem dX4_run_233 : decode cX4_run 233 = .ok (.putfield 134, 3) := by decide +kernel
theorem dX4_run_236 : decode cX4_run 236 = .ok (.aload_n 0, 1) := by decide +kernel
theorem dX4_run_237 : decode cX4_run 237 = .ok (.getfield 47, 3) := by decide +kernel
theorem dX4_run_240 : decode cX4_run 240 = .ok (.iload 5, 2) := by decide +kernel
theorem dX4_run_242 : decode cX4_run 242 = .ok (.iconst 1, 1) := by decide +kernel
theorem dX4_run_243 : decode cX4_run 243 = .ok (.bastore, 1) := by decide +kernel
theorem dX4_run_244 : decode cX4_run 244 = .ok (.aload_n 0, 1) := by decide +kernel
theorem dX4_run_245 : decode cX4_run 245 = .ok (.getfield 50, 3) := by decide +kernel
theorem dX4_run_248 : decode cX4_run 248 = .ok (.iload 5, 2) := by decide +kernel
theorem dX4_run_250 : decode cX4_run 250 = .ok (.iload 6, 2) := by decide +kernel
theorem dX4_run_252 : decode cX4_run 252 = .ok (.iastore, 1) := by decide +kernel
theorem dX4_run_253 : decode cX4_run 253 = .ok (.aload_n 0, 1) := by decide +kernel
theorem dX4_run_254 : decode cX4_run 254 = .ok (.getfield 53, 3) := by decide +kernel
theorem dX4_run_257 : decode cX4_run 257 = .ok (.iload 5, 2) := by decide +kernel
theorem dX4_run_259 : decode cX4_run 259 = .ok (.iload 7, 2) := by decide +kernel
theorem dX4_run_261 : decode cX4_run 261 = .ok (.iastore, 1) := by decide +kernel
theorem dX4_run_262 : decode cX4_run 262 = .ok (.aload_n 0, 1) := by decide +kernel
theorem dX4_run_263 : decode cX4_run 263 = .ok (.getfield 56, 3) := by decide +kernel
theorem dX4_run_266 : decode cX4_run 266 = .ok (.iload 5, 2) := by decide +kernel
theorem dX4_run_268 : decode cX4_run 268 = .ok (.aload_n 0, 1) := by decide +kernel
theorem dX4_run_269 : decode cX4_run 269 = .ok (.iload_n 3, 1) := by decide +kernel
theorem dX4_run_270 : decode cX4_run 270 = .ok (.iload 4, 2) := by decide +kernel
theorem dX4_run_272 : decode cX4_run 272 = .ok (.aload_n 0, 1) := by decide +kernel
theorem dX4_run_273 : decode cX4_run 273 = .ok (.getfield 56, 3) := by decide +kernel
theorem dX4_run_276 : decode cX4_run 276 = .ok (.iload_n 3, 1) := by decide +kernel
theorem dX4_run_277 : decode cX4_run 277 = .ok (.iaload, 1) := by decide +kernel
theorem dX4_run_278 : decode cX4_run 278 = .ok (.aload_n 0, 1) := by decide +kernel
theorem dX4_run_279 : decode cX4_run 279 = .ok (.getfield 59, 3) := by decide +kernel
theorem dX4_run_282 : decode cX4_run 282 = .ok (.iload_n 3, 1) := by decide +kernel
theorem dX4_run_283 : decode cX4_run 283 = .ok (.iaload, 1) := by decide +kernel
theorem dX4_run_284 : decode cX4_run 284 = .ok (.invokevirtual 214, 3) := by decide +kernel
theorem dX4_run_287 : decode cX4_run 287 = .ok (.iastore, 1) := by decide +kernel
theorem dX4_run_288 : decode cX4_run 288 = .ok (.aload_n 0, 1) := by decide +kernel
theorem dX4_run_289 : decode cX4_run 289 = .ok (.getfield 59, 3) := by decide +kernel
theorem dX4_run_292 : decode cX4_run 292 = .ok (.iload 5, 2) := by decide +kernel
theorem dX4_run_294 : decode cX4_run 294 = .ok (.aload_n 0, 1) := by decide +kernel
theorem dX4_run_295 : decode cX4_run 295 = .ok (.iload_n 3, 1) := by decide +kernel
theorem dX4_run_296 : decode cX4_run 296 = .ok (.iload 4, 2) := by decide +kernel
theorem dX4_run_298 : decode cX4_run 298 = .ok (.aload_n 0, 1) := by decide +kernel
theorem dX4_run_299 : decode cX4_run 299 = .ok (.getfield 56, 3) := by decide +kernel
theorem dX4_run_302 : decode cX4_run 302 = .ok (.iload_n 3, 1) := by decide +kernel
theorem dX4_run_303 : decode cX4_run 303 = .ok (.iaload, 1) := by decide +kernel
theorem dX4_run_304 : decode cX4_run 304 = .ok (.aload_n 0, 1) := by decide +kernel
theorem dX4_run_305 : decode cX4_run 305 = .ok (.getfield 59, 3) := by decide +kernel
theorem dX4_run_308 : decode cX4_run 308 = .ok (.iload_n 3, 1) := by decide +kernel
theorem dX4_run_309 : decode cX4_run 309 = .ok (.iaload, 1) := by decide +kernel
theorem dX4_run_310 : decode cX4_run 310 = .ok (.invokevirtual 218, 3) := by decide +kernel
theorem dX4_run_313 : decode cX4_run 313 = .ok (.iastore, 1) := by decide +kernel
theorem dX4_run_314 : decode cX4_run 314 = .ok (.aload_n 0, 1) := by decide +kernel
theorem dX4_run_315 : decode cX4_run 315 = .ok (.getfield 41, 3) := by decide +kernel
theorem dX4_run_318 : decode cX4_run 318 = .ok (.aload_n 0, 1) := by decide +kernel
theorem dX4_run_319 : decode cX4_run 319 = .ok (.getfield 144, 3) := by decide +kernel
theorem dX4_run_322 : decode cX4_run 322 = .ok (.iload 5, 2) := by decide +kernel
theorem dX4_run_324 : decode cX4_run 324 = .ok (.iastore, 1) := by decide +kernel
theorem dX4_run_325 : decode cX4_run 325 = .ok (.aload_n 0, 1) := by decide +kernel
theorem dX4_run_326 : decode cX4_run 326 = .ok (.getfield 44, 3) := by decide +kernel
theorem dX4_run_329 : decode cX4_run 329 = .ok (.aload_n 0, 1) := by decide +kernel
theorem dX4_run_330 : decode cX4_run 330 = .ok (.getfield 144, 3) := by decide +kernel
theorem dX4_run_333 : decode cX4_run 333 = .ok (.aload_n 0, 1) := by decide +kernel
theorem dX4_run_334 : decode cX4_run 334 = .ok (.getfield 147, 3) := by decide +kernel
theorem dX4_run_337 : decode cX4_run 337 = .ok (.iastore, 1) := by decide +kernel
theorem dX4_run_338 : decode cX4_run 338 = .ok (.aload_n 0, 1) := by decide +kernel
theorem dX4_run_339 : decode cX4_run 339 = .ok (.dup, 1) := by decide +kernel
theorem dX4_run_340 : decode cX4_run 340 = .ok (.getfield 144, 3) := by decide +kernel
theorem dX4_run_343 : decode cX4_run 343 = .ok (.iconst 1, 1) := by decide +kernel
theorem dX4_run_344 : decode cX4_run 344 = .ok (.iadd, 1) := by decide +kernel
theorem dX4_run_345 : decode cX4_run 345 = .ok (.putfield 144, 3) := by decide +kernel
theorem dX4_run_348 : decode cX4_run 348 = .ok (.aload_n 0, 1) := by decide +kernel
theorem dX4_run_349 : decode cX4_run 349 = .ok (.dup, 1) := by decide +kernel
theorem dX4_run_350 : decode cX4_run 350 = .ok (.getfield 147, 3) := by decide +kernel
theorem dX4_run_353 : decode cX4_run 353 = .ok (.iconst 1, 1) := by decide +kernel
theorem dX4_run_354 : decode cX4_run 354 = .ok (.iadd, 1) := by decide +kernel
theorem dX4_run_355 : decode cX4_run 355 = .ok (.putfield 147, 3) := by decide +kernel
theorem dX4_run_358 : decode cX4_run 358 = .ok (.goto (-332), 3) := by decide +kernel
theorem dX4_run_361 : decode cX4_run 361 = .ok (.aload_n 0, 1) := by decide +kernel
theorem dX4_run_362 : decode cX4_run 362 = .ok (.getfield 131, 3) := by decide +kernel
theorem dX4_run_365 : decode cX4_run 365 = .ok (.ireturn, 1) := by decide +kernel
theorem dX4_net_0 : decode cX4_net 0 = .ok (.aload_n 0, 1) := by decide +kernel
theorem dX4_net_1 : decode cX4_net 1 = .ok (.aload_n 0, 1) := by decide +kernel
theorem dX4_net_2 : decode cX4_net 2 = .ok (.getfield 50, 3) := by decide +kernel
theorem dX4_net_5 : decode cX4_net 5 = .ok (.invokevirtual 228, 3) := by decide +kernel
theorem dX4_net_8 : decode cX4_net 8 = .ok (.aload_n 0, 1) := by decide +kernel
theorem dX4_net_9 : decode cX4_net 9 = .ok (.aload_n 0, 1) := by decide +kernel
theorem dX4_net_10 : decode cX4_net 10 = .ok (.getfield 50, 3) := by decide +kernel
theorem dX4_net_13 : decode cX4_net 13 = .ok (.invokevirtual 232, 3) := by decide +kernel
theorem dX4_net_16 : decode cX4_net 16 = .ok (.isub, 1) := by decide +kernel
theorem dX4_net_17 : decode cX4_net 17 = .ok (.iconst 1, 1) := by decide +kernel
theorem dX4_net_18 : decode cX4_net 18 = .ok (.iadd, 1) := by decide +kernel
theorem dX4_net_19 : decode cX4_net 19 = .ok (.istore_n 1, 1) := by decide +kernel
theorem dX4_net_20 : decode cX4_net 20 = .ok (.aload_n 0, 1) := by decide +kernel
theorem dX4_net_21 : decode cX4_net 21 = .ok (.aload_n 0, 1) := by decide +kernel
theorem dX4_net_22 : decode cX4_net 22 = .ok (.getfield 53, 3) := by decide +kernel
theorem dX4_net_25 : decode cX4_net 25 = .ok (.invokevirtual 228, 3) := by decide +kernel
theorem dX4_net_28 : decode cX4_net 28 = .ok (.aload_n 0, 1) := by decide +kernel
theorem dX4_net_29 : decode cX4_net 29 = .ok (.aload_n 0, 1) := by decide +kernel
theorem dX4_net_30 : decode cX4_net 30 = .ok (.getfield 53, 3) := by decide +kernel
theorem dX4_net_33 : decode cX4_net 33 = .ok (.invokevirtual 232, 3) := by decide +kernel
theorem dX4_net_36 : decode cX4_net 36 = .ok (.isub, 1) := by decide +kernel
theorem dX4_net_37 : decode cX4_net 37 = .ok (.iconst 1, 1) := by decide +kernel
theorem dX4_net_38 : decode cX4_net 38 = .ok (.iadd, 1) := by decide +kernel
theorem dX4_net_39 : decode cX4_net 39 = .ok (.istore_n 2, 1) := by decide +kernel
theorem dX4_net_40 : decode cX4_net 40 = .ok (.aload_n 0, 1) := by decide +kernel
theorem dX4_net_41 : decode cX4_net 41 = .ok (.getfield 137, 3) := by decide +kernel
theorem dX4_net_44 : decode cX4_net 44 = .ok (.bipush (-9), 2) := by decide +kernel
theorem dX4_net_46 : decode cX4_net 46 = .ok (.if_icmp .eq 18, 3) := by decide +kernel
theorem dX4_net_49 : decode cX4_net 49 = .ok (.iload_n 1, 1) := by decide +kernel
theorem dX4_net_50 : decode cX4_net 50 = .ok (.iload_n 2, 1) := by decide +kernel
theorem dX4_net_51 : decode cX4_net 51 = .ok (.imul, 1) := by decide +kernel
theorem dX4_net_52 : decode cX4_net 52 = .ok (.aload_n 0, 1) := by decide +kernel
theorem dX4_net_53 : decode cX4_net 53 = .ok (.getfield 235, 3) := by decide +kernel
theorem dX4_net_56 : decode cX4_net 56 = .ok (.aload_n 0, 1) := by decide +kernel
theorem dX4_net_57 : decode cX4_net 57 = .ok (.getfield 238, 3) := by decide +kernel
theorem dX4_net_60 : decode cX4_net 60 = .ok (.imul, 1) := by decide +kernel
theorem dX4_net_61 : decode cX4_net 61 = .ok (.if_icmp .ge 61, 3) := by decide +kernel
theorem dX4_net_64 : decode cX4_net 64 = .ok (.aload_n 0, 1) := by decide +kernel
theorem dX4_net_65 : decode cX4_net 65 = .ok (.aload_n 0, 1) := by decide +kernel
theorem dX4_net_66 : decode cX4_net 66 = .ok (.getfield 131, 3) := by decide +kernel
theorem dX4_net_69 : decode cX4_net 69 = .ok (.putfield 137, 3) := by decide +kernel
theorem dX4_net_72 : decode cX4_net 72 = .ok (.aload_n 0, 1) := by decide +kernel
theorem dX4_net_73 : decode cX4_net 73 = .ok (.iload_n 1, 1) := by decide +kernel
theorem dX4_net_74 : decode cX4_net 74 = .ok (.putfield 235, 3) := by decide +kernel
theorem dX4_net_77 : decode cX4_net 77 = .ok (.aload_n 0, 1) := by decide +kernel
theorem dX4_net_78 : decode cX4_net 78 = .ok (.iload_n 2, 1) := by decide +kernel
theorem dX4_net_79 : decode cX4_net 79 = .ok (.putfield 238, 3) := by decide +kernel
theorem dX4_net_82 : decode cX4_net 82 = .ok (.iconst 0, 1) := by decide +kernel
theorem dX4_net_83 : decode cX4_net 83 = .ok (.istore_n 3, 1) := by decide +kernel
theorem dX4_net_84 : decode cX4_net 84 = .ok (.iload_n 3, 1) := by decide +kernel
theorem dX4_net_85 : decode cX4_net 85 = .ok (.aload_n 0, 1) := by decide +kernel
theorem dX4_net_86 : decode cX4_net 86 = .ok (.getfield 115, 3) := by decide +kernel
theorem dX4_net_89 : decode cX4_net 89 = .ok (.if_icmp .ge 33, 3) := by decide +kernel
theorem dX4_net_92 : decode cX4_net 92 = .ok (.aload_n 0, 1) := by decide +kernel
theorem dX4_net_93 : decode cX4_net 93 = .ok (.getfield 62, 3) := by decide +kernel
theorem dX4_net_96 : decode cX4_net 96 = .ok (.iload_n 3, 1) := by decide +kernel
theorem dX4_net_97 : decode cX4_net 97 = .ok (.aload_n 0, 1) := by decide +kernel
theorem dX4_net_98 : decode cX4_net 98 = .ok (.getfield 50, 3) := by decide +kernel
theorem dX4_net_101 : decode cX4_net 101 = .ok (.iload_n 3, 1) := by decide +kernel
theorem dX4_net_102 : decode cX4_net 102 = .ok (.iaload, 1) := by decide +kernel
theorem dX4_net_103 : decode cX4_net 103 = .ok (.iastore, 1) := by decide +kernel
theorem dX4_net_104 : decode cX4_net 104 = .ok (.aload_n 0, 1) := by decide +kernel
theorem dX4_net_105 : decode cX4_net 105 = .ok (.getfield 65, 3) := by decide +kernel
theorem dX4_net_108 : decode cX4_net 108 = .ok (.iload_n 3, 1) := by decide +kernel
theorem dX4_net_109 : decode cX4_net 109 = .ok (.aload_n 0, 1) := by decide +kernel
theorem dX4_net_110 : decode cX4_net 110 = .ok (.getfield 53, 3) := by decide +kernel
theorem dX4_net_113 : decode cX4_net 113 = .ok (.iload_n 3, 1) := by decide +kernel
theorem dX4_net_114 : decode cX4_net 114 = .ok (.iaload, 1) := by decide +kernel
theorem dX4_net_115 : decode cX4_net 115 = .ok (.iastore, 1) := by decide +kernel
theorem dX4_net_116 : decode cX4_net 116 = .ok (.iinc 3 1, 3) := by decide +kernel
theorem dX4_net_119 : decode cX4_net 119 = .ok (.goto (-35), 3) := by decide +kernel
theorem dX4_net_122 : decode cX4_net 122 = .ok (.aload_n 0, 1) := by decide +kernel
theorem dX4_net_123 : decode cX4_net 123 = .ok (.dup, 1) := by decide +kernel
theorem dX4_net_124 : decode cX4_net 124 = .ok (.getfield 131, 3) := by decide +kernel
theorem dX4_net_127 : decode cX4_net 127 = .ok (.iconst 1, 1) := by decide +kernel
theorem dX4_net_128 : decode cX4_net 128 = .ok (.iadd, 1) := by decide +kernel
theorem dX4_net_129 : decode cX4_net 129 = .ok (.putfield 131, 3) := by decide +kernel
theorem dX4_net_132 : decode cX4_net 132 = .ok (.iconst 0, 1) := by decide +kernel
theorem dX4_net_133 : decode cX4_net 133 = .ok (.istore_n 3, 1) := by decide +kernel
theorem dX4_net_134 : decode cX4_net 134 = .ok (.iload_n 3, 1) := by decide +kernel
theorem dX4_net_135 : decode cX4_net 135 = .ok (.bipush 8, 2) := by decide +kernel
theorem dX4_net_137 : decode cX4_net 137 = .ok (.if_icmp .ge 296, 3) := by decide +kernel
theorem dX4_net_140 : decode cX4_net 140 = .ok (.iconst 0, 1) := by decide +kernel
theorem dX4_net_141 : decode cX4_net 141 = .ok (.istore 4, 2) := by decide +kernel
theorem dX4_net_143 : decode cX4_net 143 = .ok (.iload 4, 2) := by decide +kernel
theorem dX4_net_145 : decode cX4_net 145 = .ok (.aload_n 0, 1) := by decide +kernel
theorem dX4_net_146 : decode cX4_net 146 = .ok (.getfield 115, 3) := by decide +kernel
theorem dX4_net_149 : decode cX4_net 149 = .ok (.if_icmp .ge 59, 3) := by decide +kernel
theorem dX4_net_152 : decode cX4_net 152 = .ok (.aload_n 0, 1) := by decide +kernel
theorem dX4_net_153 : decode cX4_net 153 = .ok (.getfield 84, 3) := by decide +kernel
theorem dX4_net_156 : decode cX4_net 156 = .ok (.iload 4, 2) := by decide +kernel
theorem dX4_net_158 : decode cX4_net 158 = .ok (.iload_n 3, 1) := by decide +kernel
theorem dX4_net_159 : decode cX4_net 159 = .ok (.aload_n 0, 1) := by decide +kernel
theorem dX4_net_160 : decode cX4_net 160 = .ok (.getfield 50, 3) := by decide +kernel
theorem dX4_net_163 : decode cX4_net 163 = .ok (.iload 4, 2) := by decide +kernel
theorem dX4_net_165 : decode cX4_net 165 = .ok (.iaload, 1) := by decide +kernel
theorem dX4_net_166 : decode cX4_net 166 = .ok (.aload_n 0, 1) := by decide +kernel
theorem dX4_net_167 : decode cX4_net 167 = .ok (.getfield 53, 3) := by decide +kernel
theorem dX4_net_170 : decode cX4_net 170 = .ok (.iload 4, 2) := by decide +kernel
theorem dX4_net_172 : decode cX4_net 172 = .ok (.iaload, 1) := by decide +kernel
theorem dX4_net_173 : decode cX4_net 173 = .ok (.invokestatic 241, 3) := by decide +kernel
theorem dX4_net_176 : decode cX4_net 176 = .ok (.iastore, 1) := by decide +kernel
theorem dX4_net_177 : decode cX4_net 177 = .ok (.aload_n 0, 1) := by decide +kernel
theorem dX4_net_178 : decode cX4_net 178 = .ok (.getfield 87, 3) := by decide +kernel
theorem dX4_net_181 : decode cX4_net 181 = .ok (.iload 4, 2) := by decide +kernel
theorem dX4_net_183 : decode cX4_net 183 = .ok (.iload_n 3, 1) := by decide +kernel
theorem dX4_net_184 : decode cX4_net 184 = .ok (.aload_n 0, 1) := by decide +kernel
theorem dX4_net_185 : decode cX4_net 185 = .ok (.getfield 50, 3) := by decide +kernel
theorem dX4_net_188 : decode cX4_net 188 = .ok (.iload 4, 2) := by decide +kernel
theorem dX4_net_190 : decode cX4_net 190 = .ok (.iaload, 1) := by decide +kernel
theorem dX4_net_191 : decode cX4_net 191 = .ok (.aload_n 0, 1) := by decide +kernel
theorem dX4_net_192 : decode cX4_net 192 = .ok (.getfield 53, 3) := by decide +kernel
theorem dX4_net_195 : decode cX4_net 195 = .ok (.iload 4, 2) := by decide +kernel
theorem dX4_net_197 : decode cX4_net 197 = .ok (.iaload, 1) := by decide +kernel
theorem dX4_net_198 : decode cX4_net 198 = .ok (.invokestatic 244, 3) := by decide +kernel
theorem dX4_net_201 : decode cX4_net 201 = .ok (.iastore, 1) := by decide +kernel
theorem dX4_net_202 : decode cX4_net 202 = .ok (.iinc 4 1, 3) := by decide +kernel
theorem dX4_net_205 : decode cX4_net 205 = .ok (.goto (-62), 3) := by decide +kernel
theorem dX4_net_208 : decode cX4_net 208 = .ok (.aload_n 0, 1) := by decide +kernel
theorem dX4_net_209 : decode cX4_net 209 = .ok (.aload_n 0, 1) := by decide +kernel
theorem dX4_net_210 : decode cX4_net 210 = .ok (.getfield 84, 3) := by decide +kernel
theorem dX4_net_213 : decode cX4_net 213 = .ok (.invokevirtual 232, 3) := by decide +kernel
theorem dX4_net_216 : decode cX4_net 216 = .ok (.istore 4, 2) := by decide +kernel
theorem dX4_net_218 : decode cX4_net 218 = .ok (.aload_n 0, 1) := by decide +kernel
theorem dX4_net_219 : decode cX4_net 219 = .ok (.aload_n 0, 1) := by decide +kernel
theorem dX4_net_220 : decode cX4_net 220 = .ok (.getfield 87, 3) := by decide +kernel
theorem dX4_net_223 : decode cX4_net 223 = .ok (.invokevirtual 232, 3) := by decide +kernel
theorem dX4_net_226 : decode cX4_net 226 = .ok (.istore 5, 2) := by decide +kernel
theorem dX4_net_228 : decode cX4_net 228 = .ok (.iconst 0, 1) := by decide +kernel
theorem dX4_net_229 : decode cX4_net 229 = .ok (.istore 6, 2) := by decide +kernel
theorem dX4_net_231 : decode cX4_net 231 = .ok (.iload 6, 2) := by decide +kernel
theorem dX4_net_233 : decode cX4_net 233 = .ok (.aload_n 0, 1) := by decide +kernel
theorem dX4_net_234 : decode cX4_net 234 = .ok (.getfield 115, 3) := by decide +kernel
theorem dX4_net_237 : decode cX4_net 237 = .ok (.if_icmp .ge 89, 3) := by decide +kernel
theorem dX4_net_240 : decode cX4_net 240 = .ok (.bipush 32, 2) := by decide +kernel
theorem dX4_net_242 : decode cX4_net 242 = .ok (.aload_n 0, 1) := by decide +kernel
theorem dX4_net_243 : decode cX4_net 243 = .ok (.getfield 87, 3) := by decide +kernel
theorem dX4_net_246 : decode cX4_net 246 = .ok (.iload 6, 2) := by decide +kernel
theorem dX4_net_248 : decode cX4_net 248 = .ok (.iaload, 1) := by decide +kernel
theorem dX4_net_249 : decode cX4_net 249 = .ok (.iload 5, 2) := by decide +kernel
theorem dX4_net_251 : decode cX4_net 251 = .ok (.isub, 1) := by decide +kernel
theorem dX4_net_252 : decode cX4_net 252 = .ok (.imul, 1) := by decide +kernel
theorem dX4_net_253 : decode cX4_net 253 = .ok (.aload_n 0, 1) := by decide +kernel
theorem dX4_net_254 : decode cX4_net 254 = .ok (.getfield 84, 3) := by decide +kernel
theorem dX4_net_257 : decode cX4_net 257 = .ok (.iload 6, 2) := by decide +kernel
theorem dX4_net_259 : decode cX4_net 259 = .ok (.iaload, 1) := by decide +kernel
theorem dX4_net_260 : decode cX4_net 260 = .ok (.iadd, 1) := by decide +kernel
theorem dX4_net_261 : decode cX4_net 261 = .ok (.iload 4, 2) := by decide +kernel
theorem dX4_net_263 : decode cX4_net 263 = .ok (.isub, 1) := by decide +kernel
theorem dX4_net_264 : decode cX4_net 264 = .ok (.istore 7, 2) := by decide +kernel
theorem dX4_net_266 : decode cX4_net 266 = .ok (.iload 6, 2) := by decide +kernel
theorem dX4_net_268 : decode cX4_net 268 = .ok (.istore 8, 2) := by decide +kernel
theorem dX4_net_270 : decode cX4_net 270 = .ok (.iload 8, 2) := by decide +kernel
theorem dX4_net_272 : decode cX4_net 272 = .ok (.ifCond .le 39, 3) := by decide +kernel
theorem dX4_net_275 : decode cX4_net 275 = .ok (.aload_n 0, 1) := by decide +kernel
theorem dX4_net_276 : decode cX4_net 276 = .ok (.getfield 90, 3) := by decide +kernel
theorem dX4_net_279 : decode cX4_net 279 = .ok (.iload 8, 2) := by decide +kernel
theorem dX4_net_281 : decode cX4_net 281 = .ok (.iconst 1, 1) := by decide +kernel
theorem dX4_net_282 : decode cX4_net 282 = .ok (.isub, 1) := by decide +kernel
theorem dX4_net_283 : decode cX4_net 283 = .ok (.iaload, 1) := by decide +kernel
theorem dX4_net_284 : decode cX4_net 284 = .ok (.iload 7, 2) := by decide +kernel
theorem dX4_net_286 : decode cX4_net 286 = .ok (.if_icmp .le 25, 3) := by decide +kernel
theorem dX4_net_289 : decode cX4_net 289 = .ok (.aload_n 0, 1) := by decide +kernel
theorem dX4_net_290 : decode cX4_net 290 = .ok (.getfield 90, 3) := by decide +kernel
theorem dX4_net_293 : decode cX4_net 293 = .ok (.iload 8, 2) := by decide +kernel
theorem dX4_net_295 : decode cX4_net 295 = .ok (.aload_n 0, 1) := by decide +kernel
theorem dX4_net_296 : decode cX4_net 296 = .ok (.getfield 90, 3) := by decide +kernel
theorem dX4_net_299 : decode cX4_net 299 = .ok (.iload 8, 2) := by decide +kernel
theorem dX4_net_301 : decode cX4_net 301 = .ok (.iconst 1, 1) := by decide +kernel
theorem dX4_net_302 : decode cX4_net 302 = .ok (.isub, 1) := by decide +kernel
theorem dX4_net_303 : decode cX4_net 303 = .ok (.iaload, 1) := by decide +kernel
theorem dX4_net_304 : decode cX4_net 304 = .ok (.iastore, 1) := by decide +kernel
theorem dX4_net_305 : decode cX4_net 305 = .ok (.iinc 8 (-1), 3) := by decide +kernel
theorem dX4_net_308 : decode cX4_net 308 = .ok (.goto (-38), 3) := by decide +kernel
theorem dX4_net_311 : decode cX4_net 311 = .ok (.aload_n 0, 1) := by decide +kernel
theorem dX4_net_312 : decode cX4_net 312 = .ok (.getfield 90, 3) := by decide +kernel
theorem dX4_net_315 : decode cX4_net 315 = .ok (.iload 8, 2) := by decide +kernel
theorem dX4_net_317 : decode cX4_net 317 = .ok (.iload 7, 2) := by decide +kernel
theorem dX4_net_319 : decode cX4_net 319 = .ok (.iastore, 1) := by decide +kernel
theorem dX4_net_320 : decode cX4_net 320 = .ok (.iinc 6 1, 3) := by decide +kernel
theorem dX4_net_323 : decode cX4_net 323 = .ok (.goto (-92), 3) := by decide +kernel
theorem dX4_net_326 : decode cX4_net 326 = .ok (.iconst 0, 1) := by decide +kernel
theorem dX4_net_327 : decode cX4_net 327 = .ok (.istore 6, 2) := by decide +kernel
theorem dX4_net_329 : decode cX4_net 329 = .ok (.iload_n 3, 1) := by decide +kernel
theorem dX4_net_330 : decode cX4_net 330 = .ok (.ifCond .le 35, 3) := by decide +kernel
theorem dX4_net_333 : decode cX4_net 333 = .ok (.iload 6, 2) := by decide +kernel
theorem dX4_net_335 : decode cX4_net 335 = .ok (.aload_n 0, 1) := by decide +kernel
theorem dX4_net_336 : decode cX4_net 336 = .ok (.getfield 115, 3) := by decide +kernel
theorem dX4_net_339 : decode cX4_net 339 = .ok (.if_icmp .ge 26, 3) := by decide +kernel
theorem dX4_net_342 : decode cX4_net 342 = .ok (.aload_n 0, 1) := by decide +kernel
theorem dX4_net_343 : decode cX4_net 343 = .ok (.getfield 90, 3) := by decide +kernel
theorem dX4_net_346 : decode cX4_net 346 = .ok (.iload 6, 2) := by decide +kernel
theorem dX4_net_348 : decode cX4_net 348 = .ok (.iaload, 1) := by decide +kernel
theorem dX4_net_349 : decode cX4_net 349 = .ok (.aload_n 0, 1) := by decide +kernel
theorem dX4_net_350 : decode cX4_net 350 = .ok (.getfield 93, 3) := by decide +kernel
theorem dX4_net_353 : decode cX4_net 353 = .ok (.iload 6, 2) := by decide +kernel
theorem dX4_net_355 : decode cX4_net 355 = .ok (.iaload, 1) := by decide +kernel
theorem dX4_net_356 : decode cX4_net 356 = .ok (.if_icmp .ne 9, 3) := by decide +kernel
theorem dX4_net_359 : decode cX4_net 359 = .ok (.iinc 6 1, 3) := by decide +kernel
theorem dX4_net_362 : decode cX4_net 362 = .ok (.goto (-33), 3) := by decide +kernel
theorem dX4_net_365 : decode cX4_net 365 = .ok (.iload_n 3, 1) := by decide +kernel
theorem dX4_net_366 : decode cX4_net 366 = .ok (.ifCond .eq 29, 3) := by decide +kernel
theorem dX4_net_369 : decode cX4_net 369 = .ok (.iload 6, 2) := by decide +kernel
theorem dX4_net_371 : decode cX4_net 371 = .ok (.aload_n 0, 1) := by decide +kernel
theorem dX4_net_372 : decode cX4_net 372 = .ok (.getfield 115, 3) := by decide +kernel
theorem dX4_net_375 : decode cX4_net 375 = .ok (.if_icmp .ge 52, 3) := by decide +kernel
theorem dX4_net_378 : decode cX4_net 378 = .ok (.aload_n 0, 1) := by decide +kernel
theorem dX4_net_379 : decode cX4_net 379 = .ok (.getfield 90, 3) := by decide +kernel
theorem dX4_net_382 : decode cX4_net 382 = .ok (.iload 6, 2) := by decide +kernel
theorem dX4_net_384 : decode cX4_net 384 = .ok (.iaload, 1) := by decide +kernel
theorem dX4_net_385 : decode cX4_net 385 = .ok (.aload_n 0, 1) := by decide +kernel
theorem dX4_net_386 : decode cX4_net 386 = .ok (.getfield 93, 3) := by decide +kernel
theorem dX4_net_389 : decode cX4_net 389 = .ok (.iload 6, 2) := by decide +kernel
theorem dX4_net_391 : decode cX4_net 391 = .ok (.iaload, 1) := by decide +kernel
theorem dX4_net_392 : decode cX4_net 392 = .ok (.if_icmp .ge 35, 3) := by decide +kernel
theorem dX4_net_395 : decode cX4_net 395 = .ok (.iconst 0, 1) := by decide +kernel
theorem dX4_net_396 : decode cX4_net 396 = .ok (.istore 7, 2) := by decide +kernel
theorem dX4_net_398 : decode cX4_net 398 = .ok (.iload 7, 2) := by decide +kernel
theorem dX4_net_400 : decode cX4_net 400 = .ok (.aload_n 0, 1) := by decide +kernel
theorem dX4_net_401 : decode cX4_net 401 = .ok (.getfield 115, 3) := by decide +kernel
theorem dX4_net_404 : decode cX4_net 404 = .ok (.if_icmp .ge 23, 3) := by decide +kernel
theorem dX4_net_407 : decode cX4_net 407 = .ok (.aload_n 0, 1) := by decide +kernel
theorem dX4_net_408 : decode cX4_net 408 = .ok (.getfield 93, 3) := by decide +kernel
theorem dX4_net_411 : decode cX4_net 411 = .ok (.iload 7, 2) := by decide +kernel
theorem dX4_net_413 : decode cX4_net 413 = .ok (.aload_n 0, 1) := by decide +kernel
theorem dX4_net_414 : decode cX4_net 414 = .ok (.getfield 90, 3) := by decide +kernel
theorem dX4_net_417 : decode cX4_net 417 = .ok (.iload 7, 2) := by decide +kernel
theorem dX4_net_419 : decode cX4_net 419 = .ok (.iaload, 1) := by decide +kernel
theorem dX4_net_420 : decode cX4_net 420 = .ok (.iastore, 1) := by decide +kernel
theorem dX4_net_421 : decode cX4_net 421 = .ok (.iinc 7 1, 3) := by decide +kernel
theorem dX4_net_424 : decode cX4_net 424 = .ok (.goto (-26), 3) := by decide +kernel
theorem dX4_net_427 : decode cX4_net 427 = .ok (.iinc 3 1, 3) := by decide +kernel
theorem dX4_net_430 : decode cX4_net 430 = .ok (.goto (-296), 3) := by decide +kernel
theorem dX4_net_433 : decode cX4_net 433 = .ok (.aload_n 0, 1) := by decide +kernel
theorem dX4_net_434 : decode cX4_net 434 = .ok (.invokevirtual 247, 3) := by decide +kernel
theorem dX4_net_437 : decode cX4_net 437 = .ok (.return_, 1) := by decide +kernel
theorem dX4_most_0 : decode cX4_most 0 = .ok (.aload_n 1, 1) := by decide +kernel
theorem dX4_most_1 : decode cX4_most 1 = .ok (.iconst 0, 1) := by decide +kernel
theorem dX4_most_2 : decode cX4_most 2 = .ok (.iaload, 1) := by decide +kernel
theorem dX4_most_3 : decode cX4_most 3 = .ok (.istore_n 2, 1) := by decide +kernel
theorem dX4_most_4 : decode cX4_most 4 = .ok (.iconst 1, 1) := by decide +kernel
theorem dX4_most_5 : decode cX4_most 5 = .ok (.istore_n 3, 1) := by decide +kernel
theorem dX4_most_6 : decode cX4_most 6 = .ok (.iload_n 3, 1) := by decide +kernel
theorem dX4_most_7 : decode cX4_most 7 = .ok (.aload_n 0, 1) := by decide +kernel
theorem dX4_most_8 : decode cX4_most 8 = .ok (.getfield 115, 3) := by decide +kernel
theorem dX4_most_11 : decode cX4_most 11 = .ok (.if_icmp .ge 24, 3) := by decide +kernel
theorem dX4_most_14 : decode cX4_most 14 = .ok (.aload_n 1, 1) := by decide +kernel
theorem dX4_most_15 : decode cX4_most 15 = .ok (.iload_n 3, 1) := by decide +kernel
theorem dX4_most_16 : decode cX4_most 16 = .ok (.iaload, 1) := by decide +kernel
theorem dX4_most_17 : decode cX4_most 17 = .ok (.iload_n 2, 1) := by decide +kernel
theorem dX4_most_18 : decode cX4_most 18 = .ok (.if_icmp .le 9, 3) := by decide +kernel
theorem dX4_most_21 : decode cX4_most 21 = .ok (.aload_n 1, 1) := by decide +kernel
theorem dX4_most_22 : decode cX4_most 22 = .ok (.iload_n 3, 1) := by decide +kernel
theorem dX4_most_23 : decode cX4_most 23 = .ok (.iaload, 1) := by decide +kernel
theorem dX4_most_24 : decode cX4_most 24 = .ok (.goto 4, 3) := by decide +kernel
theorem dX4_most_27 : decode cX4_most 27 = .ok (.iload_n 2, 1) := by decide +kernel
theorem dX4_most_28 : decode cX4_most 28 = .ok (.istore_n 2, 1) := by decide +kernel
theorem dX4_most_29 : decode cX4_most 29 = .ok (.iinc 3 1, 3) := by decide +kernel
theorem dX4_most_32 : decode cX4_most 32 = .ok (.goto (-26), 3) := by decide +kernel
theorem dX4_most_35 : decode cX4_most 35 = .ok (.iload_n 2, 1) := by decide +kernel
theorem dX4_most_36 : decode cX4_most 36 = .ok (.ireturn, 1) := by decide +kernel
theorem dX4_least_0 : decode cX4_least 0 = .ok (.aload_n 1, 1) := by decide +kernel
theorem dX4_least_1 : decode cX4_least 1 = .ok (.iconst 0, 1) := by decide +kernel
theorem dX4_least_2 : decode cX4_least 2 = .ok (.iaload, 1) := by decide +kernel
theorem dX4_least_3 : decode cX4_least 3 = .ok (.istore_n 2, 1) := by decide +kernel
theorem dX4_least_4 : decode cX4_least 4 = .ok (.iconst 1, 1) := by decide +kernel
theorem dX4_least_5 : decode cX4_least 5 = .ok (.istore_n 3, 1) := by decide +kernel
theorem dX4_least_6 : decode cX4_least 6 = .ok (.iload_n 3, 1) := by decide +kernel
theorem dX4_least_7 : decode cX4_least 7 = .ok (.aload_n 0, 1) := by decide +kernel
theorem dX4_least_8 : decode cX4_least 8 = .ok (.getfield 115, 3) := by decide +kernel
theorem dX4_least_11 : decode cX4_least 11 = .ok (.if_icmp .ge 24, 3) := by decide +kernel
theorem dX4_least_14 : decode cX4_least 14 = .ok (.aload_n 1, 1) := by decide +kernel
theorem dX4_least_15 : decode cX4_least 15 = .ok (.iload_n 3, 1) := by decide +kernel
theorem dX4_least_16 : decode cX4_least 16 = .ok (.iaload, 1) := by decide +kernel
theorem dX4_least_17 : decode cX4_least 17 = .ok (.iload_n 2, 1) := by decide +kernel
theorem dX4_least_18 : decode cX4_least 18 = .ok (.if_icmp .ge 9, 3) := by decide +kernel
theorem dX4_least_21 : decode cX4_least 21 = .ok (.aload_n 1, 1) := by decide +kernel
theorem dX4_least_22 : decode cX4_least 22 = .ok (.iload_n 3, 1) := by decide +kernel
theorem dX4_least_23 : decode cX4_least 23 = .ok (.iaload, 1) := by decide +kernel
theorem dX4_least_24 : decode cX4_least 24 = .ok (.goto 4, 3) := by decide +kernel
theorem dX4_least_27 : decode cX4_least 27 = .ok (.iload_n 2, 1) := by decide +kernel
theorem dX4_least_28 : decode cX4_least 28 = .ok (.istore_n 2, 1) := by decide +kernel
theorem dX4_least_29 : decode cX4_least 29 = .ok (.iinc 3 1, 3) := by decide +kernel
theorem dX4_least_32 : decode cX4_least 32 = .ok (.goto (-26), 3) := by decide +kernel
theorem dX4_least_35 : decode cX4_least 35 = .ok (.iload_n 2, 1) := by decide +kernel
theorem dX4_least_36 : decode cX4_least 36 = .ok (.ireturn, 1) := by decide +kernel
theorem dX4_imageOfX_0 : decode cX4_imageOfX 0 = .ok (.iload_n 0, 1) := by decide +kernel
theorem dX4_imageOfX_1 : decode cX4_imageOfX 1 = .ok (.iconst 2, 1) := by decide +kernel
theorem dX4_imageOfX_2 : decode cX4_imageOfX 2 = .ok (.irem, 1) := by decide +kernel
theorem dX4_imageOfX_3 : decode cX4_imageOfX 3 = .ok (.ifCond .ne 7, 3) := by decide +kernel
theorem dX4_imageOfX_6 : decode cX4_imageOfX 6 = .ok (.iload_n 1, 1) := by decide +kernel
theorem dX4_imageOfX_7 : decode cX4_imageOfX 7 = .ok (.goto 4, 3) := by decide +kernel
theorem dX4_imageOfX_10 : decode cX4_imageOfX 10 = .ok (.iload_n 2, 1) := by decide +kernel
theorem dX4_imageOfX_11 : decode cX4_imageOfX 11 = .ok (.istore_n 3, 1) := by decide +kernel
theorem dX4_imageOfX_12 : decode cX4_imageOfX 12 = .ok (.iload_n 0, 1) := by decide +kernel
theorem dX4_imageOfX_13 : decode cX4_imageOfX 13 = .ok (.iconst 2, 1) := by decide +kernel
theorem dX4_imageOfX_14 : decode cX4_imageOfX 14 = .ok (.if_icmp .eq 20, 3) := by decide +kernel
theorem dX4_imageOfX_17 : decode cX4_imageOfX 17 = .ok (.iload_n 0, 1) := by decide +kernel
theorem dX4_imageOfX_18 : decode cX4_imageOfX 18 = .ok (.iconst 3, 1) := by decide +kernel
theorem dX4_imageOfX_19 : decode cX4_imageOfX 19 = .ok (.if_icmp .eq 15, 3) := by decide +kernel
theorem dX4_imageOfX_22 : decode cX4_imageOfX 22 = .ok (.iload_n 0, 1) := by decide +kernel
theorem dX4_imageOfX_23 : decode cX4_imageOfX 23 = .ok (.bipush 6, 2) := by decide +kernel
theorem dX4_imageOfX_25 : decode cX4_imageOfX 25 = .ok (.if_icmp .eq 9, 3) := by decide +kernel
theorem dX4_imageOfX_28 : decode cX4_imageOfX 28 = .ok (.iload_n 0, 1) := by decide +kernel
theorem dX4_imageOfX_29 : decode cX4_imageOfX 29 = .ok (.bipush 7, 2) := by decide +kernel
theorem dX4_imageOfX_31 : decode cX4_imageOfX 31 = .ok (.if_icmp .ne 8, 3) := by decide +kernel
theorem dX4_imageOfX_34 : decode cX4_imageOfX 34 = .ok (.iload_n 3, 1) := by decide +kernel
theorem dX4_imageOfX_35 : decode cX4_imageOfX 35 = .ok (.ineg, 1) := by decide +kernel
theorem dX4_imageOfX_36 : decode cX4_imageOfX 36 = .ok (.goto 4, 3) := by decide +kernel
theorem dX4_imageOfX_39 : decode cX4_imageOfX 39 = .ok (.iload_n 3, 1) := by decide +kernel
theorem dX4_imageOfX_40 : decode cX4_imageOfX 40 = .ok (.ireturn, 1) := by decide +kernel
theorem dX4_imageOfY_0 : decode cX4_imageOfY 0 = .ok (.iload_n 0, 1) := by decide +kernel
theorem dX4_imageOfY_1 : decode cX4_imageOfY 1 = .ok (.iconst 2, 1) := by decide +kernel
theorem dX4_imageOfY_2 : decode cX4_imageOfY 2 = .ok (.irem, 1) := by decide +kernel
theorem dX4_imageOfY_3 : decode cX4_imageOfY 3 = .ok (.ifCond .ne 7, 3) := by decide +kernel
theorem dX4_imageOfY_6 : decode cX4_imageOfY 6 = .ok (.iload_n 2, 1) := by decide +kernel
theorem dX4_imageOfY_7 : decode cX4_imageOfY 7 = .ok (.goto 4, 3) := by decide +kernel
theorem dX4_imageOfY_10 : decode cX4_imageOfY 10 = .ok (.iload_n 1, 1) := by decide +kernel
theorem dX4_imageOfY_11 : decode cX4_imageOfY 11 = .ok (.istore_n 3, 1) := by decide +kernel
theorem dX4_imageOfY_12 : decode cX4_imageOfY 12 = .ok (.iload_n 0, 1) := by decide +kernel
theorem dX4_imageOfY_13 : decode cX4_imageOfY 13 = .ok (.iconst 4, 1) := by decide +kernel
theorem dX4_imageOfY_14 : decode cX4_imageOfY 14 = .ok (.if_icmp .lt 8, 3) := by decide +kernel
theorem dX4_imageOfY_17 : decode cX4_imageOfY 17 = .ok (.iload_n 3, 1) := by decide +kernel
theorem dX4_imageOfY_18 : decode cX4_imageOfY 18 = .ok (.ineg, 1) := by decide +kernel
theorem dX4_imageOfY_19 : decode cX4_imageOfY 19 = .ok (.goto 4, 3) := by decide +kernel
theorem dX4_imageOfY_22 : decode cX4_imageOfY 22 = .ok (.iload_n 3, 1) := by decide +kernel
theorem dX4_imageOfY_23 : decode cX4_imageOfY 23 = .ok (.ireturn, 1) := by decide +kernel
theorem dX4_keep_0 : decode cX4_keep 0 = .ok (.iconst 0, 1) := by decide +kernel
theorem dX4_keep_1 : decode cX4_keep 1 = .ok (.istore_n 1, 1) := by decide +kernel
theorem dX4_keep_2 : decode cX4_keep 2 = .ok (.iload_n 1, 1) := by decide +kernel
theorem dX4_keep_3 : decode cX4_keep 3 = .ok (.aload_n 0, 1) := by decide +kernel
theorem dX4_keep_4 : decode cX4_keep 4 = .ok (.getfield 182, 3) := by decide +kernel
theorem dX4_keep_7 : decode cX4_keep 7 = .ok (.if_icmp .ge 79, 3) := by decide +kernel
theorem dX4_keep_10 : decode cX4_keep 10 = .ok (.aload_n 0, 1) := by decide +kernel
theorem dX4_keep_11 : decode cX4_keep 11 = .ok (.getfield 68, 3) := by decide +kernel
theorem dX4_keep_14 : decode cX4_keep 14 = .ok (.iload_n 1, 1) := by decide +kernel
theorem dX4_keep_15 : decode cX4_keep 15 = .ok (.iaload, 1) := by decide +kernel
theorem dX4_keep_16 : decode cX4_keep 16 = .ok (.aload_n 0, 1) := by decide +kernel
theorem dX4_keep_17 : decode cX4_keep 17 = .ok (.getfield 115, 3) := by decide +kernel
theorem dX4_keep_20 : decode cX4_keep 20 = .ok (.if_icmp .ne 7, 3) := by decide +kernel
theorem dX4_keep_23 : decode cX4_keep 23 = .ok (.iconst 1, 1) := by decide +kernel
theorem dX4_keep_24 : decode cX4_keep 24 = .ok (.goto 4, 3) := by decide +kernel
theorem dX4_keep_27 : decode cX4_keep 27 = .ok (.iconst 0, 1) := by decide +kernel
theorem dX4_keep_28 : decode cX4_keep 28 = .ok (.istore_n 2, 1) := by decide +kernel
theorem dX4_keep_29 : decode cX4_keep 29 = .ok (.iconst 0, 1) := by decide +kernel
theorem dX4_keep_30 : decode cX4_keep 30 = .ok (.istore_n 3, 1) := by decide +kernel
theorem dX4_keep_31 : decode cX4_keep 31 = .ok (.iload_n 3, 1) := by decide +kernel
theorem dX4_keep_32 : decode cX4_keep 32 = .ok (.aload_n 0, 1) := by decide +kernel
theorem dX4_keep_33 : decode cX4_keep 33 = .ok (.getfield 115, 3) := by decide +kernel
theorem dX4_keep_36 : decode cX4_keep 36 = .ok (.if_icmp .ge 39, 3) := by decide +kernel
theorem dX4_keep_39 : decode cX4_keep 39 = .ok (.iload_n 2, 1) := by decide +kernel
theorem dX4_keep_40 : decode cX4_keep 40 = .ok (.ifCond .eq 35, 3) := by decide +kernel
theorem dX4_keep_43 : decode cX4_keep 43 = .ok (.aload_n 0, 1) := by decide +kernel
theorem dX4_keep_44 : decode cX4_keep 44 = .ok (.getfield 71, 3) := by decide +kernel
theorem dX4_keep_47 : decode cX4_keep 47 = .ok (.bipush 30, 2) := by decide +kernel
theorem dX4_keep_49 : decode cX4_keep 49 = .ok (.iload_n 1, 1) := by decide +kernel
theorem dX4_keep_50 : decode cX4_keep 50 = .ok (.imul, 1) := by decide +kernel
theorem dX4_keep_51 : decode cX4_keep 51 = .ok (.iload_n 3, 1) := by decide +kernel
theorem dX4_keep_52 : decode cX4_keep 52 = .ok (.iadd, 1) := by decide +kernel
theorem dX4_keep_53 : decode cX4_keep 53 = .ok (.iaload, 1) := by decide +kernel
theorem dX4_keep_54 : decode cX4_keep 54 = .ok (.aload_n 0, 1) := by decide +kernel
theorem dX4_keep_55 : decode cX4_keep 55 = .ok (.getfield 93, 3) := by decide +kernel
theorem dX4_keep_58 : decode cX4_keep 58 = .ok (.iload_n 3, 1) := by decide +kernel
theorem dX4_keep_59 : decode cX4_keep 59 = .ok (.iaload, 1) := by decide +kernel
theorem dX4_keep_60 : decode cX4_keep 60 = .ok (.if_icmp .ne 7, 3) := by decide +kernel
theorem dX4_keep_63 : decode cX4_keep 63 = .ok (.iconst 1, 1) := by decide +kernel
theorem dX4_keep_64 : decode cX4_keep 64 = .ok (.goto 4, 3) := by decide +kernel
theorem dX4_keep_67 : decode cX4_keep 67 = .ok (.iconst 0, 1) := by decide +kernel
theorem dX4_keep_68 : decode cX4_keep 68 = .ok (.istore_n 2, 1) := by decide +kernel
theorem dX4_keep_69 : decode cX4_keep 69 = .ok (.iinc 3 1, 3) := by decide +kernel
theorem dX4_keep_72 : decode cX4_keep 72 = .ok (.goto (-41), 3) := by decide +kernel
theorem dX4_keep_75 : decode cX4_keep 75 = .ok (.iload_n 2, 1) := by decide +kernel
theorem dX4_keep_76 : decode cX4_keep 76 = .ok (.ifCond .eq 4, 3) := by decide +kernel
theorem dX4_keep_79 : decode cX4_keep 79 = .ok (.return_, 1) := by decide +kernel
theorem dX4_keep_80 : decode cX4_keep 80 = .ok (.iinc 1 1, 3) := by decide +kernel
theorem dX4_keep_83 : decode cX4_keep 83 = .ok (.goto (-81), 3) := by decide +kernel
theorem dX4_keep_86 : decode cX4_keep 86 = .ok (.aload_n 0, 1) := by decide +kernel
theorem dX4_keep_87 : decode cX4_keep 87 = .ok (.getfield 182, 3) := by decide +kernel
theorem dX4_keep_90 : decode cX4_keep 90 = .ok (.bipush 64, 2) := by decide +kernel
theorem dX4_keep_92 : decode cX4_keep 92 = .ok (.if_icmp .ge 62, 3) := by decide +kernel
theorem dX4_keep_95 : decode cX4_keep 95 = .ok (.aload_n 0, 1) := by decide +kernel
theorem dX4_keep_96 : decode cX4_keep 96 = .ok (.getfield 68, 3) := by decide +kernel
theorem dX4_keep_99 : decode cX4_keep 99 = .ok (.aload_n 0, 1) := by decide +kernel
theorem dX4_keep_100 : decode cX4_keep 100 = .ok (.getfield 182, 3) := by decide +kernel
theorem dX4_keep_103 : decode cX4_keep 103 = .ok (.aload_n 0, 1) := by decide +kernel
theorem dX4_keep_104 : decode cX4_keep 104 = .ok (.getfield 115, 3) := by decide +kernel
theorem dX4_keep_107 : decode cX4_keep 107 = .ok (.iastore, 1) := by decide +kernel
theorem dX4_keep_108 : decode cX4_keep 108 = .ok (.iconst 0, 1) := by decide +kernel
theorem dX4_keep_109 : decode cX4_keep 109 = .ok (.istore_n 1, 1) := by decide +kernel
theorem dX4_keep_110 : decode cX4_keep 110 = .ok (.iload_n 1, 1) := by decide +kernel
theorem dX4_keep_111 : decode cX4_keep 111 = .ok (.aload_n 0, 1) := by decide +kernel
theorem dX4_keep_112 : decode cX4_keep 112 = .ok (.getfield 115, 3) := by decide +kernel
theorem dX4_keep_115 : decode cX4_keep 115 = .ok (.if_icmp .ge 29, 3) := by decide +kernel
theorem dX4_keep_118 : decode cX4_keep 118 = .ok (.aload_n 0, 1) := by decide +kernel
theorem dX4_keep_119 : decode cX4_keep 119 = .ok (.getfield 71, 3) := by decide +kernel
theorem dX4_keep_122 : decode cX4_keep 122 = .ok (.bipush 30, 2) := by decide +kernel
theorem dX4_keep_124 : decode cX4_keep 124 = .ok (.aload_n 0, 1) := by decide +kernel
theorem dX4_keep_125 : decode cX4_keep 125 = .ok (.getfield 182, 3) := by decide +kernel
theorem dX4_keep_128 : decode cX4_keep 128 = .ok (.imul, 1) := by decide +kernel
theorem dX4_keep_129 : decode cX4_keep 129 = .ok (.iload_n 1, 1) := by decide +kernel
theorem dX4_keep_130 : decode cX4_keep 130 = .ok (.iadd, 1) := by decide +kernel
theorem dX4_keep_131 : decode cX4_keep 131 = .ok (.aload_n 0, 1) := by decide +kernel
theorem dX4_keep_132 : decode cX4_keep 132 = .ok (.getfield 93, 3) := by decide +kernel
theorem dX4_keep_135 : decode cX4_keep 135 = .ok (.iload_n 1, 1) := by decide +kernel
theorem dX4_keep_136 : decode cX4_keep 136 = .ok (.iaload, 1) := by decide +kernel
theorem dX4_keep_137 : decode cX4_keep 137 = .ok (.iastore, 1) := by decide +kernel
theorem dX4_keep_138 : decode cX4_keep 138 = .ok (.iinc 1 1, 3) := by decide +kernel
theorem dX4_keep_141 : decode cX4_keep 141 = .ok (.goto (-31), 3) := by decide +kernel
theorem dX4_keep_144 : decode cX4_keep 144 = .ok (.aload_n 0, 1) := by decide +kernel
theorem dX4_keep_145 : decode cX4_keep 145 = .ok (.dup, 1) := by decide +kernel
theorem dX4_keep_146 : decode cX4_keep 146 = .ok (.getfield 182, 3) := by decide +kernel
theorem dX4_keep_149 : decode cX4_keep 149 = .ok (.iconst 1, 1) := by decide +kernel
theorem dX4_keep_150 : decode cX4_keep 150 = .ok (.iadd, 1) := by decide +kernel
theorem dX4_keep_151 : decode cX4_keep 151 = .ok (.putfield 182, 3) := by decide +kernel
theorem dX4_keep_154 : decode cX4_keep 154 = .ok (.return_, 1) := by decide +kernel
theorem dX4_isEmpty_0 : decode cX4_isEmpty 0 = .ok (.iconst 1, 1) := by decide +kernel
theorem dX4_isEmpty_1 : decode cX4_isEmpty 1 = .ok (.istore_n 3, 1) := by decide +kernel
theorem dX4_isEmpty_2 : decode cX4_isEmpty 2 = .ok (.iconst 0, 1) := by decide +kernel
theorem dX4_isEmpty_3 : decode cX4_isEmpty 3 = .ok (.istore 4, 2) := by decide +kernel
theorem dX4_isEmpty_5 : decode cX4_isEmpty 5 = .ok (.iload 4, 2) := by decide +kernel
theorem dX4_isEmpty_7 : decode cX4_isEmpty 7 = .ok (.aload_n 0, 1) := by decide +kernel
theorem dX4_isEmpty_8 : decode cX4_isEmpty 8 = .ok (.getfield 144, 3) := by decide +kernel
theorem dX4_isEmpty_11 : decode cX4_isEmpty 11 = .ok (.if_icmp .ge 51, 3) := by decide +kernel
theorem dX4_isEmpty_14 : decode cX4_isEmpty 14 = .ok (.iload_n 3, 1) := by decide +kernel
theorem dX4_isEmpty_15 : decode cX4_isEmpty 15 = .ok (.ifCond .eq 39, 3) := by decide +kernel
theorem dX4_isEmpty_18 : decode cX4_isEmpty 18 = .ok (.aload_n 0, 1) := by decide +kernel
theorem dX4_isEmpty_19 : decode cX4_isEmpty 19 = .ok (.getfield 50, 3) := by decide +kernel
theorem dX4_isEmpty_22 : decode cX4_isEmpty 22 = .ok (.aload_n 0, 1) := by decide +kernel
theorem dX4_isEmpty_23 : decode cX4_isEmpty 23 = .ok (.getfield 41, 3) := by decide +kernel
theorem dX4_isEmpty_26 : decode cX4_isEmpty 26 = .ok (.iload 4, 2) := by decide +kernel
theorem dX4_isEmpty_28 : decode cX4_isEmpty 28 = .ok (.iaload, 1) := by decide +kernel
theorem dX4_isEmpty_29 : decode cX4_isEmpty 29 = .ok (.iaload, 1) := by decide +kernel
theorem dX4_isEmpty_30 : decode cX4_isEmpty 30 = .ok (.iload_n 1, 1) := by decide +kernel
theorem dX4_isEmpty_31 : decode cX4_isEmpty 31 = .ok (.if_icmp .ne 19, 3) := by decide +kernel
theorem dX4_isEmpty_34 : decode cX4_isEmpty 34 = .ok (.aload_n 0, 1) := by decide +kernel
theorem dX4_isEmpty_35 : decode cX4_isEmpty 35 = .ok (.getfield 53, 3) := by decide +kernel
theorem dX4_isEmpty_38 : decode cX4_isEmpty 38 = .ok (.aload_n 0, 1) := by decide +kernel
theorem dX4_isEmpty_39 : decode cX4_isEmpty 39 = .ok (.getfield 41, 3) := by decide +kernel
theorem dX4_isEmpty_42 : decode cX4_isEmpty 42 = .ok (.iload 4, 2) := by decide +kernel
theorem dX4_isEmpty_44 : decode cX4_isEmpty 44 = .ok (.iaload, 1) := by decide +kernel
theorem dX4_isEmpty_45 : decode cX4_isEmpty 45 = .ok (.iaload, 1) := by decide +kernel
theorem dX4_isEmpty_46 : decode cX4_isEmpty 46 = .ok (.iload_n 2, 1) := by decide +kernel
theorem dX4_isEmpty_47 : decode cX4_isEmpty 47 = .ok (.if_icmp .eq 7, 3) := by decide +kernel
theorem dX4_isEmpty_50 : decode cX4_isEmpty 50 = .ok (.iconst 1, 1) := by decide +kernel
theorem dX4_isEmpty_51 : decode cX4_isEmpty 51 = .ok (.goto 4, 3) := by decide +kernel
theorem dX4_isEmpty_54 : decode cX4_isEmpty 54 = .ok (.iconst 0, 1) := by decide +kernel
theorem dX4_isEmpty_55 : decode cX4_isEmpty 55 = .ok (.istore_n 3, 1) := by decide +kernel
theorem dX4_isEmpty_56 : decode cX4_isEmpty 56 = .ok (.iinc 4 1, 3) := by decide +kernel
theorem dX4_isEmpty_59 : decode cX4_isEmpty 59 = .ok (.goto (-54), 3) := by decide +kernel
theorem dX4_isEmpty_62 : decode cX4_isEmpty 62 = .ok (.iload_n 3, 1) := by decide +kernel
theorem dX4_isEmpty_63 : decode cX4_isEmpty 63 = .ok (.ireturn, 1) := by decide +kernel
theorem dX4_told_0 : decode cX4_told 0 = .ok (.iload_n 1, 1) := by decide +kernel
theorem dX4_told_1 : decode cX4_told 1 = .ok (.iconst 5, 1) := by decide +kernel
theorem dX4_told_2 : decode cX4_told 2 = .ok (.if_icmp .ne 16, 3) := by decide +kernel
theorem dX4_told_5 : decode cX4_told 5 = .ok (.aload_n 0, 1) := by decide +kernel
theorem dX4_told_6 : decode cX4_told 6 = .ok (.getfield 140, 3) := by decide +kernel
theorem dX4_told_9 : decode cX4_told 9 = .ok (.ifCond .eq 7, 3) := by decide +kernel
theorem dX4_told_12 : decode cX4_told 12 = .ok (.iconst 1, 1) := by decide +kernel
theorem dX4_told_13 : decode cX4_told 13 = .ok (.goto 4, 3) := by decide +kernel
theorem dX4_told_16 : decode cX4_told 16 = .ok (.iconst 0, 1) := by decide +kernel
theorem dX4_told_17 : decode cX4_told 17 = .ok (.ireturn, 1) := by decide +kernel
theorem dX4_told_18 : decode cX4_told 18 = .ok (.iload_n 1, 1) := by decide +kernel
theorem dX4_told_19 : decode cX4_told 19 = .ok (.ifCond .ne 10, 3) := by decide +kernel
theorem dX4_told_22 : decode cX4_told 22 = .ok (.aload_n 0, 1) := by decide +kernel
theorem dX4_told_23 : decode cX4_told 23 = .ok (.getfield 118, 3) := by decide +kernel
theorem dX4_told_26 : decode cX4_told 26 = .ok (.goto 65, 3) := by decide +kernel
theorem dX4_told_29 : decode cX4_told 29 = .ok (.iload_n 1, 1) := by decide +kernel
theorem dX4_told_30 : decode cX4_told 30 = .ok (.iconst 1, 1) := by decide +kernel
theorem dX4_told_31 : decode cX4_told 31 = .ok (.if_icmp .ne 10, 3) := by decide +kernel
theorem dX4_told_34 : decode cX4_told 34 = .ok (.aload_n 0, 1) := by decide +kernel
theorem dX4_told_35 : decode cX4_told 35 = .ok (.getfield 115, 3) := by decide +kernel
theorem dX4_told_38 : decode cX4_told 38 = .ok (.goto 53, 3) := by decide +kernel
theorem dX4_told_41 : decode cX4_told 41 = .ok (.iload_n 1, 1) := by decide +kernel
theorem dX4_told_42 : decode cX4_told 42 = .ok (.iconst 2, 1) := by decide +kernel
theorem dX4_told_43 : decode cX4_told 43 = .ok (.if_icmp .ne 10, 3) := by decide +kernel
theorem dX4_told_46 : decode cX4_told 46 = .ok (.aload_n 0, 1) := by decide +kernel
theorem dX4_told_47 : decode cX4_told 47 = .ok (.getfield 131, 3) := by decide +kernel
theorem dX4_told_50 : decode cX4_told 50 = .ok (.goto 41, 3) := by decide +kernel
theorem dX4_told_53 : decode cX4_told 53 = .ok (.iload_n 1, 1) := by decide +kernel
theorem dX4_told_54 : decode cX4_told 54 = .ok (.iconst 3, 1) := by decide +kernel
theorem dX4_told_55 : decode cX4_told 55 = .ok (.if_icmp .ne 10, 3) := by decide +kernel
theorem dX4_told_58 : decode cX4_told 58 = .ok (.aload_n 0, 1) := by decide +kernel
theorem dX4_told_59 : decode cX4_told 59 = .ok (.getfield 182, 3) := by decide +kernel
theorem dX4_told_62 : decode cX4_told 62 = .ok (.goto 29, 3) := by decide +kernel
theorem dX4_told_65 : decode cX4_told 65 = .ok (.iload_n 1, 1) := by decide +kernel
theorem dX4_told_66 : decode cX4_told 66 = .ok (.iconst 4, 1) := by decide +kernel
theorem dX4_told_67 : decode cX4_told 67 = .ok (.if_icmp .ne 10, 3) := by decide +kernel
theorem dX4_told_70 : decode cX4_told 70 = .ok (.aload_n 0, 1) := by decide +kernel
theorem dX4_told_71 : decode cX4_told 71 = .ok (.getfield 134, 3) := by decide +kernel
theorem dX4_told_74 : decode cX4_told 74 = .ok (.goto 17, 3) := by decide +kernel
theorem dX4_told_77 : decode cX4_told 77 = .ok (.iload_n 1, 1) := by decide +kernel
theorem dX4_told_78 : decode cX4_told 78 = .ok (.bipush 6, 2) := by decide +kernel
theorem dX4_told_80 : decode cX4_told 80 = .ok (.if_icmp .ne 10, 3) := by decide +kernel
theorem dX4_told_83 : decode cX4_told 83 = .ok (.aload_n 0, 1) := by decide +kernel
theorem dX4_told_84 : decode cX4_told 84 = .ok (.getfield 111, 3) := by decide +kernel
theorem dX4_told_87 : decode cX4_told 87 = .ok (.goto 4, 3) := by decide +kernel
theorem dX4_told_90 : decode cX4_told 90 = .ok (.iconst (-1), 1) := by decide +kernel
theorem dX4_told_91 : decode cX4_told 91 = .ok (.ireturn, 1) := by decide +kernel
theorem dX4_best_0 : decode cX4_best 0 = .ok (.iload_n 1, 1) := by decide +kernel
theorem dX4_best_1 : decode cX4_best 1 = .ok (.ifCond .lt 8, 3) := by decide +kernel
theorem dX4_best_4 : decode cX4_best 4 = .ok (.iload_n 1, 1) := by decide +kernel
theorem dX4_best_5 : decode cX4_best 5 = .ok (.iconst 4, 1) := by decide +kernel
theorem dX4_best_6 : decode cX4_best 6 = .ok (.if_icmp .le 5, 3) := by decide +kernel
theorem dX4_best_9 : decode cX4_best 9 = .ok (.iconst (-1), 1) := by decide +kernel
theorem dX4_best_10 : decode cX4_best 10 = .ok (.ireturn, 1) := by decide +kernel
theorem dX4_best_11 : decode cX4_best 11 = .ok (.iload_n 1, 1) := by decide +kernel
theorem dX4_best_12 : decode cX4_best 12 = .ok (.iconst 3, 1) := by decide +kernel
theorem dX4_best_13 : decode cX4_best 13 = .ok (.if_icmp .ge 45, 3) := by decide +kernel
theorem dX4_best_16 : decode cX4_best 16 = .ok (.aload_n 0, 1) := by decide +kernel
theorem dX4_best_17 : decode cX4_best 17 = .ok (.getfield 137, 3) := by decide +kernel
theorem dX4_best_20 : decode cX4_best 20 = .ok (.bipush (-9), 2) := by decide +kernel
theorem dX4_best_22 : decode cX4_best 22 = .ok (.if_icmp .ne 8, 3) := by decide +kernel
theorem dX4_best_25 : decode cX4_best 25 = .ok (.bipush (-9), 2) := by decide +kernel
theorem dX4_best_27 : decode cX4_best 27 = .ok (.goto 30, 3) := by decide +kernel
theorem dX4_best_30 : decode cX4_best 30 = .ok (.iload_n 1, 1) := by decide +kernel
theorem dX4_best_31 : decode cX4_best 31 = .ok (.ifCond .ne 10, 3) := by decide +kernel
theorem dX4_best_34 : decode cX4_best 34 = .ok (.aload_n 0, 1) := by decide +kernel
theorem dX4_best_35 : decode cX4_best 35 = .ok (.getfield 235, 3) := by decide +kernel
theorem dX4_best_38 : decode cX4_best 38 = .ok (.goto 19, 3) := by decide +kernel
theorem dX4_best_41 : decode cX4_best 41 = .ok (.iload_n 1, 1) := by decide +kernel
theorem dX4_best_42 : decode cX4_best 42 = .ok (.iconst 1, 1) := by decide +kernel
theorem dX4_best_43 : decode cX4_best 43 = .ok (.if_icmp .ne 10, 3) := by decide +kernel
theorem dX4_best_46 : decode cX4_best 46 = .ok (.aload_n 0, 1) := by decide +kernel
theorem dX4_best_47 : decode cX4_best 47 = .ok (.getfield 238, 3) := by decide +kernel
theorem dX4_best_50 : decode cX4_best 50 = .ok (.goto 7, 3) := by decide +kernel
theorem dX4_best_53 : decode cX4_best 53 = .ok (.aload_n 0, 1) := by decide +kernel
theorem dX4_best_54 : decode cX4_best 54 = .ok (.getfield 137, 3) := by decide +kernel
theorem dX4_best_57 : decode cX4_best 57 = .ok (.ireturn, 1) := by decide +kernel
theorem dX4_best_58 : decode cX4_best 58 = .ok (.aload_n 0, 1) := by decide +kernel
theorem dX4_best_59 : decode cX4_best 59 = .ok (.getfield 137, 3) := by decide +kernel
theorem dX4_best_62 : decode cX4_best 62 = .ok (.bipush (-9), 2) := by decide +kernel
theorem dX4_best_64 : decode cX4_best 64 = .ok (.if_icmp .eq 11, 3) := by decide +kernel
theorem dX4_best_67 : decode cX4_best 67 = .ok (.aload_n 0, 1) := by decide +kernel
theorem dX4_best_68 : decode cX4_best 68 = .ok (.iload_n 2, 1) := by decide +kernel
theorem dX4_best_69 : decode cX4_best 69 = .ok (.invokevirtual 185, 3) := by decide +kernel
theorem dX4_best_72 : decode cX4_best 72 = .ok (.ifCond .ne 9, 3) := by decide +kernel
theorem dX4_best_75 : decode cX4_best 75 = .ok (.sipush (-1000), 3) := by decide +kernel
theorem dX4_best_78 : decode cX4_best 78 = .ok (.goto 23, 3) := by decide +kernel
theorem dX4_best_81 : decode cX4_best 81 = .ok (.iload_n 1, 1) := by decide +kernel
theorem dX4_best_82 : decode cX4_best 82 = .ok (.iconst 3, 1) := by decide +kernel
theorem dX4_best_83 : decode cX4_best 83 = .ok (.if_icmp .ne 12, 3) := by decide +kernel
theorem dX4_best_86 : decode cX4_best 86 = .ok (.aload_n 0, 1) := by decide +kernel
theorem dX4_best_87 : decode cX4_best 87 = .ok (.getfield 62, 3) := by decide +kernel
theorem dX4_best_90 : decode cX4_best 90 = .ok (.iload_n 2, 1) := by decide +kernel
theorem dX4_best_91 : decode cX4_best 91 = .ok (.iaload, 1) := by decide +kernel
theorem dX4_best_92 : decode cX4_best 92 = .ok (.goto 9, 3) := by decide +kernel
theorem dX4_best_95 : decode cX4_best 95 = .ok (.aload_n 0, 1) := by decide +kernel
theorem dX4_best_96 : decode cX4_best 96 = .ok (.getfield 65, 3) := by decide +kernel
theorem dX4_best_99 : decode cX4_best 99 = .ok (.iload_n 2, 1) := by decide +kernel
theorem dX4_best_100 : decode cX4_best 100 = .ok (.iaload, 1) := by decide +kernel
theorem dX4_best_101 : decode cX4_best 101 = .ok (.ireturn, 1) := by decide +kernel
theorem dX4_shape_0 : decode cX4_shape 0 = .ok (.aload_n 0, 1) := by decide +kernel
theorem dX4_shape_1 : decode cX4_shape 1 = .ok (.iload_n 1, 1) := by decide +kernel
theorem dX4_shape_2 : decode cX4_shape 2 = .ok (.invokevirtual 250, 3) := by decide +kernel
theorem dX4_shape_5 : decode cX4_shape 5 = .ok (.ifCond .eq 26, 3) := by decide +kernel
theorem dX4_shape_8 : decode cX4_shape 8 = .ok (.iload_n 2, 1) := by decide +kernel
theorem dX4_shape_9 : decode cX4_shape 9 = .ok (.ifCond .lt 22, 3) := by decide +kernel
theorem dX4_shape_12 : decode cX4_shape 12 = .ok (.iload_n 2, 1) := by decide +kernel
theorem dX4_shape_13 : decode cX4_shape 13 = .ok (.aload_n 0, 1) := by decide +kernel
theorem dX4_shape_14 : decode cX4_shape 14 = .ok (.getfield 68, 3) := by decide +kernel
theorem dX4_shape_17 : decode cX4_shape 17 = .ok (.iload_n 1, 1) := by decide +kernel
theorem dX4_shape_18 : decode cX4_shape 18 = .ok (.iaload, 1) := by decide +kernel
theorem dX4_shape_19 : decode cX4_shape 19 = .ok (.if_icmp .ge 12, 3) := by decide +kernel
theorem dX4_shape_22 : decode cX4_shape 22 = .ok (.iload_n 3, 1) := by decide +kernel
theorem dX4_shape_23 : decode cX4_shape 23 = .ok (.ifCond .lt 8, 3) := by decide +kernel
theorem dX4_shape_26 : decode cX4_shape 26 = .ok (.iload_n 3, 1) := by decide +kernel
theorem dX4_shape_27 : decode cX4_shape 27 = .ok (.iconst 1, 1) := by decide +kernel
theorem dX4_shape_28 : decode cX4_shape 28 = .ok (.if_icmp .le 5, 3) := by decide +kernel
theorem dX4_shape_31 : decode cX4_shape 31 = .ok (.iconst (-1), 1) := by decide +kernel
theorem dX4_shape_32 : decode cX4_shape 32 = .ok (.ireturn, 1) := by decide +kernel
theorem dX4_shape_33 : decode cX4_shape 33 = .ok (.iload_n 3, 1) := by decide +kernel
theorem dX4_shape_34 : decode cX4_shape 34 = .ok (.ifCond .ne 20, 3) := by decide +kernel
theorem dX4_shape_37 : decode cX4_shape 37 = .ok (.aload_n 0, 1) := by decide +kernel
theorem dX4_shape_38 : decode cX4_shape 38 = .ok (.getfield 71, 3) := by decide +kernel
theorem dX4_shape_41 : decode cX4_shape 41 = .ok (.bipush 30, 2) := by decide +kernel
theorem dX4_shape_43 : decode cX4_shape 43 = .ok (.iload_n 1, 1) := by decide +kernel
theorem dX4_shape_44 : decode cX4_shape 44 = .ok (.imul, 1) := by decide +kernel
theorem dX4_shape_45 : decode cX4_shape 45 = .ok (.iload_n 2, 1) := by decide +kernel
theorem dX4_shape_46 : decode cX4_shape 46 = .ok (.iadd, 1) := by decide +kernel
theorem dX4_shape_47 : decode cX4_shape 47 = .ok (.iaload, 1) := by decide +kernel
theorem dX4_shape_48 : decode cX4_shape 48 = .ok (.bipush 32, 2) := by decide +kernel
theorem dX4_shape_50 : decode cX4_shape 50 = .ok (.irem, 1) := by decide +kernel
theorem dX4_shape_51 : decode cX4_shape 51 = .ok (.goto 17, 3) := by decide +kernel
theorem dX4_shape_54 : decode cX4_shape 54 = .ok (.aload_n 0, 1) := by decide +kernel
theorem dX4_shape_55 : decode cX4_shape 55 = .ok (.getfield 71, 3) := by decide +kernel
theorem dX4_shape_58 : decode cX4_shape 58 = .ok (.bipush 30, 2) := by decide +kernel
theorem dX4_shape_60 : decode cX4_shape 60 = .ok (.iload_n 1, 1) := by decide +kernel
theorem dX4_shape_61 : decode cX4_shape 61 = .ok (.imul, 1) := by decide +kernel
theorem dX4_shape_62 : decode cX4_shape 62 = .ok (.iload_n 2, 1) := by decide +kernel
theorem dX4_shape_63 : decode cX4_shape 63 = .ok (.iadd, 1) := by decide +kernel
theorem dX4_shape_64 : decode cX4_shape 64 = .ok (.iaload, 1) := by decide +kernel
theorem dX4_shape_65 : decode cX4_shape 65 = .ok (.bipush 32, 2) := by decide +kernel
theorem dX4_shape_67 : decode cX4_shape 67 = .ok (.idiv, 1) := by decide +kernel
theorem dX4_shape_68 : decode cX4_shape 68 = .ok (.ireturn, 1) := by decide +kernel
theorem dX4_isShape_0 : decode cX4_isShape 0 = .ok (.iload_n 1, 1) := by decide +kernel
theorem dX4_isShape_1 : decode cX4_isShape 1 = .ok (.ifCond .lt 15, 3) := by decide +kernel
theorem dX4_isShape_4 : decode cX4_isShape 4 = .ok (.iload_n 1, 1) := by decide +kernel
theorem dX4_isShape_5 : decode cX4_isShape 5 = .ok (.aload_n 0, 1) := by decide +kernel
theorem dX4_isShape_6 : decode cX4_isShape 6 = .ok (.getfield 182, 3) := by decide +kernel
theorem dX4_isShape_9 : decode cX4_isShape 9 = .ok (.if_icmp .ge 7, 3) := by decide +kernel
theorem dX4_isShape_12 : decode cX4_isShape 12 = .ok (.iconst 1, 1) := by decide +kernel
theorem dX4_isShape_13 : decode cX4_isShape 13 = .ok (.goto 4, 3) := by decide +kernel
theorem dX4_isShape_16 : decode cX4_isShape 16 = .ok (.iconst 0, 1) := by decide +kernel
theorem dX4_isShape_17 : decode cX4_isShape 17 = .ok (.ireturn, 1) := by decide +kernel
theorem dX4_size_0 : decode cX4_size 0 = .ok (.aload_n 0, 1) := by decide +kernel
theorem dX4_size_1 : decode cX4_size 1 = .ok (.iload_n 1, 1) := by decide +kernel
theorem dX4_size_2 : decode cX4_size 2 = .ok (.invokevirtual 250, 3) := by decide +kernel
theorem dX4_size_5 : decode cX4_size 5 = .ok (.ifCond .eq 12, 3) := by decide +kernel
theorem dX4_size_8 : decode cX4_size 8 = .ok (.aload_n 0, 1) := by decide +kernel
theorem dX4_size_9 : decode cX4_size 9 = .ok (.getfield 68, 3) := by decide +kernel
theorem dX4_size_12 : decode cX4_size 12 = .ok (.iload_n 1, 1) := by decide +kernel
theorem dX4_size_13 : decode cX4_size 13 = .ok (.iaload, 1) := by decide +kernel
theorem dX4_size_14 : decode cX4_size 14 = .ok (.goto 4, 3) := by decide +kernel
theorem dX4_size_17 : decode cX4_size 17 = .ok (.iconst (-1), 1) := by decide +kernel
theorem dX4_size_18 : decode cX4_size 18 = .ok (.ireturn, 1) := by decide +kernel
theorem dX4_wraps_0 : decode cX4_wraps 0 = .ok (.aload_n 0, 1) := by decide +kernel
theorem dX4_wraps_1 : decode cX4_wraps 1 = .ok (.iload_n 1, 1) := by decide +kernel
theorem dX4_wraps_2 : decode cX4_wraps 2 = .ok (.invokevirtual 250, 3) := by decide +kernel
theorem dX4_wraps_5 : decode cX4_wraps 5 = .ok (.ifCond .ne 5, 3) := by decide +kernel
theorem dX4_wraps_8 : decode cX4_wraps 8 = .ok (.iconst (-1), 1) := by decide +kernel
theorem dX4_wraps_9 : decode cX4_wraps 9 = .ok (.ireturn, 1) := by decide +kernel
theorem dX4_wraps_10 : decode cX4_wraps 10 = .ok (.aload_n 0, 1) := by decide +kernel
theorem dX4_wraps_11 : decode cX4_wraps 11 = .ok (.getfield 118, 3) := by decide +kernel
theorem dX4_wraps_14 : decode cX4_wraps 14 = .ok (.ifCond .ne 6, 3) := by decide +kernel
theorem dX4_wraps_17 : decode cX4_wraps 17 = .ok (.bipush (-2), 2) := by decide +kernel
theorem dX4_wraps_19 : decode cX4_wraps 19 = .ok (.ireturn, 1) := by decide +kernel
theorem dX4_wraps_20 : decode cX4_wraps 20 = .ok (.iconst 0, 1) := by decide +kernel
theorem dX4_wraps_21 : decode cX4_wraps 21 = .ok (.istore_n 2, 1) := by decide +kernel
theorem dX4_wraps_22 : decode cX4_wraps 22 = .ok (.iconst 0, 1) := by decide +kernel
theorem dX4_wraps_23 : decode cX4_wraps 23 = .ok (.istore_n 3, 1) := by decide +kernel
theorem dX4_wraps_24 : decode cX4_wraps 24 = .ok (.iload_n 3, 1) := by decide +kernel
theorem dX4_wraps_25 : decode cX4_wraps 25 = .ok (.aload_n 0, 1) := by decide +kernel
theorem dX4_wraps_26 : decode cX4_wraps 26 = .ok (.getfield 115, 3) := by decide +kernel
theorem dX4_wraps_29 : decode cX4_wraps 29 = .ok (.if_icmp .ge 57, 3) := by decide +kernel
theorem dX4_wraps_32 : decode cX4_wraps 32 = .ok (.aload_n 0, 1) := by decide +kernel
theorem dX4_wraps_33 : decode cX4_wraps 33 = .ok (.getfield 68, 3) := by decide +kernel
theorem dX4_wraps_36 : decode cX4_wraps 36 = .ok (.iload_n 1, 1) := by decide +kernel
theorem dX4_wraps_37 : decode cX4_wraps 37 = .ok (.iaload, 1) := by decide +kernel
theorem dX4_wraps_38 : decode cX4_wraps 38 = .ok (.aload_n 0, 1) := by decide +kernel
theorem dX4_wraps_39 : decode cX4_wraps 39 = .ok (.getfield 115, 3) := by decide +kernel
theorem dX4_wraps_42 : decode cX4_wraps 42 = .ok (.if_icmp .ne 44, 3) := by decide +kernel
theorem dX4_wraps_45 : decode cX4_wraps 45 = .ok (.iconst 0, 1) := by decide +kernel
theorem dX4_wraps_46 : decode cX4_wraps 46 = .ok (.istore 4, 2) := by decide +kernel
theorem dX4_wraps_48 : decode cX4_wraps 48 = .ok (.iload 4, 2) := by decide +kernel
theorem dX4_wraps_50 : decode cX4_wraps 50 = .ok (.bipush 8, 2) := by decide +kernel
theorem dX4_wraps_52 : decode cX4_wraps 52 = .ok (.if_icmp .ge 28, 3) := by decide +kernel
theorem dX4_wraps_55 : decode cX4_wraps 55 = .ok (.iload_n 2, 1) := by decide +kernel
theorem dX4_wraps_56 : decode cX4_wraps 56 = .ok (.aload_n 0, 1) := by decide +kernel
theorem dX4_wraps_57 : decode cX4_wraps 57 = .ok (.iload_n 1, 1) := by decide +kernel
theorem dX4_wraps_58 : decode cX4_wraps 58 = .ok (.iload_n 3, 1) := by decide +kernel
theorem dX4_wraps_59 : decode cX4_wraps 59 = .ok (.iload 4, 2) := by decide +kernel
theorem dX4_wraps_61 : decode cX4_wraps 61 = .ok (.invokevirtual 256, 3) := by decide +kernel
theorem dX4_wraps_64 : decode cX4_wraps 64 = .ok (.ifCond .eq 7, 3) := by decide +kernel
theorem dX4_wraps_67 : decode cX4_wraps 67 = .ok (.iconst 1, 1) := by decide +kernel
theorem dX4_wraps_68 : decode cX4_wraps 68 = .ok (.goto 4, 3) := by decide +kernel
theorem dX4_wraps_71 : decode cX4_wraps 71 = .ok (.iconst 0, 1) := by decide +kernel
theorem dX4_wraps_72 : decode cX4_wraps 72 = .ok (.iadd, 1) := by decide +kernel
theorem dX4_wraps_73 : decode cX4_wraps 73 = .ok (.istore_n 2, 1) := by decide +kernel
theorem dX4_wraps_74 : decode cX4_wraps 74 = .ok (.iinc 4 1, 3) := by decide +kernel
theorem dX4_wraps_77 : decode cX4_wraps 77 = .ok (.goto (-29), 3) := by decide +kernel
theorem dX4_wraps_80 : decode cX4_wraps 80 = .ok (.iinc 3 1, 3) := by decide +kernel
theorem dX4_wraps_83 : decode cX4_wraps 83 = .ok (.goto (-59), 3) := by decide +kernel
theorem dX4_wraps_86 : decode cX4_wraps 86 = .ok (.iload_n 2, 1) := by decide +kernel
theorem dX4_wraps_87 : decode cX4_wraps 87 = .ok (.ireturn, 1) := by decide +kernel
theorem dX4_isWrapped_0 : decode cX4_isWrapped 0 = .ok (.aload_n 0, 1) := by decide +kernel
theorem dX4_isWrapped_1 : decode cX4_isWrapped 1 = .ok (.getfield 68, 3) := by decide +kernel
theorem dX4_isWrapped_4 : decode cX4_isWrapped 4 = .ok (.iload_n 1, 1) := by decide +kernel
theorem dX4_isWrapped_5 : decode cX4_isWrapped 5 = .ok (.iaload, 1) := by decide +kernel
theorem dX4_isWrapped_6 : decode cX4_isWrapped 6 = .ok (.istore 4, 2) := by decide +kernel
theorem dX4_isWrapped_8 : decode cX4_isWrapped 8 = .ok (.iconst 0, 1) := by decide +kernel
theorem dX4_isWrapped_9 : decode cX4_isWrapped 9 = .ok (.istore 5, 2) := by decide +kernel
theorem dX4_isWrapped_11 : decode cX4_isWrapped 11 = .ok (.iload 5, 2) := by decide +kernel
theorem dX4_isWrapped_13 : decode cX4_isWrapped 13 = .ok (.iload 4, 2) := by decide +kernel
theorem dX4_isWrapped_15 : decode cX4_isWrapped 15 = .ok (.if_icmp .ge 82, 3) := by decide +kernel
theorem dX4_isWrapped_18 : decode cX4_isWrapped 18 = .ok (.aload_n 0, 1) := by decide +kernel
theorem dX4_isWrapped_19 : decode cX4_isWrapped 19 = .ok (.getfield 71, 3) := by decide +kernel
theorem dX4_isWrapped_22 : decode cX4_isWrapped 22 = .ok (.bipush 30, 2) := by decide +kernel
theorem dX4_isWrapped_24 : decode cX4_isWrapped 24 = .ok (.iload_n 1, 1) := by decide +kernel
theorem dX4_isWrapped_25 : decode cX4_isWrapped 25 = .ok (.imul, 1) := by decide +kernel
theorem dX4_isWrapped_26 : decode cX4_isWrapped 26 = .ok (.iload 5, 2) := by decide +kernel
theorem dX4_isWrapped_28 : decode cX4_isWrapped 28 = .ok (.iadd, 1) := by decide +kernel
theorem dX4_isWrapped_29 : decode cX4_isWrapped 29 = .ok (.iaload, 1) := by decide +kernel
theorem dX4_isWrapped_30 : decode cX4_isWrapped 30 = .ok (.bipush 32, 2) := by decide +kernel
theorem dX4_isWrapped_32 : decode cX4_isWrapped 32 = .ok (.irem, 1) := by decide +kernel
theorem dX4_isWrapped_33 : decode cX4_isWrapped 33 = .ok (.istore 6, 2) := by decide +kernel
theorem dX4_isWrapped_35 : decode cX4_isWrapped 35 = .ok (.aload_n 0, 1) := by decide +kernel
theorem dX4_isWrapped_36 : decode cX4_isWrapped 36 = .ok (.getfield 71, 3) := by decide +kernel
theorem dX4_isWrapped_39 : decode cX4_isWrapped 39 = .ok (.bipush 30, 2) := by decide +kernel
theorem dX4_isWrapped_41 : decode cX4_isWrapped 41 = .ok (.iload_n 1, 1) := by decide +kernel
theorem dX4_isWrapped_42 : decode cX4_isWrapped 42 = .ok (.imul, 1) := by decide +kernel
theorem dX4_isWrapped_43 : decode cX4_isWrapped 43 = .ok (.iload 5, 2) := by decide +kernel
theorem dX4_isWrapped_45 : decode cX4_isWrapped 45 = .ok (.iadd, 1) := by decide +kernel
theorem dX4_isWrapped_46 : decode cX4_isWrapped 46 = .ok (.iaload, 1) := by decide +kernel
theorem dX4_isWrapped_47 : decode cX4_isWrapped 47 = .ok (.bipush 32, 2) := by decide +kernel
theorem dX4_isWrapped_49 : decode cX4_isWrapped 49 = .ok (.idiv, 1) := by decide +kernel
theorem dX4_isWrapped_50 : decode cX4_isWrapped 50 = .ok (.istore 7, 2) := by decide +kernel
theorem dX4_isWrapped_52 : decode cX4_isWrapped 52 = .ok (.aload_n 0, 1) := by decide +kernel
theorem dX4_isWrapped_53 : decode cX4_isWrapped 53 = .ok (.getfield 84, 3) := by decide +kernel
theorem dX4_isWrapped_56 : decode cX4_isWrapped 56 = .ok (.iload 5, 2) := by decide +kernel
theorem dX4_isWrapped_58 : decode cX4_isWrapped 58 = .ok (.iload_n 3, 1) := by decide +kernel
theorem dX4_isWrapped_59 : decode cX4_isWrapped 59 = .ok (.iload 6, 2) := by decide +kernel
theorem dX4_isWrapped_61 : decode cX4_isWrapped 61 = .ok (.iload 7, 2) := by decide +kernel
theorem dX4_isWrapped_63 : decode cX4_isWrapped 63 = .ok (.invokestatic 241, 3) := by decide +kernel
theorem dX4_isWrapped_66 : decode cX4_isWrapped 66 = .ok (.iastore, 1) := by decide +kernel
theorem dX4_isWrapped_67 : decode cX4_isWrapped 67 = .ok (.aload_n 0, 1) := by decide +kernel
theorem dX4_isWrapped_68 : decode cX4_isWrapped 68 = .ok (.getfield 87, 3) := by decide +kernel
theorem dX4_isWrapped_71 : decode cX4_isWrapped 71 = .ok (.iload 5, 2) := by decide +kernel
theorem dX4_isWrapped_73 : decode cX4_isWrapped 73 = .ok (.iload_n 3, 1) := by decide +kernel
theorem dX4_isWrapped_74 : decode cX4_isWrapped 74 = .ok (.iload 6, 2) := by decide +kernel
theorem dX4_isWrapped_76 : decode cX4_isWrapped 76 = .ok (.iload 7, 2) := by decide +kernel
theorem dX4_isWrapped_78 : decode cX4_isWrapped 78 = .ok (.invokestatic 244, 3) := by decide +kernel
theorem dX4_isWrapped_81 : decode cX4_isWrapped 81 = .ok (.iastore, 1) := by decide +kernel
theorem dX4_isWrapped_82 : decode cX4_isWrapped 82 = .ok (.aload_n 0, 1) := by decide +kernel
theorem dX4_isWrapped_83 : decode cX4_isWrapped 83 = .ok (.getfield 96, 3) := by decide +kernel
theorem dX4_isWrapped_86 : decode cX4_isWrapped 86 = .ok (.iload 5, 2) := by decide +kernel
theorem dX4_isWrapped_88 : decode cX4_isWrapped 88 = .ok (.bipush (-9), 2) := by decide +kernel
theorem dX4_isWrapped_90 : decode cX4_isWrapped 90 = .ok (.iastore, 1) := by decide +kernel
theorem dX4_isWrapped_91 : decode cX4_isWrapped 91 = .ok (.iinc 5 1, 3) := by decide +kernel
theorem dX4_isWrapped_94 : decode cX4_isWrapped 94 = .ok (.goto (-83), 3) := by decide +kernel
theorem dX4_isWrapped_97 : decode cX4_isWrapped 97 = .ok (.aload_n 0, 1) := by decide +kernel
theorem dX4_isWrapped_98 : decode cX4_isWrapped 98 = .ok (.getfield 96, 3) := by decide +kernel
theorem dX4_isWrapped_101 : decode cX4_isWrapped 101 = .ok (.iconst 0, 1) := by decide +kernel
theorem dX4_isWrapped_102 : decode cX4_isWrapped 102 = .ok (.iload_n 2, 1) := by decide +kernel
theorem dX4_isWrapped_103 : decode cX4_isWrapped 103 = .ok (.iastore, 1) := by decide +kernel
theorem dX4_isWrapped_104 : decode cX4_isWrapped 104 = .ok (.aload_n 0, 1) := by decide +kernel
theorem dX4_isWrapped_105 : decode cX4_isWrapped 105 = .ok (.getfield 99, 3) := by decide +kernel
theorem dX4_isWrapped_108 : decode cX4_isWrapped 108 = .ok (.iconst 0, 1) := by decide +kernel
theorem dX4_isWrapped_109 : decode cX4_isWrapped 109 = .ok (.aload_n 0, 1) := by decide +kernel
theorem dX4_isWrapped_110 : decode cX4_isWrapped 110 = .ok (.getfield 22, 3) := by decide +kernel
theorem dX4_isWrapped_113 : decode cX4_isWrapped 113 = .ok (.iload_n 2, 1) := by decide +kernel
theorem dX4_isWrapped_114 : decode cX4_isWrapped 114 = .ok (.iaload, 1) := by decide +kernel
theorem dX4_isWrapped_115 : decode cX4_isWrapped 115 = .ok (.invokestatic 150, 3) := by decide +kernel
theorem dX4_isWrapped_118 : decode cX4_isWrapped 118 = .ok (.iastore, 1) := by decide +kernel
theorem dX4_isWrapped_119 : decode cX4_isWrapped 119 = .ok (.aload_n 0, 1) := by decide +kernel
theorem dX4_isWrapped_120 : decode cX4_isWrapped 120 = .ok (.getfield 102, 3) := by decide +kernel
theorem dX4_isWrapped_123 : decode cX4_isWrapped 123 = .ok (.iconst 0, 1) := by decide +kernel
theorem dX4_isWrapped_124 : decode cX4_isWrapped 124 = .ok (.aload_n 0, 1) := by decide +kernel
theorem dX4_isWrapped_125 : decode cX4_isWrapped 125 = .ok (.getfield 22, 3) := by decide +kernel
theorem dX4_isWrapped_128 : decode cX4_isWrapped 128 = .ok (.iload_n 2, 1) := by decide +kernel
theorem dX4_isWrapped_129 : decode cX4_isWrapped 129 = .ok (.iaload, 1) := by decide +kernel
theorem dX4_isWrapped_130 : decode cX4_isWrapped 130 = .ok (.invokestatic 154, 3) := by decide +kernel
theorem dX4_isWrapped_133 : decode cX4_isWrapped 133 = .ok (.iastore, 1) := by decide +kernel
theorem dX4_isWrapped_134 : decode cX4_isWrapped 134 = .ok (.aload_n 0, 1) := by decide +kernel
theorem dX4_isWrapped_135 : decode cX4_isWrapped 135 = .ok (.getfield 105, 3) := by decide +kernel
theorem dX4_isWrapped_138 : decode cX4_isWrapped 138 = .ok (.iconst 0, 1) := by decide +kernel
theorem dX4_isWrapped_139 : decode cX4_isWrapped 139 = .ok (.iconst 0, 1) := by decide +kernel
theorem dX4_isWrapped_140 : decode cX4_isWrapped 140 = .ok (.iastore, 1) := by decide +kernel
theorem dX4_isWrapped_141 : decode cX4_isWrapped 141 = .ok (.iconst 1, 1) := by decide +kernel
theorem dX4_isWrapped_142 : decode cX4_isWrapped 142 = .ok (.istore 5, 2) := by decide +kernel
theorem dX4_isWrapped_144 : decode cX4_isWrapped 144 = .ok (.iconst 0, 1) := by decide +kernel
theorem dX4_isWrapped_145 : decode cX4_isWrapped 145 = .ok (.istore 6, 2) := by decide +kernel
theorem dX4_isWrapped_147 : decode cX4_isWrapped 147 = .ok (.iload 6, 2) := by decide +kernel
theorem dX4_isWrapped_149 : decode cX4_isWrapped 149 = .ok (.iload 5, 2) := by decide +kernel
theorem dX4_isWrapped_151 : decode cX4_isWrapped 151 = .ok (.if_icmp .ge 256, 3) := by decide +kernel
theorem dX4_isWrapped_154 : decode cX4_isWrapped 154 = .ok (.aload_n 0, 1) := by decide +kernel
theorem dX4_isWrapped_155 : decode cX4_isWrapped 155 = .ok (.getfield 105, 3) := by decide +kernel
theorem dX4_isWrapped_158 : decode cX4_isWrapped 158 = .ok (.iload 6, 2) := by decide +kernel
theorem dX4_isWrapped_160 : decode cX4_isWrapped 160 = .ok (.iaload, 1) := by decide +kernel
theorem dX4_isWrapped_161 : decode cX4_isWrapped 161 = .ok (.istore 7, 2) := by decide +kernel
theorem dX4_isWrapped_163 : decode cX4_isWrapped 163 = .ok (.iconst 0, 1) := by decide +kernel
theorem dX4_isWrapped_164 : decode cX4_isWrapped 164 = .ok (.istore 8, 2) := by decide +kernel
theorem dX4_isWrapped_166 : decode cX4_isWrapped 166 = .ok (.iload 8, 2) := by decide +kernel
theorem dX4_isWrapped_168 : decode cX4_isWrapped 168 = .ok (.iconst 4, 1) := by decide +kernel
theorem dX4_isWrapped_169 : decode cX4_isWrapped 169 = .ok (.if_icmp .ge 232, 3) := by decide +kernel
theorem dX4_isWrapped_172 : decode cX4_isWrapped 172 = .ok (.aload_n 0, 1) := by decide +kernel
theorem dX4_isWrapped_173 : decode cX4_isWrapped 173 = .ok (.iload 4, 2) := by decide +kernel
theorem dX4_isWrapped_175 : decode cX4_isWrapped 175 = .ok (.aload_n 0, 1) := by decide +kernel
theorem dX4_isWrapped_176 : decode cX4_isWrapped 176 = .ok (.getfield 84, 3) := by decide +kernel
theorem dX4_isWrapped_179 : decode cX4_isWrapped 179 = .ok (.iload 7, 2) := by decide +kernel
theorem dX4_isWrapped_181 : decode cX4_isWrapped 181 = .ok (.iaload, 1) := by decide +kernel
theorem dX4_isWrapped_182 : decode cX4_isWrapped 182 = .ok (.iload 8, 2) := by decide +kernel
theorem dX4_isWrapped_184 : decode cX4_isWrapped 184 = .ok (.invokestatic 208, 3) := by decide +kernel
theorem dX4_isWrapped_187 : decode cX4_isWrapped 187 = .ok (.iadd, 1) := by decide +kernel
theorem dX4_isWrapped_188 : decode cX4_isWrapped 188 = .ok (.aload_n 0, 1) := by decide +kernel
theorem dX4_isWrapped_189 : decode cX4_isWrapped 189 = .ok (.getfield 87, 3) := by decide +kernel
theorem dX4_isWrapped_192 : decode cX4_isWrapped 192 = .ok (.iload 7, 2) := by decide +kernel
theorem dX4_isWrapped_194 : decode cX4_isWrapped 194 = .ok (.iaload, 1) := by decide +kernel
theorem dX4_isWrapped_195 : decode cX4_isWrapped 195 = .ok (.iload 8, 2) := by decide +kernel
theorem dX4_isWrapped_197 : decode cX4_isWrapped 197 = .ok (.invokestatic 211, 3) := by decide +kernel
theorem dX4_isWrapped_200 : decode cX4_isWrapped 200 = .ok (.iadd, 1) := by decide +kernel
theorem dX4_isWrapped_201 : decode cX4_isWrapped 201 = .ok (.invokevirtual 253, 3) := by decide +kernel
theorem dX4_isWrapped_204 : decode cX4_isWrapped 204 = .ok (.istore 9, 2) := by decide +kernel
theorem dX4_isWrapped_206 : decode cX4_isWrapped 206 = .ok (.iload 9, 2) := by decide +kernel
theorem dX4_isWrapped_208 : decode cX4_isWrapped 208 = .ok (.bipush (-9), 2) := by decide +kernel
theorem dX4_isWrapped_210 : decode cX4_isWrapped 210 = .ok (.if_icmp .eq 185, 3) := by decide +kernel
theorem dX4_isWrapped_213 : decode cX4_isWrapped 213 = .ok (.aload_n 0, 1) := by decide +kernel
theorem dX4_isWrapped_214 : decode cX4_isWrapped 214 = .ok (.aload_n 0, 1) := by decide +kernel
theorem dX4_isWrapped_215 : decode cX4_isWrapped 215 = .ok (.getfield 96, 3) := by decide +kernel
theorem dX4_isWrapped_218 : decode cX4_isWrapped 218 = .ok (.iload 7, 2) := by decide +kernel
theorem dX4_isWrapped_220 : decode cX4_isWrapped 220 = .ok (.iaload, 1) := by decide +kernel
theorem dX4_isWrapped_221 : decode cX4_isWrapped 221 = .ok (.iload 8, 2) := by decide +kernel
theorem dX4_isWrapped_223 : decode cX4_isWrapped 223 = .ok (.aload_n 0, 1) := by decide +kernel
theorem dX4_isWrapped_224 : decode cX4_isWrapped 224 = .ok (.getfield 99, 3) := by decide +kernel
theorem dX4_isWrapped_227 : decode cX4_isWrapped 227 = .ok (.iload 7, 2) := by decide +kernel
theorem dX4_isWrapped_229 : decode cX4_isWrapped 229 = .ok (.iaload, 1) := by decide +kernel
theorem dX4_isWrapped_230 : decode cX4_isWrapped 230 = .ok (.aload_n 0, 1) := by decide +kernel
theorem dX4_isWrapped_231 : decode cX4_isWrapped 231 = .ok (.getfield 102, 3) := by decide +kernel
theorem dX4_isWrapped_234 : decode cX4_isWrapped 234 = .ok (.iload 7, 2) := by decide +kernel
theorem dX4_isWrapped_236 : decode cX4_isWrapped 236 = .ok (.iaload, 1) := by decide +kernel
theorem dX4_isWrapped_237 : decode cX4_isWrapped 237 = .ok (.invokestatic 176, 3) := by decide +kernel
theorem dX4_isWrapped_240 : decode cX4_isWrapped 240 = .ok (.invokevirtual 189, 3) := by decide +kernel
theorem dX4_isWrapped_243 : decode cX4_isWrapped 243 = .ok (.istore 10, 2) := by decide +kernel
theorem dX4_isWrapped_245 : decode cX4_isWrapped 245 = .ok (.aload_n 0, 1) := by decide +kernel
theorem dX4_isWrapped_246 : decode cX4_isWrapped 246 = .ok (.aload_n 0, 1) := by decide +kernel
theorem dX4_isWrapped_247 : decode cX4_isWrapped 247 = .ok (.getfield 96, 3) := by decide +kernel
theorem dX4_isWrapped_250 : decode cX4_isWrapped 250 = .ok (.iload 7, 2) := by decide +kernel
theorem dX4_isWrapped_252 : decode cX4_isWrapped 252 = .ok (.iaload, 1) := by decide +kernel
theorem dX4_isWrapped_253 : decode cX4_isWrapped 253 = .ok (.iload 8, 2) := by decide +kernel
theorem dX4_isWrapped_255 : decode cX4_isWrapped 255 = .ok (.aload_n 0, 1) := by decide +kernel
theorem dX4_isWrapped_256 : decode cX4_isWrapped 256 = .ok (.getfield 99, 3) := by decide +kernel
theorem dX4_isWrapped_259 : decode cX4_isWrapped 259 = .ok (.iload 7, 2) := by decide +kernel
theorem dX4_isWrapped_261 : decode cX4_isWrapped 261 = .ok (.iaload, 1) := by decide +kernel
theorem dX4_isWrapped_262 : decode cX4_isWrapped 262 = .ok (.aload_n 0, 1) := by decide +kernel
theorem dX4_isWrapped_263 : decode cX4_isWrapped 263 = .ok (.getfield 102, 3) := by decide +kernel
theorem dX4_isWrapped_266 : decode cX4_isWrapped 266 = .ok (.iload 7, 2) := by decide +kernel
theorem dX4_isWrapped_268 : decode cX4_isWrapped 268 = .ok (.iaload, 1) := by decide +kernel
theorem dX4_isWrapped_269 : decode cX4_isWrapped 269 = .ok (.invokevirtual 214, 3) := by decide +kernel
theorem dX4_isWrapped_272 : decode cX4_isWrapped 272 = .ok (.istore 11, 2) := by decide +kernel
theorem dX4_isWrapped_274 : decode cX4_isWrapped 274 = .ok (.aload_n 0, 1) := by decide +kernel
theorem dX4_isWrapped_275 : decode cX4_isWrapped 275 = .ok (.aload_n 0, 1) := by decide +kernel
theorem dX4_isWrapped_276 : decode cX4_isWrapped 276 = .ok (.getfield 96, 3) := by decide +kernel
theorem dX4_isWrapped_279 : decode cX4_isWrapped 279 = .ok (.iload 7, 2) := by decide +kernel
theorem dX4_isWrapped_281 : decode cX4_isWrapped 281 = .ok (.iaload, 1) := by decide +kernel
theorem dX4_isWrapped_282 : decode cX4_isWrapped 282 = .ok (.iload 8, 2) := by decide +kernel
theorem dX4_isWrapped_284 : decode cX4_isWrapped 284 = .ok (.aload_n 0, 1) := by decide +kernel
theorem dX4_isWrapped_285 : decode cX4_isWrapped 285 = .ok (.getfield 99, 3) := by decide +kernel
theorem dX4_isWrapped_288 : decode cX4_isWrapped 288 = .ok (.iload 7, 2) := by decide +kernel
theorem dX4_isWrapped_290 : decode cX4_isWrapped 290 = .ok (.iaload, 1) := by decide +kernel
theorem dX4_isWrapped_291 : decode cX4_isWrapped 291 = .ok (.aload_n 0, 1) := by decide +kernel
theorem dX4_isWrapped_292 : decode cX4_isWrapped 292 = .ok (.getfield 102, 3) := by decide +kernel
theorem dX4_isWrapped_295 : decode cX4_isWrapped 295 = .ok (.iload 7, 2) := by decide +kernel
theorem dX4_isWrapped_297 : decode cX4_isWrapped 297 = .ok (.iaload, 1) := by decide +kernel
theorem dX4_isWrapped_298 : decode cX4_isWrapped 298 = .ok (.invokevirtual 218, 3) := by decide +kernel
theorem dX4_isWrapped_301 : decode cX4_isWrapped 301 = .ok (.istore 12, 2) := by decide +kernel
theorem dX4_isWrapped_303 : decode cX4_isWrapped 303 = .ok (.aload_n 0, 1) := by decide +kernel
theorem dX4_isWrapped_304 : decode cX4_isWrapped 304 = .ok (.getfield 96, 3) := by decide +kernel
theorem dX4_isWrapped_307 : decode cX4_isWrapped 307 = .ok (.iload 9, 2) := by decide +kernel
theorem dX4_isWrapped_309 : decode cX4_isWrapped 309 = .ok (.iaload, 1) := by decide +kernel
theorem dX4_isWrapped_310 : decode cX4_isWrapped 310 = .ok (.bipush (-9), 2) := by decide +kernel
theorem dX4_isWrapped_312 : decode cX4_isWrapped 312 = .ok (.if_icmp .ne 45, 3) := by decide +kernel
theorem dX4_isWrapped_315 : decode cX4_isWrapped 315 = .ok (.aload_n 0, 1) := by decide +kernel
theorem dX4_isWrapped_316 : decode cX4_isWrapped 316 = .ok (.getfield 96, 3) := by decide +kernel
theorem dX4_isWrapped_319 : decode cX4_isWrapped 319 = .ok (.iload 9, 2) := by decide +kernel
theorem dX4_isWrapped_321 : decode cX4_isWrapped 321 = .ok (.iload 10, 2) := by decide +kernel
theorem dX4_isWrapped_323 : decode cX4_isWrapped 323 = .ok (.iastore, 1) := by decide +kernel
theorem dX4_isWrapped_324 : decode cX4_isWrapped 324 = .ok (.aload_n 0, 1) := by decide +kernel
theorem dX4_isWrapped_325 : decode cX4_isWrapped 325 = .ok (.getfield 99, 3) := by decide +kernel
theorem dX4_isWrapped_328 : decode cX4_isWrapped 328 = .ok (.iload 9, 2) := by decide +kernel
theorem dX4_isWrapped_330 : decode cX4_isWrapped 330 = .ok (.iload 11, 2) := by decide +kernel
theorem dX4_isWrapped_332 : decode cX4_isWrapped 332 = .ok (.iastore, 1) := by decide +kernel
theorem dX4_isWrapped_333 : decode cX4_isWrapped 333 = .ok (.aload_n 0, 1) := by decide +kernel
theorem dX4_isWrapped_334 : decode cX4_isWrapped 334 = .ok (.getfield 102, 3) := by decide +kernel
theorem dX4_isWrapped_337 : decode cX4_isWrapped 337 = .ok (.iload 9, 2) := by decide +kernel
theorem dX4_isWrapped_339 : decode cX4_isWrapped 339 = .ok (.iload 12, 2) := by decide +kernel
theorem dX4_isWrapped_341 : decode cX4_isWrapped 341 = .ok (.iastore, 1) := by decide +kernel
theorem dX4_isWrapped_342 : decode cX4_isWrapped 342 = .ok (.aload_n 0, 1) := by decide +kernel
theorem dX4_isWrapped_343 : decode cX4_isWrapped 343 = .ok (.getfield 105, 3) := by decide +kernel
theorem dX4_isWrapped_346 : decode cX4_isWrapped 346 = .ok (.iload 5, 2) := by decide +kernel
theorem dX4_isWrapped_348 : decode cX4_isWrapped 348 = .ok (.iload 9, 2) := by decide +kernel
theorem dX4_isWrapped_350 : decode cX4_isWrapped 350 = .ok (.iastore, 1) := by decide +kernel
theorem dX4_isWrapped_351 : decode cX4_isWrapped 351 = .ok (.iinc 5 1, 3) := by decide +kernel
theorem dX4_isWrapped_354 : decode cX4_isWrapped 354 = .ok (.goto 41, 3) := by decide +kernel
theorem dX4_isWrapped_357 : decode cX4_isWrapped 357 = .ok (.aload_n 0, 1) := by decide +kernel
theorem dX4_isWrapped_358 : decode cX4_isWrapped 358 = .ok (.getfield 96, 3) := by decide +kernel
theorem dX4_isWrapped_361 : decode cX4_isWrapped 361 = .ok (.iload 9, 2) := by decide +kernel
theorem dX4_isWrapped_363 : decode cX4_isWrapped 363 = .ok (.iaload, 1) := by decide +kernel
theorem dX4_isWrapped_364 : decode cX4_isWrapped 364 = .ok (.iload 10, 2) := by decide +kernel
theorem dX4_isWrapped_366 : decode cX4_isWrapped 366 = .ok (.if_icmp .ne 27, 3) := by decide +kernel
theorem dX4_isWrapped_369 : decode cX4_isWrapped 369 = .ok (.aload_n 0, 1) := by decide +kernel
theorem dX4_isWrapped_370 : decode cX4_isWrapped 370 = .ok (.getfield 99, 3) := by decide +kernel
theorem dX4_isWrapped_373 : decode cX4_isWrapped 373 = .ok (.iload 9, 2) := by decide +kernel
theorem dX4_isWrapped_375 : decode cX4_isWrapped 375 = .ok (.iaload, 1) := by decide +kernel
theorem dX4_isWrapped_376 : decode cX4_isWrapped 376 = .ok (.iload 11, 2) := by decide +kernel
theorem dX4_isWrapped_378 : decode cX4_isWrapped 378 = .ok (.if_icmp .ne 15, 3) := by decide +kernel
theorem dX4_isWrapped_381 : decode cX4_isWrapped 381 = .ok (.aload_n 0, 1) := by decide +kernel
theorem dX4_isWrapped_382 : decode cX4_isWrapped 382 = .ok (.getfield 102, 3) := by decide +kernel
theorem dX4_isWrapped_385 : decode cX4_isWrapped 385 = .ok (.iload 9, 2) := by decide +kernel
theorem dX4_isWrapped_387 : decode cX4_isWrapped 387 = .ok (.iaload, 1) := by decide +kernel
theorem dX4_isWrapped_388 : decode cX4_isWrapped 388 = .ok (.iload 12, 2) := by decide +kernel
theorem dX4_isWrapped_390 : decode cX4_isWrapped 390 = .ok (.if_icmp .eq 5, 3) := by decide +kernel
theorem dX4_isWrapped_393 : decode cX4_isWrapped 393 = .ok (.iconst 0, 1) := by decide +kernel
theorem dX4_isWrapped_394 : decode cX4_isWrapped 394 = .ok (.ireturn, 1) := by decide +kernel
theorem dX4_isWrapped_395 : decode cX4_isWrapped 395 = .ok (.iinc 8 1, 3) := by decide +kernel
theorem dX4_isWrapped_398 : decode cX4_isWrapped 398 = .ok (.goto (-232), 3) := by decide +kernel
theorem dX4_isWrapped_401 : decode cX4_isWrapped 401 = .ok (.iinc 6 1, 3) := by decide +kernel
theorem dX4_isWrapped_404 : decode cX4_isWrapped 404 = .ok (.goto (-257), 3) := by decide +kernel
theorem dX4_isWrapped_407 : decode cX4_isWrapped 407 = .ok (.iconst 0, 1) := by decide +kernel
theorem dX4_isWrapped_408 : decode cX4_isWrapped 408 = .ok (.istore 6, 2) := by decide +kernel
theorem dX4_isWrapped_410 : decode cX4_isWrapped 410 = .ok (.iload 6, 2) := by decide +kernel
theorem dX4_isWrapped_412 : decode cX4_isWrapped 412 = .ok (.iload 4, 2) := by decide +kernel
theorem dX4_isWrapped_414 : decode cX4_isWrapped 414 = .ok (.if_icmp .ge 44, 3) := by decide +kernel
theorem dX4_isWrapped_417 : decode cX4_isWrapped 417 = .ok (.iconst 0, 1) := by decide +kernel
theorem dX4_isWrapped_418 : decode cX4_isWrapped 418 = .ok (.istore 7, 2) := by decide +kernel
theorem dX4_isWrapped_420 : decode cX4_isWrapped 420 = .ok (.iload 7, 2) := by decide +kernel
theorem dX4_isWrapped_422 : decode cX4_isWrapped 422 = .ok (.iload 6, 2) := by decide +kernel
theorem dX4_isWrapped_424 : decode cX4_isWrapped 424 = .ok (.if_icmp .ge 28, 3) := by decide +kernel
theorem dX4_isWrapped_427 : decode cX4_isWrapped 427 = .ok (.aload_n 0, 1) := by decide +kernel
theorem dX4_isWrapped_428 : decode cX4_isWrapped 428 = .ok (.getfield 96, 3) := by decide +kernel
theorem dX4_isWrapped_431 : decode cX4_isWrapped 431 = .ok (.iload 6, 2) := by decide +kernel
theorem dX4_isWrapped_433 : decode cX4_isWrapped 433 = .ok (.iaload, 1) := by decide +kernel
theorem dX4_isWrapped_434 : decode cX4_isWrapped 434 = .ok (.aload_n 0, 1) := by decide +kernel
theorem dX4_isWrapped_435 : decode cX4_isWrapped 435 = .ok (.getfield 96, 3) := by decide +kernel
theorem dX4_isWrapped_438 : decode cX4_isWrapped 438 = .ok (.iload 7, 2) := by decide +kernel
theorem dX4_isWrapped_440 : decode cX4_isWrapped 440 = .ok (.iaload, 1) := by decide +kernel
theorem dX4_isWrapped_441 : decode cX4_isWrapped 441 = .ok (.if_icmp .ne 5, 3) := by decide +kernel
theorem dX4_isWrapped_444 : decode cX4_isWrapped 444 = .ok (.iconst 0, 1) := by decide +kernel
theorem dX4_isWrapped_445 : decode cX4_isWrapped 445 = .ok (.ireturn, 1) := by decide +kernel
theorem dX4_isWrapped_446 : decode cX4_isWrapped 446 = .ok (.iinc 7 1, 3) := by decide +kernel
theorem dX4_isWrapped_449 : decode cX4_isWrapped 449 = .ok (.goto (-29), 3) := by decide +kernel
theorem dX4_isWrapped_452 : decode cX4_isWrapped 452 = .ok (.iinc 6 1, 3) := by decide +kernel
theorem dX4_isWrapped_455 : decode cX4_isWrapped 455 = .ok (.goto (-45), 3) := by decide +kernel
theorem dX4_isWrapped_458 : decode cX4_isWrapped 458 = .ok (.iconst 1, 1) := by decide +kernel
theorem dX4_isWrapped_459 : decode cX4_isWrapped 459 = .ok (.ireturn, 1) := by decide +kernel
theorem dX4_placeAt_0 : decode cX4_placeAt 0 = .ok (.iconst 0, 1) := by decide +kernel
theorem dX4_placeAt_1 : decode cX4_placeAt 1 = .ok (.istore 4, 2) := by decide +kernel
theorem dX4_placeAt_3 : decode cX4_placeAt 3 = .ok (.iload 4, 2) := by decide +kernel
theorem dX4_placeAt_5 : decode cX4_placeAt 5 = .ok (.iload_n 1, 1) := by decide +kernel
theorem dX4_placeAt_6 : decode cX4_placeAt 6 = .ok (.if_icmp .ge 34, 3) := by decide +kernel
theorem dX4_placeAt_9 : decode cX4_placeAt 9 = .ok (.aload_n 0, 1) := by decide +kernel
theorem dX4_placeAt_10 : decode cX4_placeAt 10 = .ok (.getfield 84, 3) := by decide +kernel
theorem dX4_placeAt_13 : decode cX4_placeAt 13 = .ok (.iload 4, 2) := by decide +kernel
theorem dX4_placeAt_15 : decode cX4_placeAt 15 = .ok (.iaload, 1) := by decide +kernel
theorem dX4_placeAt_16 : decode cX4_placeAt 16 = .ok (.iload_n 2, 1) := by decide +kernel
theorem dX4_placeAt_17 : decode cX4_placeAt 17 = .ok (.if_icmp .ne 17, 3) := by decide +kernel
theorem dX4_placeAt_20 : decode cX4_placeAt 20 = .ok (.aload_n 0, 1) := by decide +kernel
theorem dX4_placeAt_21 : decode cX4_placeAt 21 = .ok (.getfield 87, 3) := by decide +kernel
theorem dX4_placeAt_24 : decode cX4_placeAt 24 = .ok (.iload 4, 2) := by decide +kernel
theorem dX4_placeAt_26 : decode cX4_placeAt 26 = .ok (.iaload, 1) := by decide +kernel
theorem dX4_placeAt_27 : decode cX4_placeAt 27 = .ok (.iload_n 3, 1) := by decide +kernel
theorem dX4_placeAt_28 : decode cX4_placeAt 28 = .ok (.if_icmp .ne 6, 3) := by decide +kernel
theorem dX4_placeAt_31 : decode cX4_placeAt 31 = .ok (.iload 4, 2) := by decide +kernel
theorem dX4_placeAt_33 : decode cX4_placeAt 33 = .ok (.ireturn, 1) := by decide +kernel
theorem dX4_placeAt_34 : decode cX4_placeAt 34 = .ok (.iinc 4 1, 3) := by decide +kernel
theorem dX4_placeAt_37 : decode cX4_placeAt 37 = .ok (.goto (-34), 3) := by decide +kernel
theorem dX4_placeAt_40 : decode cX4_placeAt 40 = .ok (.bipush (-9), 2) := by decide +kernel
theorem dX4_placeAt_42 : decode cX4_placeAt 42 = .ok (.ireturn, 1) := by decide +kernel
