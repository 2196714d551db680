set_option maxRecDepth 100000
theorem dX1_values_0 : decode cX1_values 0 = .ok (.getstatic 22, 3) := by decide +kernel
theorem dX1_values_3 : decode cX1_values 3 = .ok (.invokevirtual 26, 3) := by decide +kernel
theorem dX1_values_6 : decode cX1_values 6 = .ok (.checkcast 27, 3) := by decide +kernel
theorem dX1_values_9 : decode cX1_values 9 = .ok (.areturn, 1) := by decide +kernel
theorem dX2_init_0 : decode cX2_init 0 = .ok (.aload_n 0, 1) := by decide +kernel
theorem dX2_init_1 : decode cX2_init 1 = .ok (.invokespecial 3, 3) := by decide +kernel
theorem dX2_init_4 : decode cX2_init 4 = .ok (.aload_n 0, 1) := by decide +kernel
theorem dX2_init_5 : decode cX2_init 5 = .ok (.bipush 22, 2) := by decide +kernel
theorem dX2_init_7 : decode cX2_init 7 = .ok (.newarray .int, 2) := by decide +kernel
theorem dX2_init_9 : decode cX2_init 9 = .ok (.putfield 9, 3) := by decide +kernel
theorem dX2_init_12 : decode cX2_init 12 = .ok (.aload_n 0, 1) := by decide +kernel
theorem dX2_init_13 : decode cX2_init 13 = .ok (.bipush 22, 2) := by decide +kernel
theorem dX2_init_15 : decode cX2_init 15 = .ok (.newarray .boolean, 2) := by decide +kernel
theorem dX2_init_17 : decode cX2_init 17 = .ok (.putfield 15, 3) := by decide +kernel
theorem dX2_init_20 : decode cX2_init 20 = .ok (.aload_n 0, 1) := by decide +kernel
theorem dX2_init_21 : decode cX2_init 21 = .ok (.bipush 22, 2) := by decide +kernel
theorem dX2_init_23 : decode cX2_init 23 = .ok (.newarray .int, 2) := by decide +kernel
theorem dX2_init_25 : decode cX2_init 25 = .ok (.putfield 19, 3) := by decide +kernel
theorem dX2_init_28 : decode cX2_init 28 = .ok (.aload_n 0, 1) := by decide +kernel
theorem dX2_init_29 : decode cX2_init 29 = .ok (.bipush 22, 2) := by decide +kernel
theorem dX2_init_31 : decode cX2_init 31 = .ok (.newarray .int, 2) := by decide +kernel
theorem dX2_init_33 : decode cX2_init 33 = .ok (.putfield 22, 3) := by decide +kernel
theorem dX2_init_36 : decode cX2_init 36 = .ok (.aload_n 0, 1) := by decide +kernel
theorem dX2_init_37 : decode cX2_init 37 = .ok (.bipush 22, 2) := by decide +kernel
theorem dX2_init_39 : decode cX2_init 39 = .ok (.newarray .int, 2) := by decide +kernel
theorem dX2_init_41 : decode cX2_init 41 = .ok (.putfield 25, 3) := by decide +kernel
theorem dX2_init_44 : decode cX2_init 44 = .ok (.aload_n 0, 1) := by decide +kernel
theorem dX2_init_45 : decode cX2_init 45 = .ok (.bipush 22, 2) := by decide +kernel
theorem dX2_init_47 : decode cX2_init 47 = .ok (.newarray .int, 2) := by decide +kernel
theorem dX2_init_49 : decode cX2_init 49 = .ok (.putfield 28, 3) := by decide +kernel
theorem dX2_init_52 : decode cX2_init 52 = .ok (.aload_n 0, 1) := by decide +kernel
theorem dX2_init_53 : decode cX2_init 53 = .ok (.sipush 4096, 3) := by decide +kernel
theorem dX2_init_56 : decode cX2_init 56 = .ok (.newarray .int, 2) := by decide +kernel
theorem dX2_init_58 : decode cX2_init 58 = .ok (.putfield 31, 3) := by decide +kernel
theorem dX2_init_61 : decode cX2_init 61 = .ok (.aload_n 0, 1) := by decide +kernel
theorem dX2_init_62 : decode cX2_init 62 = .ok (.aload_n 1, 1) := by decide +kernel
theorem dX2_init_63 : decode cX2_init 63 = .ok (.putfield 34, 3) := by decide +kernel
theorem dX2_init_66 : decode cX2_init 66 = .ok (.aload_n 0, 1) := by decide +kernel
theorem dX2_init_67 : decode cX2_init 67 = .ok (.aload_n 2, 1) := by decide +kernel
theorem dX2_init_68 : decode cX2_init 68 = .ok (.putfield 38, 3) := by decide +kernel
theorem dX2_init_71 : decode cX2_init 71 = .ok (.aload_n 0, 1) := by decide +kernel
theorem dX2_init_72 : decode cX2_init 72 = .ok (.aload_n 3, 1) := by decide +kernel
theorem dX2_init_73 : decode cX2_init 73 = .ok (.putfield 41, 3) := by decide +kernel
theorem dX2_init_76 : decode cX2_init 76 = .ok (.return_, 1) := by decide +kernel
theorem dX2_clear_0 : decode cX2_clear 0 = .ok (.aload_n 0, 1) := by decide +kernel
theorem dX2_clear_1 : decode cX2_clear 1 = .ok (.getfield 44, 3) := by decide +kernel
theorem dX2_clear_4 : decode cX2_clear 4 = .ok (.ifCond .le 10, 3) := by decide +kernel
theorem dX2_clear_7 : decode cX2_clear 7 = .ok (.aload_n 0, 1) := by decide +kernel
theorem dX2_clear_8 : decode cX2_clear 8 = .ok (.invokevirtual 48, 3) := by decide +kernel
theorem dX2_clear_11 : decode cX2_clear 11 = .ok (.goto (-11), 3) := by decide +kernel
theorem dX2_clear_14 : decode cX2_clear 14 = .ok (.return_, 1) := by decide +kernel
theorem dX2_drop_0 : decode cX2_drop 0 = .ok (.aload_n 0, 1) := by decide +kernel
theorem dX2_drop_1 : decode cX2_drop 1 = .ok (.dup, 1) := by decide +kernel
theorem dX2_drop_2 : decode cX2_drop 2 = .ok (.getfield 44, 3) := by decide +kernel
theorem dX2_drop_5 : decode cX2_drop 5 = .ok (.iconst 1, 1) := by decide +kernel
theorem dX2_drop_6 : decode cX2_drop 6 = .ok (.isub, 1) := by decide +kernel
theorem dX2_drop_7 : decode cX2_drop 7 = .ok (.putfield 44, 3) := by decide +kernel
theorem dX2_drop_10 : decode cX2_drop 10 = .ok (.aload_n 0, 1) := by decide +kernel
theorem dX2_drop_11 : decode cX2_drop 11 = .ok (.getfield 9, 3) := by decide +kernel
theorem dX2_drop_14 : decode cX2_drop 14 = .ok (.aload_n 0, 1) := by decide +kernel
theorem dX2_drop_15 : decode cX2_drop 15 = .ok (.getfield 44, 3) := by decide +kernel
theorem dX2_drop_18 : decode cX2_drop 18 = .ok (.iaload, 1) := by decide +kernel
theorem dX2_drop_19 : decode cX2_drop 19 = .ok (.istore_n 1, 1) := by decide +kernel
theorem dX2_drop_20 : decode cX2_drop 20 = .ok (.aload_n 0, 1) := by decide +kernel
theorem dX2_drop_21 : decode cX2_drop 21 = .ok (.getfield 15, 3) := by decide +kernel
theorem dX2_drop_24 : decode cX2_drop 24 = .ok (.iload_n 1, 1) := by decide +kernel
theorem dX2_drop_25 : decode cX2_drop 25 = .ok (.iconst 0, 1) := by decide +kernel
theorem dX2_drop_26 : decode cX2_drop 26 = .ok (.bastore, 1) := by decide +kernel
theorem dX2_drop_27 : decode cX2_drop 27 = .ok (.aload_n 0, 1) := by decide +kernel
theorem dX2_drop_28 : decode cX2_drop 28 = .ok (.getfield 31, 3) := by decide +kernel
theorem dX2_drop_31 : decode cX2_drop 31 = .ok (.aload_n 0, 1) := by decide +kernel
theorem dX2_drop_32 : decode cX2_drop 32 = .ok (.aload_n 0, 1) := by decide +kernel
theorem dX2_drop_33 : decode cX2_drop 33 = .ok (.getfield 19, 3) := by decide +kernel
theorem dX2_drop_36 : decode cX2_drop 36 = .ok (.iload_n 1, 1) := by decide +kernel
theorem dX2_drop_37 : decode cX2_drop 37 = .ok (.iaload, 1) := by decide +kernel
theorem dX2_drop_38 : decode cX2_drop 38 = .ok (.aload_n 0, 1) := by decide +kernel
theorem dX2_drop_39 : decode cX2_drop 39 = .ok (.getfield 22, 3) := by decide +kernel
theorem dX2_drop_42 : decode cX2_drop 42 = .ok (.iload_n 1, 1) := by decide +kernel
theorem dX2_drop_43 : decode cX2_drop 43 = .ok (.iaload, 1) := by decide +kernel
theorem dX2_drop_44 : decode cX2_drop 44 = .ok (.invokevirtual 51, 3) := by decide +kernel
theorem dX2_drop_47 : decode cX2_drop 47 = .ok (.iconst 0, 1) := by decide +kernel
theorem dX2_drop_48 : decode cX2_drop 48 = .ok (.iastore, 1) := by decide +kernel
theorem dX2_drop_49 : decode cX2_drop 49 = .ok (.return_, 1) := by decide +kernel
theorem dX2_placeOf_0 : decode cX2_placeOf 0 = .ok (.bipush 64, 2) := by decide +kernel
theorem dX2_placeOf_2 : decode cX2_placeOf 2 = .ok (.iload_n 2, 1) := by decide +kernel
theorem dX2_placeOf_3 : decode cX2_placeOf 3 = .ok (.bipush 32, 2) := by decide +kernel
theorem dX2_placeOf_5 : decode cX2_placeOf 5 = .ok (.iadd, 1) := by decide +kernel
theorem dX2_placeOf_6 : decode cX2_placeOf 6 = .ok (.imul, 1) := by decide +kernel
theorem dX2_placeOf_7 : decode cX2_placeOf 7 = .ok (.iload_n 1, 1) := by decide +kernel
theorem dX2_placeOf_8 : decode cX2_placeOf 8 = .ok (.iadd, 1) := by decide +kernel
theorem dX2_placeOf_9 : decode cX2_placeOf 9 = .ok (.bipush 32, 2) := by decide +kernel
theorem dX2_placeOf_11 : decode cX2_placeOf 11 = .ok (.iadd, 1) := by decide +kernel
theorem dX2_placeOf_12 : decode cX2_placeOf 12 = .ok (.ireturn, 1) := by decide +kernel
theorem dX2_first_0 : decode cX2_first 0 = .ok (.aload_n 0, 1) := by decide +kernel
theorem dX2_first_1 : decode cX2_first 1 = .ok (.iload_n 1, 1) := by decide +kernel
theorem dX2_first_2 : decode cX2_first 2 = .ok (.iconst 0, 1) := by decide +kernel
theorem dX2_first_3 : decode cX2_first 3 = .ok (.iconst 0, 1) := by decide +kernel
theorem dX2_first_4 : decode cX2_first 4 = .ok (.aload_n 0, 1) := by decide +kernel
theorem dX2_first_5 : decode cX2_first 5 = .ok (.getfield 38, 3) := by decide +kernel
theorem dX2_first_8 : decode cX2_first 8 = .ok (.aload_n 0, 1) := by decide +kernel
theorem dX2_first_9 : decode cX2_first 9 = .ok (.getfield 34, 3) := by decide +kernel
theorem dX2_first_12 : decode cX2_first 12 = .ok (.iload_n 1, 1) := by decide +kernel
theorem dX2_first_13 : decode cX2_first 13 = .ok (.aaload, 1) := by decide +kernel
theorem dX2_first_14 : decode cX2_first 14 = .ok (.getfield 55, 3) := by decide +kernel
theorem dX2_first_17 : decode cX2_first 17 = .ok (.iaload, 1) := by decide +kernel
theorem dX2_first_18 : decode cX2_first 18 = .ok (.aload_n 0, 1) := by decide +kernel
theorem dX2_first_19 : decode cX2_first 19 = .ok (.getfield 41, 3) := by decide +kernel
theorem dX2_first_22 : decode cX2_first 22 = .ok (.aload_n 0, 1) := by decide +kernel
theorem dX2_first_23 : decode cX2_first 23 = .ok (.getfield 34, 3) := by decide +kernel
theorem dX2_first_26 : decode cX2_first 26 = .ok (.iload_n 1, 1) := by decide +kernel
theorem dX2_first_27 : decode cX2_first 27 = .ok (.aaload, 1) := by decide +kernel
theorem dX2_first_28 : decode cX2_first 28 = .ok (.getfield 55, 3) := by decide +kernel
theorem dX2_first_31 : decode cX2_first 31 = .ok (.iaload, 1) := by decide +kernel
theorem dX2_first_32 : decode cX2_first 32 = .ok (.invokevirtual 60, 3) := by decide +kernel
theorem dX2_first_35 : decode cX2_first 35 = .ok (.return_, 1) := by decide +kernel
theorem dX2_put_0 : decode cX2_put 0 = .ok (.aload_n 0, 1) := by decide +kernel
theorem dX2_put_1 : decode cX2_put 1 = .ok (.getfield 9, 3) := by decide +kernel
theorem dX2_put_4 : decode cX2_put 4 = .ok (.aload_n 0, 1) := by decide +kernel
theorem dX2_put_5 : decode cX2_put 5 = .ok (.getfield 44, 3) := by decide +kernel
theorem dX2_put_8 : decode cX2_put 8 = .ok (.iload_n 1, 1) := by decide +kernel
theorem dX2_put_9 : decode cX2_put 9 = .ok (.iastore, 1) := by decide +kernel
theorem dX2_put_10 : decode cX2_put 10 = .ok (.aload_n 0, 1) := by decide +kernel
theorem dX2_put_11 : decode cX2_put 11 = .ok (.dup, 1) := by decide +kernel
theorem dX2_put_12 : decode cX2_put 12 = .ok (.getfield 44, 3) := by decide +kernel
theorem dX2_put_15 : decode cX2_put 15 = .ok (.iconst 1, 1) := by decide +kernel
theorem dX2_put_16 : decode cX2_put 16 = .ok (.iadd, 1) := by decide +kernel
theorem dX2_put_17 : decode cX2_put 17 = .ok (.putfield 44, 3) := by decide +kernel
theorem dX2_put_20 : decode cX2_put 20 = .ok (.aload_n 0, 1) := by decide +kernel
theorem dX2_put_21 : decode cX2_put 21 = .ok (.getfield 15, 3) := by decide +kernel
theorem dX2_put_24 : decode cX2_put 24 = .ok (.iload_n 1, 1) := by decide +kernel
theorem dX2_put_25 : decode cX2_put 25 = .ok (.iconst 1, 1) := by decide +kernel
theorem dX2_put_26 : decode cX2_put 26 = .ok (.bastore, 1) := by decide +kernel
theorem dX2_put_27 : decode cX2_put 27 = .ok (.aload_n 0, 1) := by decide +kernel
theorem dX2_put_28 : decode cX2_put 28 = .ok (.getfield 19, 3) := by decide +kernel
theorem dX2_put_31 : decode cX2_put 31 = .ok (.iload_n 1, 1) := by decide +kernel
theorem dX2_put_32 : decode cX2_put 32 = .ok (.iload_n 2, 1) := by decide +kernel
theorem dX2_put_33 : decode cX2_put 33 = .ok (.iastore, 1) := by decide +kernel
theorem dX2_put_34 : decode cX2_put 34 = .ok (.aload_n 0, 1) := by decide +kernel
theorem dX2_put_35 : decode cX2_put 35 = .ok (.getfield 22, 3) := by decide +kernel
theorem dX2_put_38 : decode cX2_put 38 = .ok (.iload_n 1, 1) := by decide +kernel
theorem dX2_put_39 : decode cX2_put 39 = .ok (.iload_n 3, 1) := by decide +kernel
theorem dX2_put_40 : decode cX2_put 40 = .ok (.iastore, 1) := by decide +kernel
theorem dX2_put_41 : decode cX2_put 41 = .ok (.aload_n 0, 1) := by decide +kernel
theorem dX2_put_42 : decode cX2_put 42 = .ok (.getfield 25, 3) := by decide +kernel
theorem dX2_put_45 : decode cX2_put 45 = .ok (.iload_n 1, 1) := by decide +kernel
theorem dX2_put_46 : decode cX2_put 46 = .ok (.iload 4, 2) := by decide +kernel
theorem dX2_put_48 : decode cX2_put 48 = .ok (.iastore, 1) := by decide +kernel
theorem dX2_put_49 : decode cX2_put 49 = .ok (.aload_n 0, 1) := by decide +kernel
theorem dX2_put_50 : decode cX2_put 50 = .ok (.getfield 28, 3) := by decide +kernel
theorem dX2_put_53 : decode cX2_put 53 = .ok (.iload_n 1, 1) := by decide +kernel
theorem dX2_put_54 : decode cX2_put 54 = .ok (.iload 5, 2) := by decide +kernel
theorem dX2_put_56 : decode cX2_put 56 = .ok (.iastore, 1) := by decide +kernel
theorem dX2_put_57 : decode cX2_put 57 = .ok (.aload_n 0, 1) := by decide +kernel
theorem dX2_put_58 : decode cX2_put 58 = .ok (.getfield 31, 3) := by decide +kernel
theorem dX2_put_61 : decode cX2_put 61 = .ok (.aload_n 0, 1) := by decide +kernel
theorem dX2_put_62 : decode cX2_put 62 = .ok (.iload_n 2, 1) := by decide +kernel
theorem dX2_put_63 : decode cX2_put 63 = .ok (.iload_n 3, 1) := by decide +kernel
theorem dX2_put_64 : decode cX2_put 64 = .ok (.invokevirtual 51, 3) := by decide +kernel
theorem dX2_put_67 : decode cX2_put 67 = .ok (.iload_n 1, 1) := by decide +kernel
theorem dX2_put_68 : decode cX2_put 68 = .ok (.iconst 1, 1) := by decide +kernel
theorem dX2_put_69 : decode cX2_put 69 = .ok (.iadd, 1) := by decide +kernel
theorem dX2_put_70 : decode cX2_put 70 = .ok (.iastore, 1) := by decide +kernel
theorem dX2_put_71 : decode cX2_put 71 = .ok (.return_, 1) := by decide +kernel
theorem dX2_across_0 : decode cX2_across 0 = .ok (.aload_n 0, 1) := by decide +kernel
theorem dX2_across_1 : decode cX2_across 1 = .ok (.getfield 34, 3) := by decide +kernel
theorem dX2_across_4 : decode cX2_across 4 = .ok (.iload_n 1, 1) := by decide +kernel
theorem dX2_across_5 : decode cX2_across 5 = .ok (.aaload, 1) := by decide +kernel
theorem dX2_across_6 : decode cX2_across 6 = .ok (.getfield 64, 3) := by decide +kernel
theorem dX2_across_9 : decode cX2_across 9 = .ok (.aload_n 0, 1) := by decide +kernel
theorem dX2_across_10 : decode cX2_across 10 = .ok (.iload_n 1, 1) := by decide +kernel
theorem dX2_across_11 : decode cX2_across 11 = .ok (.iload_n 2, 1) := by decide +kernel
theorem dX2_across_12 : decode cX2_across 12 = .ok (.invokevirtual 67, 3) := by decide +kernel
theorem dX2_across_15 : decode cX2_across 15 = .ok (.iaload, 1) := by decide +kernel
theorem dX2_across_16 : decode cX2_across 16 = .ok (.ireturn, 1) := by decide +kernel
theorem dX2_direction_0 : decode cX2_direction 0 = .ok (.iload_n 2, 1) := by decide +kernel
theorem dX2_direction_1 : decode cX2_direction 1 = .ok (.iconst 2, 1) := by decide +kernel
theorem dX2_direction_2 : decode cX2_direction 2 = .ok (.irem, 1) := by decide +kernel
theorem dX2_direction_3 : decode cX2_direction 3 = .ok (.ifCond .ne 12, 3) := by decide +kernel
theorem dX2_direction_6 : decode cX2_direction 6 = .ok (.aload_n 0, 1) := by decide +kernel
theorem dX2_direction_7 : decode cX2_direction 7 = .ok (.getfield 25, 3) := by decide +kernel
theorem dX2_direction_10 : decode cX2_direction 10 = .ok (.iload_n 1, 1) := by decide +kernel
theorem dX2_direction_11 : decode cX2_direction 11 = .ok (.iaload, 1) := by decide +kernel
theorem dX2_direction_12 : decode cX2_direction 12 = .ok (.goto 9, 3) := by decide +kernel
theorem dX2_direction_15 : decode cX2_direction 15 = .ok (.aload_n 0, 1) := by decide +kernel
theorem dX2_direction_16 : decode cX2_direction 16 = .ok (.getfield 28, 3) := by decide +kernel
theorem dX2_direction_19 : decode cX2_direction 19 = .ok (.iload_n 1, 1) := by decide +kernel
theorem dX2_direction_20 : decode cX2_direction 20 = .ok (.iaload, 1) := by decide +kernel
theorem dX2_direction_21 : decode cX2_direction 21 = .ok (.iload_n 2, 1) := by decide +kernel
theorem dX2_direction_22 : decode cX2_direction 22 = .ok (.iconst 1, 1) := by decide +kernel
theorem dX2_direction_23 : decode cX2_direction 23 = .ok (.ishr, 1) := by decide +kernel
theorem dX2_direction_24 : decode cX2_direction 24 = .ok (.ixor, 1) := by decide +kernel
theorem dX2_direction_25 : decode cX2_direction 25 = .ok (.ireturn, 1) := by decide +kernel
theorem dX2_nextX_0 : decode cX2_nextX 0 = .ok (.aload_n 0, 1) := by decide +kernel
theorem dX2_nextX_1 : decode cX2_nextX 1 = .ok (.getfield 19, 3) := by decide +kernel
theorem dX2_nextX_4 : decode cX2_nextX 4 = .ok (.iload_n 1, 1) := by decide +kernel
theorem dX2_nextX_5 : decode cX2_nextX 5 = .ok (.iaload, 1) := by decide +kernel
theorem dX2_nextX_6 : decode cX2_nextX 6 = .ok (.iload_n 2, 1) := by decide +kernel
theorem dX2_nextX_7 : decode cX2_nextX 7 = .ok (.ifCond .ne 7, 3) := by decide +kernel
theorem dX2_nextX_10 : decode cX2_nextX 10 = .ok (.iconst 1, 1) := by decide +kernel
theorem dX2_nextX_11 : decode cX2_nextX 11 = .ok (.goto 13, 3) := by decide +kernel
theorem dX2_nextX_14 : decode cX2_nextX 14 = .ok (.iload_n 2, 1) := by decide +kernel
theorem dX2_nextX_15 : decode cX2_nextX 15 = .ok (.iconst 2, 1) := by decide +kernel
theorem dX2_nextX_16 : decode cX2_nextX 16 = .ok (.if_icmp .ne 7, 3) := by decide +kernel
theorem dX2_nextX_19 : decode cX2_nextX 19 = .ok (.iconst (-1), 1) := by decide +kernel
theorem dX2_nextX_20 : decode cX2_nextX 20 = .ok (.goto 4, 3) := by decide +kernel
theorem dX2_nextX_23 : decode cX2_nextX 23 = .ok (.iconst 0, 1) := by decide +kernel
theorem dX2_nextX_24 : decode cX2_nextX 24 = .ok (.iadd, 1) := by decide +kernel
theorem dX2_nextX_25 : decode cX2_nextX 25 = .ok (.ireturn, 1) := by decide +kernel
theorem dX2_nextY_0 : decode cX2_nextY 0 = .ok (.aload_n 0, 1) := by decide +kernel
theorem dX2_nextY_1 : decode cX2_nextY 1 = .ok (.getfield 22, 3) := by decide +kernel
theorem dX2_nextY_4 : decode cX2_nextY 4 = .ok (.iload_n 1, 1) := by decide +kernel
theorem dX2_nextY_5 : decode cX2_nextY 5 = .ok (.iaload, 1) := by decide +kernel
theorem dX2_nextY_6 : decode cX2_nextY 6 = .ok (.iload_n 2, 1) := by decide +kernel
theorem dX2_nextY_7 : decode cX2_nextY 7 = .ok (.iconst 1, 1) := by decide +kernel
theorem dX2_nextY_8 : decode cX2_nextY 8 = .ok (.if_icmp .ne 7, 3) := by decide +kernel
theorem dX2_nextY_11 : decode cX2_nextY 11 = .ok (.iconst 1, 1) := by decide +kernel
theorem dX2_nextY_12 : decode cX2_nextY 12 = .ok (.goto 13, 3) := by decide +kernel
theorem dX2_nextY_15 : decode cX2_nextY 15 = .ok (.iload_n 2, 1) := by decide +kernel
theorem dX2_nextY_16 : decode cX2_nextY 16 = .ok (.iconst 3, 1) := by decide +kernel
theorem dX2_nextY_17 : decode cX2_nextY 17 = .ok (.if_icmp .ne 7, 3) := by decide +kernel
theorem dX2_nextY_20 : decode cX2_nextY 20 = .ok (.iconst (-1), 1) := by decide +kernel
theorem dX2_nextY_21 : decode cX2_nextY 21 = .ok (.goto 4, 3) := by decide +kernel
theorem dX2_nextY_24 : decode cX2_nextY 24 = .ok (.iconst 0, 1) := by decide +kernel
theorem dX2_nextY_25 : decode cX2_nextY 25 = .ok (.iadd, 1) := by decide +kernel
theorem dX2_nextY_26 : decode cX2_nextY 26 = .ok (.ireturn, 1) := by decide +kernel
theorem dX2_at_0 : decode cX2_at 0 = .ok (.aload_n 0, 1) := by decide +kernel
theorem dX2_at_1 : decode cX2_at 1 = .ok (.getfield 31, 3) := by decide +kernel
theorem dX2_at_4 : decode cX2_at 4 = .ok (.aload_n 0, 1) := by decide +kernel
theorem dX2_at_5 : decode cX2_at 5 = .ok (.iload_n 1, 1) := by decide +kernel
theorem dX2_at_6 : decode cX2_at 6 = .ok (.iload_n 2, 1) := by decide +kernel
theorem dX2_at_7 : decode cX2_at 7 = .ok (.invokevirtual 51, 3) := by decide +kernel
theorem dX2_at_10 : decode cX2_at 10 = .ok (.iaload, 1) := by decide +kernel
theorem dX2_at_11 : decode cX2_at 11 = .ok (.iconst 1, 1) := by decide +kernel
theorem dX2_at_12 : decode cX2_at 12 = .ok (.isub, 1) := by decide +kernel
theorem dX2_at_13 : decode cX2_at 13 = .ok (.ireturn, 1) := by decide +kernel
theorem dX2_join_0 : decode cX2_join 0 = .ok (.iload_n 2, 1) := by decide +kernel
theorem dX2_join_1 : decode cX2_join 1 = .ok (.iconst 2, 1) := by decide +kernel
theorem dX2_join_2 : decode cX2_join 2 = .ok (.irem, 1) := by decide +kernel
theorem dX2_join_3 : decode cX2_join 3 = .ok (.ifCond .ne 12, 3) := by decide +kernel
theorem dX2_join_6 : decode cX2_join 6 = .ok (.aload_n 0, 1) := by decide +kernel
theorem dX2_join_7 : decode cX2_join 7 = .ok (.iload_n 1, 1) := by decide +kernel
theorem dX2_join_8 : decode cX2_join 8 = .ok (.iload_n 2, 1) := by decide +kernel
theorem dX2_join_9 : decode cX2_join 9 = .ok (.invokevirtual 73, 3) := by decide +kernel
theorem dX2_join_12 : decode cX2_join 12 = .ok (.goto 9, 3) := by decide +kernel
theorem dX2_join_15 : decode cX2_join 15 = .ok (.aload_n 0, 1) := by decide +kernel
theorem dX2_join_16 : decode cX2_join 16 = .ok (.getfield 25, 3) := by decide +kernel
theorem dX2_join_19 : decode cX2_join 19 = .ok (.iload_n 1, 1) := by decide +kernel
theorem dX2_join_20 : decode cX2_join 20 = .ok (.iaload, 1) := by decide +kernel
theorem dX2_join_21 : decode cX2_join 21 = .ok (.istore_n 3, 1) := by decide +kernel
theorem dX2_join_22 : decode cX2_join 22 = .ok (.iload_n 2, 1) := by decide +kernel
theorem dX2_join_23 : decode cX2_join 23 = .ok (.iconst 2, 1) := by decide +kernel
theorem dX2_join_24 : decode cX2_join 24 = .ok (.irem, 1) := by decide +kernel
theorem dX2_join_25 : decode cX2_join 25 = .ok (.iconst 1, 1) := by decide +kernel
theorem dX2_join_26 : decode cX2_join 26 = .ok (.if_icmp .ne 12, 3) := by decide +kernel
theorem dX2_join_29 : decode cX2_join 29 = .ok (.aload_n 0, 1) := by decide +kernel
theorem dX2_join_30 : decode cX2_join 30 = .ok (.iload_n 1, 1) := by decide +kernel
theorem dX2_join_31 : decode cX2_join 31 = .ok (.iload_n 2, 1) := by decide +kernel
theorem dX2_join_32 : decode cX2_join 32 = .ok (.invokevirtual 73, 3) := by decide +kernel
theorem dX2_join_35 : decode cX2_join 35 = .ok (.goto 9, 3) := by decide +kernel
theorem dX2_join_38 : decode cX2_join 38 = .ok (.aload_n 0, 1) := by decide +kernel
theorem dX2_join_39 : decode cX2_join 39 = .ok (.getfield 28, 3) := by decide +kernel
theorem dX2_join_42 : decode cX2_join 42 = .ok (.iload_n 1, 1) := by decide +kernel
theorem dX2_join_43 : decode cX2_join 43 = .ok (.iaload, 1) := by decide +kernel
theorem dX2_join_44 : decode cX2_join 44 = .ok (.istore 4, 2) := by decide +kernel
theorem dX2_join_46 : decode cX2_join 46 = .ok (.aload_n 0, 1) := by decide +kernel
theorem dX2_join_47 : decode cX2_join 47 = .ok (.aload_n 0, 1) := by decide +kernel
theorem dX2_join_48 : decode cX2_join 48 = .ok (.iload_n 1, 1) := by decide +kernel
theorem dX2_join_49 : decode cX2_join 49 = .ok (.iload_n 2, 1) := by decide +kernel
theorem dX2_join_50 : decode cX2_join 50 = .ok (.invokevirtual 75, 3) := by decide +kernel
theorem dX2_join_53 : decode cX2_join 53 = .ok (.aload_n 0, 1) := by decide +kernel
theorem dX2_join_54 : decode cX2_join 54 = .ok (.iload_n 1, 1) := by decide +kernel
theorem dX2_join_55 : decode cX2_join 55 = .ok (.iload_n 2, 1) := by decide +kernel
theorem dX2_join_56 : decode cX2_join 56 = .ok (.invokevirtual 77, 3) := by decide +kernel
theorem dX2_join_59 : decode cX2_join 59 = .ok (.aload_n 0, 1) := by decide +kernel
theorem dX2_join_60 : decode cX2_join 60 = .ok (.iload_n 1, 1) := by decide +kernel
theorem dX2_join_61 : decode cX2_join 61 = .ok (.iload_n 2, 1) := by decide +kernel
theorem dX2_join_62 : decode cX2_join 62 = .ok (.invokevirtual 80, 3) := by decide +kernel
theorem dX2_join_65 : decode cX2_join 65 = .ok (.iload_n 3, 1) := by decide +kernel
theorem dX2_join_66 : decode cX2_join 66 = .ok (.iload 4, 2) := by decide +kernel
theorem dX2_join_68 : decode cX2_join 68 = .ok (.invokevirtual 60, 3) := by decide +kernel
theorem dX2_join_71 : decode cX2_join 71 = .ok (.return_, 1) := by decide +kernel
theorem dX2_turned_0 : decode cX2_turned 0 = .ok (.aload_n 0, 1) := by decide +kernel
theorem dX2_turned_1 : decode cX2_turned 1 = .ok (.getfield 34, 3) := by decide +kernel
theorem dX2_turned_4 : decode cX2_turned 4 = .ok (.iload_n 1, 1) := by decide +kernel
theorem dX2_turned_5 : decode cX2_turned 5 = .ok (.aaload, 1) := by decide +kernel
theorem dX2_turned_6 : decode cX2_turned 6 = .ok (.getfield 70, 3) := by decide +kernel
theorem dX2_turned_9 : decode cX2_turned 9 = .ok (.aload_n 0, 1) := by decide +kernel
theorem dX2_turned_10 : decode cX2_turned 10 = .ok (.iload_n 1, 1) := by decide +kernel
theorem dX2_turned_11 : decode cX2_turned 11 = .ok (.iload_n 2, 1) := by decide +kernel
theorem dX2_turned_12 : decode cX2_turned 12 = .ok (.invokevirtual 67, 3) := by decide +kernel
theorem dX2_turned_15 : decode cX2_turned 15 = .ok (.iaload, 1) := by decide +kernel
theorem dX2_turned_16 : decode cX2_turned 16 = .ok (.iload_n 2, 1) := by decide +kernel
theorem dX2_turned_17 : decode cX2_turned 17 = .ok (.iconst 1, 1) := by decide +kernel
theorem dX2_turned_18 : decode cX2_turned 18 = .ok (.ishr, 1) := by decide +kernel
theorem dX2_turned_19 : decode cX2_turned 19 = .ok (.ixor, 1) := by decide +kernel
theorem dX2_turned_20 : decode cX2_turned 20 = .ok (.ireturn, 1) := by decide +kernel
theorem dX3_init_0 : decode cX3_init 0 = .ok (.aload_n 0, 1) := by decide +kernel
theorem dX3_init_1 : decode cX3_init 1 = .ok (.invokespecial 1, 3) := by decide +kernel
theorem dX3_init_4 : decode cX3_init 4 = .ok (.aload_n 0, 1) := by decide +kernel
theorem dX3_init_5 : decode cX3_init 5 = .ok (.bipush 6, 2) := by decide +kernel
theorem dX3_init_7 : decode cX3_init 7 = .ok (.newarray .int, 2) := by decide +kernel
theorem dX3_init_9 : decode cX3_init 9 = .ok (.putfield 7, 3) := by decide +kernel
theorem dX3_init_12 : decode cX3_init 12 = .ok (.aload_n 0, 1) := by decide +kernel
theorem dX3_init_13 : decode cX3_init 13 = .ok (.bipush 6, 2) := by decide +kernel
theorem dX3_init_15 : decode cX3_init 15 = .ok (.newarray .int, 2) := by decide +kernel
theorem dX3_init_17 : decode cX3_init 17 = .ok (.putfield 13, 3) := by decide +kernel
theorem dX3_init_20 : decode cX3_init 20 = .ok (.return_, 1) := by decide +kernel
theorem dJ0_fill_0 : decode cJ0_fill 0 = .ok (.iconst 0, 1) := by decide +kernel
theorem dJ0_fill_1 : decode cJ0_fill 1 = .ok (.istore_n 3, 1) := by decide +kernel
theorem dJ0_fill_2 : decode cJ0_fill 2 = .ok (.aload_n 0, 1) := by decide +kernel
theorem dJ0_fill_3 : decode cJ0_fill 3 = .ok (.arraylength, 1) := by decide +kernel
theorem dJ0_fill_4 : decode cJ0_fill 4 = .ok (.istore 4, 2) := by decide +kernel
theorem dJ0_fill_6 : decode cJ0_fill 6 = .ok (.iload_n 3, 1) := by decide +kernel
theorem dJ0_fill_7 : decode cJ0_fill 7 = .ok (.iload 4, 2) := by decide +kernel
theorem dJ0_fill_9 : decode cJ0_fill 9 = .ok (.if_icmp .ge 13, 3) := by decide +kernel
theorem dJ0_fill_12 : decode cJ0_fill 12 = .ok (.aload_n 0, 1) := by decide +kernel
theorem dJ0_fill_13 : decode cJ0_fill 13 = .ok (.iload_n 3, 1) := by decide +kernel
theorem dJ0_fill_14 : decode cJ0_fill 14 = .ok (.lload_n 1, 1) := by decide +kernel
theorem dJ0_fill_15 : decode cJ0_fill 15 = .ok (.lastore, 1) := by decide +kernel
theorem dJ0_fill_16 : decode cJ0_fill 16 = .ok (.iinc 3 1, 3) := by decide +kernel
theorem dJ0_fill_19 : decode cJ0_fill 19 = .ok (.goto (-13), 3) := by decide +kernel
theorem dJ0_fill_22 : decode cJ0_fill 22 = .ok (.return_, 1) := by decide +kernel
theorem dJ0_sort_0 : decode cJ0_sort 0 = .ok (.aload_n 0, 1) := by decide +kernel
theorem dJ0_sort_1 : decode cJ0_sort 1 = .ok (.arraylength, 1) := by decide +kernel
theorem dJ0_sort_2 : decode cJ0_sort 2 = .ok (.iload_n 1, 1) := by decide +kernel
theorem dJ0_sort_3 : decode cJ0_sort 3 = .ok (.iload_n 2, 1) := by decide +kernel
theorem dJ0_sort_4 : decode cJ0_sort 4 = .ok (.invokestatic 13, 3) := by decide +kernel
theorem dJ0_sort_7 : decode cJ0_sort 7 = .ok (.aload_n 0, 1) := by decide +kernel
theorem dJ0_sort_8 : decode cJ0_sort 8 = .ok (.iconst 0, 1) := by decide +kernel
theorem dJ0_sort_9 : decode cJ0_sort 9 = .ok (.iload_n 1, 1) := by decide +kernel
theorem dJ0_sort_10 : decode cJ0_sort 10 = .ok (.iload_n 2, 1) := by decide +kernel
theorem dJ0_sort_11 : decode cJ0_sort 11 = .ok (.invokestatic 7, 3) := by decide +kernel
theorem dJ0_sort_14 : decode cJ0_sort 14 = .ok (.return_, 1) := by decide +kernel
theorem dJ0_rangeCheck_0 : decode cJ0_rangeCheck 0 = .ok (.iload_n 1, 1) := by decide +kernel
theorem dJ0_rangeCheck_1 : decode cJ0_rangeCheck 1 = .ok (.iload_n 2, 1) := by decide +kernel
theorem dJ0_rangeCheck_2 : decode cJ0_rangeCheck 2 = .ok (.if_icmp .le 44, 3) := by decide +kernel
theorem dJ0_rangeCheck_5 : decode cJ0_rangeCheck 5 = .ok (.new 43, 3) := by decide +kernel
theorem dJ0_rangeCheck_8 : decode cJ0_rangeCheck 8 = .ok (.dup, 1) := by decide +kernel
theorem dJ0_rangeCheck_9 : decode cJ0_rangeCheck 9 = .ok (.new 45, 3) := by decide +kernel
theorem dJ0_rangeCheck_12 : decode cJ0_rangeCheck 12 = .ok (.dup, 1) := by decide +kernel
theorem dJ0_rangeCheck_13 : decode cJ0_rangeCheck 13 = .ok (.invokespecial 47, 3) := by decide +kernel
theorem dJ0_rangeCheck_16 : decode cJ0_rangeCheck 16 = .ok (.ldc 48, 2) := by decide +kernel
theorem dJ0_rangeCheck_18 : decode cJ0_rangeCheck 18 = .ok (.invokevirtual 50, 3) := by decide +kernel
theorem dJ0_rangeCheck_21 : decode cJ0_rangeCheck 21 = .ok (.iload_n 1, 1) := by decide +kernel
theorem dJ0_rangeCheck_22 : decode cJ0_rangeCheck 22 = .ok (.invokevirtual 54, 3) := by decide +kernel
theorem dJ0_rangeCheck_25 : decode cJ0_rangeCheck 25 = .ok (.ldc 57, 2) := by decide +kernel
theorem dJ0_rangeCheck_27 : decode cJ0_rangeCheck 27 = .ok (.invokevirtual 50, 3) := by decide +kernel
theorem dJ0_rangeCheck_30 : decode cJ0_rangeCheck 30 = .ok (.iload_n 2, 1) := by decide +kernel
theorem dJ0_rangeCheck_31 : decode cJ0_rangeCheck 31 = .ok (.invokevirtual 54, 3) := by decide +kernel
theorem dJ0_rangeCheck_34 : decode cJ0_rangeCheck 34 = .ok (.ldc 59, 2) := by decide +kernel
theorem dJ0_rangeCheck_36 : decode cJ0_rangeCheck 36 = .ok (.invokevirtual 50, 3) := by decide +kernel
theorem dJ0_rangeCheck_39 : decode cJ0_rangeCheck 39 = .ok (.invokevirtual 61, 3) := by decide +kernel
theorem dJ0_rangeCheck_42 : decode cJ0_rangeCheck 42 = .ok (.invokespecial 65, 3) := by decide +kernel
theorem dJ0_rangeCheck_45 : decode cJ0_rangeCheck 45 = .ok (.athrow, 1) := by decide +kernel
theorem dJ0_rangeCheck_46 : decode cJ0_rangeCheck 46 = .ok (.iload_n 1, 1) := by decide +kernel
theorem dJ0_rangeCheck_47 : decode cJ0_rangeCheck 47 = .ok (.ifCond .ge 12, 3) := by decide +kernel
theorem dJ0_rangeCheck_50 : decode cJ0_rangeCheck 50 = .ok (.new 68, 3) := by decide +kernel
theorem dJ0_rangeCheck_53 : decode cJ0_rangeCheck 53 = .ok (.dup, 1) := by decide +kernel
theorem dJ0_rangeCheck_54 : decode cJ0_rangeCheck 54 = .ok (.iload_n 1, 1) := by decide +kernel
theorem dJ0_rangeCheck_55 : decode cJ0_rangeCheck 55 = .ok (.invokespecial 70, 3) := by decide +kernel
theorem dJ0_rangeCheck_58 : decode cJ0_rangeCheck 58 = .ok (.athrow, 1) := by decide +kernel
theorem dJ0_rangeCheck_59 : decode cJ0_rangeCheck 59 = .ok (.iload_n 2, 1) := by decide +kernel
theorem dJ0_rangeCheck_60 : decode cJ0_rangeCheck 60 = .ok (.iload_n 0, 1) := by decide +kernel
theorem dJ0_rangeCheck_61 : decode cJ0_rangeCheck 61 = .ok (.if_icmp .le 12, 3) := by decide +kernel
theorem dJ0_rangeCheck_64 : decode cJ0_rangeCheck 64 = .ok (.new 68, 3) := by decide +kernel
theorem dJ0_rangeCheck_67 : decode cJ0_rangeCheck 67 = .ok (.dup, 1) := by decide +kernel
theorem dJ0_rangeCheck_68 : decode cJ0_rangeCheck 68 = .ok (.iload_n 2, 1) := by decide +kernel
theorem dJ0_rangeCheck_69 : decode cJ0_rangeCheck 69 = .ok (.invokespecial 70, 3) := by decide +kernel
theorem dJ0_rangeCheck_72 : decode cJ0_rangeCheck 72 = .ok (.athrow, 1) := by decide +kernel
theorem dJ0_rangeCheck_73 : decode cJ0_rangeCheck 73 = .ok (.return_, 1) := by decide +kernel
theorem dJ0_fill_2_0 : decode cJ0_fill_2 0 = .ok (.iconst 0, 1) := by decide +kernel
theorem dJ0_fill_2_1 : decode cJ0_fill_2 1 = .ok (.istore_n 2, 1) := by decide +kernel
theorem dJ0_fill_2_2 : decode cJ0_fill_2 2 = .ok (.aload_n 0, 1) := by decide +kernel
theorem dJ0_fill_2_3 : decode cJ0_fill_2 3 = .ok (.arraylength, 1) := by decide +kernel
theorem dJ0_fill_2_4 : decode cJ0_fill_2 4 = .ok (.istore_n 3, 1) := by decide +kernel
theorem dJ0_fill_2_5 : decode cJ0_fill_2 5 = .ok (.iload_n 2, 1) := by decide +kernel
theorem dJ0_fill_2_6 : decode cJ0_fill_2 6 = .ok (.iload_n 3, 1) := by decide +kernel
theorem dJ0_fill_2_7 : decode cJ0_fill_2 7 = .ok (.if_icmp .ge 13, 3) := by decide +kernel
theorem dJ0_fill_2_10 : decode cJ0_fill_2 10 = .ok (.aload_n 0, 1) := by decide +kernel
theorem dJ0_fill_2_11 : decode cJ0_fill_2 11 = .ok (.iload_n 2, 1) := by decide +kernel
theorem dJ0_fill_2_12 : decode cJ0_fill_2 12 = .ok (.iload_n 1, 1) := by decide +kernel
theorem dJ0_fill_2_13 : decode cJ0_fill_2 13 = .ok (.iastore, 1) := by decide +kernel
theorem dJ0_fill_2_14 : decode cJ0_fill_2 14 = .ok (.iinc 2 1, 3) := by decide +kernel
theorem dJ0_fill_2_17 : decode cJ0_fill_2 17 = .ok (.goto (-12), 3) := by decide +kernel
theorem dJ0_fill_2_20 : decode cJ0_fill_2 20 = .ok (.return_, 1) := by decide +kernel
theorem dJ1_min_0 : decode cJ1_min 0 = .ok (.iload_n 0, 1) := by decide +kernel
theorem dJ1_min_1 : decode cJ1_min 1 = .ok (.iload_n 1, 1) := by decide +kernel
theorem dJ1_min_2 : decode cJ1_min 2 = .ok (.if_icmp .gt 7, 3) := by decide +kernel
theorem dJ1_min_5 : decode cJ1_min 5 = .ok (.iload_n 0, 1) := by decide +kernel
theorem dJ1_min_6 : decode cJ1_min 6 = .ok (.goto 4, 3) := by decide +kernel
theorem dJ1_min_9 : decode cJ1_min 9 = .ok (.iload_n 1, 1) := by decide +kernel
theorem dJ1_min_10 : decode cJ1_min 10 = .ok (.ireturn, 1) := by decide +kernel
theorem dJ1_max_0 : decode cJ1_max 0 = .ok (.iload_n 0, 1) := by decide +kernel
theorem dJ1_max_1 : decode cJ1_max 1 = .ok (.iload_n 1, 1) := by decide +kernel
theorem dJ1_max_2 : decode cJ1_max 2 = .ok (.if_icmp .lt 7, 3) := by decide +kernel
theorem dJ1_max_5 : decode cJ1_max 5 = .ok (.iload_n 0, 1) := by decide +kernel
theorem dJ1_max_6 : decode cJ1_max 6 = .ok (.goto 4, 3) := by decide +kernel
theorem dJ1_max_9 : decode cJ1_max 9 = .ok (.iload_n 1, 1) := by decide +kernel
theorem dJ1_max_10 : decode cJ1_max 10 = .ok (.ireturn, 1) := by decide +kernel
theorem dJ2_sort_0 : decode cJ2_sort 0 = .ok (.iload_n 3, 1) := by decide +kernel
theorem dJ2_sort_1 : decode cJ2_sort 1 = .ok (.iload_n 2, 1) := by decide +kernel
theorem dJ2_sort_2 : decode cJ2_sort 2 = .ok (.isub, 1) := by decide +kernel
theorem dJ2_sort_3 : decode cJ2_sort 3 = .ok (.istore 4, 2) := by decide +kernel
theorem dJ2_sort_5 : decode cJ2_sort 5 = .ok (.iload_n 1, 1) := by decide +kernel
theorem dJ2_sort_6 : decode cJ2_sort 6 = .ok (.iconst 1, 1) := by decide +kernel
theorem dJ2_sort_7 : decode cJ2_sort 7 = .ok (.if_icmp .le 61, 3) := by decide +kernel
theorem dJ2_sort_10 : decode cJ2_sort 10 = .ok (.iload 4, 2) := by decide +kernel
theorem dJ2_sort_12 : decode cJ2_sort 12 = .ok (.sipush 4096, 3) := by decide +kernel
theorem dJ2_sort_15 : decode cJ2_sort 15 = .ok (.if_icmp .le 53, 3) := by decide +kernel
theorem dJ2_sort_18 : decode cJ2_sort 18 = .ok (.iload_n 1, 1) := by decide +kernel
theorem dJ2_sort_19 : decode cJ2_sort 19 = .ok (.iload 4, 2) := by decide +kernel
theorem dJ2_sort_21 : decode cJ2_sort 21 = .ok (.bipush 12, 2) := by decide +kernel
theorem dJ2_sort_23 : decode cJ2_sort 23 = .ok (.ishr, 1) := by decide +kernel
theorem dJ2_sort_24 : decode cJ2_sort 24 = .ok (.invokestatic 13, 3) := by decide +kernel
theorem dJ2_sort_27 : decode cJ2_sort 27 = .ok (.istore 5, 2) := by decide +kernel
theorem dJ2_sort_29 : decode cJ2_sort 29 = .ok (.iload 5, 2) := by decide +kernel
theorem dJ2_sort_31 : decode cJ2_sort 31 = .ok (.ifCond .ne 7, 3) := by decide +kernel
theorem dJ2_sort_34 : decode cJ2_sort 34 = .ok (.aconst_null, 1) := by decide +kernel
theorem dJ2_sort_35 : decode cJ2_sort 35 = .ok (.goto 7, 3) := by decide +kernel
theorem dJ2_sort_38 : decode cJ2_sort 38 = .ok (.iload 4, 2) := by decide +kernel
theorem dJ2_sort_40 : decode cJ2_sort 40 = .ok (.newarray .int, 2) := by decide +kernel
theorem dJ2_sort_42 : decode cJ2_sort 42 = .ok (.astore 6, 2) := by decide +kernel
theorem dJ2_sort_44 : decode cJ2_sort 44 = .ok (.new 17, 3) := by decide +kernel
theorem dJ2_sort_47 : decode cJ2_sort 47 = .ok (.dup, 1) := by decide +kernel
theorem dJ2_sort_48 : decode cJ2_sort 48 = .ok (.aconst_null, 1) := by decide +kernel
theorem dJ2_sort_49 : decode cJ2_sort 49 = .ok (.aload_n 0, 1) := by decide +kernel
theorem dJ2_sort_50 : decode cJ2_sort 50 = .ok (.aload 6, 2) := by decide +kernel
theorem dJ2_sort_52 : decode cJ2_sort 52 = .ok (.iload_n 2, 1) := by decide +kernel
theorem dJ2_sort_53 : decode cJ2_sort 53 = .ok (.iload 4, 2) := by decide +kernel
theorem dJ2_sort_55 : decode cJ2_sort 55 = .ok (.iload_n 2, 1) := by decide +kernel
theorem dJ2_sort_56 : decode cJ2_sort 56 = .ok (.iload 5, 2) := by decide +kernel
theorem dJ2_sort_58 : decode cJ2_sort 58 = .ok (.invokespecial 19, 3) := by decide +kernel
theorem dJ2_sort_61 : decode cJ2_sort 61 = .ok (.invokevirtual 22, 3) := by decide +kernel
theorem dJ2_sort_64 : decode cJ2_sort 64 = .ok (.pop, 1) := by decide +kernel
theorem dJ2_sort_65 : decode cJ2_sort 65 = .ok (.goto 11, 3) := by decide +kernel
theorem dJ2_sort_68 : decode cJ2_sort 68 = .ok (.aconst_null, 1) := by decide +kernel
theorem dJ2_sort_69 : decode cJ2_sort 69 = .ok (.aload_n 0, 1) := by decide +kernel
theorem dJ2_sort_70 : decode cJ2_sort 70 = .ok (.iconst 0, 1) := by decide +kernel
theorem dJ2_sort_71 : decode cJ2_sort 71 = .ok (.iload_n 2, 1) := by decide +kernel
theorem dJ2_sort_72 : decode cJ2_sort 72 = .ok (.iload_n 3, 1) := by decide +kernel
theorem dJ2_sort_73 : decode cJ2_sort 73 = .ok (.invokestatic 26, 3) := by decide +kernel
theorem dJ2_sort_76 : decode cJ2_sort 76 = .ok (.return_, 1) := by decide +kernel
theorem dJ2_sort_2_0 : decode cJ2_sort_2 0 = .ok (.iload 4, 2) := by decide +kernel
theorem dJ2_sort_2_2 : decode cJ2_sort_2 2 = .ok (.iconst 1, 1) := by decide +kernel
theorem dJ2_sort_2_3 : decode cJ2_sort_2 3 = .ok (.isub, 1) := by decide +kernel
theorem dJ2_sort_2_4 : decode cJ2_sort_2 4 = .ok (.istore 5, 2) := by decide +kernel
theorem dJ2_sort_2_6 : decode cJ2_sort_2 6 = .ok (.iload 4, 2) := by decide +kernel
theorem dJ2_sort_2_8 : decode cJ2_sort_2 8 = .ok (.iload_n 3, 1) := by decide +kernel
theorem dJ2_sort_2_9 : decode cJ2_sort_2 9 = .ok (.isub, 1) := by decide +kernel
theorem dJ2_sort_2_10 : decode cJ2_sort_2 10 = .ok (.istore 6, 2) := by decide +kernel
theorem dJ2_sort_2_12 : decode cJ2_sort_2 12 = .ok (.iload 6, 2) := by decide +kernel
theorem dJ2_sort_2_14 : decode cJ2_sort_2 14 = .ok (.bipush 65, 2) := by decide +kernel
theorem dJ2_sort_2_16 : decode cJ2_sort_2 16 = .ok (.iload_n 2, 1) := by decide +kernel
theorem dJ2_sort_2_17 : decode cJ2_sort_2 17 = .ok (.iadd, 1) := by decide +kernel
theorem dJ2_sort_2_18 : decode cJ2_sort_2 18 = .ok (.if_icmp .ge 28, 3) := by decide +kernel
theorem dJ2_sort_2_21 : decode cJ2_sort_2 21 = .ok (.iload_n 2, 1) := by decide +kernel
theorem dJ2_sort_2_22 : decode cJ2_sort_2 22 = .ok (.iconst 1, 1) := by decide +kernel
theorem dJ2_sort_2_23 : decode cJ2_sort_2 23 = .ok (.iand, 1) := by decide +kernel
theorem dJ2_sort_2_24 : decode cJ2_sort_2 24 = .ok (.ifCond .le 22, 3) := by decide +kernel
theorem dJ2_sort_2_27 : decode cJ2_sort_2 27 = .ok (.aload_n 1, 1) := by decide +kernel
theorem dJ2_sort_2_28 : decode cJ2_sort_2 28 = .ok (.iload_n 3, 1) := by decide +kernel
theorem dJ2_sort_2_29 : decode cJ2_sort_2 29 = .ok (.iload 4, 2) := by decide +kernel
theorem dJ2_sort_2_31 : decode cJ2_sort_2 31 = .ok (.iconst 3, 1) := by decide +kernel
theorem dJ2_sort_2_32 : decode cJ2_sort_2 32 = .ok (.iload 6, 2) := by decide +kernel
theorem dJ2_sort_2_34 : decode cJ2_sort_2 34 = .ok (.iconst 5, 1) := by decide +kernel
theorem dJ2_sort_2_35 : decode cJ2_sort_2 35 = .ok (.ishr, 1) := by decide +kernel
theorem dJ2_sort_2_36 : decode cJ2_sort_2 36 = .ok (.iconst 3, 1) := by decide +kernel
theorem dJ2_sort_2_37 : decode cJ2_sort_2 37 = .ok (.ishl, 1) := by decide +kernel
theorem dJ2_sort_2_38 : decode cJ2_sort_2 38 = .ok (.imul, 1) := by decide +kernel
theorem dJ2_sort_2_39 : decode cJ2_sort_2 39 = .ok (.isub, 1) := by decide +kernel
theorem dJ2_sort_2_40 : decode cJ2_sort_2 40 = .ok (.iload 4, 2) := by decide +kernel
theorem dJ2_sort_2_42 : decode cJ2_sort_2 42 = .ok (.invokestatic 30, 3) := by decide +kernel
theorem dJ2_sort_2_45 : decode cJ2_sort_2 45 = .ok (.return_, 1) := by decide +kernel
theorem dJ2_sort_2_46 : decode cJ2_sort_2 46 = .ok (.iload 6, 2) := by decide +kernel
theorem dJ2_sort_2_48 : decode cJ2_sort_2 48 = .ok (.bipush 44, 2) := by decide +kernel
theorem dJ2_sort_2_50 : decode cJ2_sort_2 50 = .ok (.if_icmp .ge 11, 3) := by decide +kernel
theorem dJ2_sort_2_53 : decode cJ2_sort_2 53 = .ok (.aload_n 1, 1) := by decide +kernel
theorem dJ2_sort_2_54 : decode cJ2_sort_2 54 = .ok (.iload_n 3, 1) := by decide +kernel
theorem dJ2_sort_2_55 : decode cJ2_sort_2 55 = .ok (.iload 4, 2) := by decide +kernel
theorem dJ2_sort_2_57 : decode cJ2_sort_2 57 = .ok (.invokestatic 34, 3) := by decide +kernel
theorem dJ2_sort_2_60 : decode cJ2_sort_2 60 = .ok (.return_, 1) := by decide +kernel
theorem dJ2_sort_2_61 : decode cJ2_sort_2 61 = .ok (.iload_n 2, 1) := by decide +kernel
theorem dJ2_sort_2_62 : decode cJ2_sort_2 62 = .ok (.ifCond .eq 17, 3) := by decide +kernel
theorem dJ2_sort_2_65 : decode cJ2_sort_2 65 = .ok (.iload 6, 2) := by decide +kernel
theorem dJ2_sort_2_67 : decode cJ2_sort_2 67 = .ok (.sipush 4096, 3) := by decide +kernel
theorem dJ2_sort_2_70 : decode cJ2_sort_2 70 = .ok (.if_icmp .le 21, 3) := by decide +kernel
theorem dJ2_sort_2_73 : decode cJ2_sort_2 73 = .ok (.iload_n 2, 1) := by decide +kernel
theorem dJ2_sort_2_74 : decode cJ2_sort_2 74 = .ok (.iconst 1, 1) := by decide +kernel
theorem dJ2_sort_2_75 : decode cJ2_sort_2 75 = .ok (.iand, 1) := by decide +kernel
theorem dJ2_sort_2_76 : decode cJ2_sort_2 76 = .ok (.ifCond .le 15, 3) := by decide +kernel
theorem dJ2_sort_2_79 : decode cJ2_sort_2 79 = .ok (.aload_n 0, 1) := by decide +kernel
theorem dJ2_sort_2_80 : decode cJ2_sort_2 80 = .ok (.aload_n 1, 1) := by decide +kernel
theorem dJ2_sort_2_81 : decode cJ2_sort_2 81 = .ok (.iload_n 3, 1) := by decide +kernel
theorem dJ2_sort_2_82 : decode cJ2_sort_2 82 = .ok (.iload 6, 2) := by decide +kernel
theorem dJ2_sort_2_84 : decode cJ2_sort_2 84 = .ok (.invokestatic 38, 3) := by decide +kernel
theorem dJ2_sort_2_87 : decode cJ2_sort_2 87 = .ok (.ifCond .eq 4, 3) := by decide +kernel
theorem dJ2_sort_2_90 : decode cJ2_sort_2 90 = .ok (.return_, 1) := by decide +kernel
theorem dJ2_sort_2_91 : decode cJ2_sort_2 91 = .ok (.iinc 2 6, 3) := by decide +kernel
theorem dJ2_sort_2_94 : decode cJ2_sort_2 94 = .ok (.iload_n 2, 1) := by decide +kernel
theorem dJ2_sort_2_95 : decode cJ2_sort_2 95 = .ok (.sipush 384, 3) := by decide +kernel
theorem dJ2_sort_2_98 : decode cJ2_sort_2 98 = .ok (.if_icmp .le 11, 3) := by decide +kernel
theorem dJ2_sort_2_101 : decode cJ2_sort_2 101 = .ok (.aload_n 1, 1) := by decide +kernel
theorem dJ2_sort_2_102 : decode cJ2_sort_2 102 = .ok (.iload_n 3, 1) := by decide +kernel
theorem dJ2_sort_2_103 : decode cJ2_sort_2 103 = .ok (.iload 4, 2) := by decide +kernel
theorem dJ2_sort_2_105 : decode cJ2_sort_2 105 = .ok (.invokestatic 42, 3) := by decide +kernel
theorem dJ2_sort_2_108 : decode cJ2_sort_2 108 = .ok (.return_, 1) := by decide +kernel
theorem dJ2_sort_2_109 : decode cJ2_sort_2 109 = .ok (.iload 6, 2) := by decide +kernel
theorem dJ2_sort_2_111 : decode cJ2_sort_2 111 = .ok (.iconst 3, 1) := by decide +kernel
theorem dJ2_sort_2_112 : decode cJ2_sort_2 112 = .ok (.ishr, 1) := by decide +kernel
theorem dJ2_sort_2_113 : decode cJ2_sort_2 113 = .ok (.iconst 3, 1) := by decide +kernel
theorem dJ2_sort_2_114 : decode cJ2_sort_2 114 = .ok (.imul, 1) := by decide +kernel
theorem dJ2_sort_2_115 : decode cJ2_sort_2 115 = .ok (.iconst 3, 1) := by decide +kernel
theorem dJ2_sort_2_116 : decode cJ2_sort_2 116 = .ok (.iadd, 1) := by decide +kernel
theorem dJ2_sort_2_117 : decode cJ2_sort_2 117 = .ok (.istore 7, 2) := by decide +kernel
theorem dJ2_sort_2_119 : decode cJ2_sort_2 119 = .ok (.iload_n 3, 1) := by decide +kernel
theorem dJ2_sort_2_120 : decode cJ2_sort_2 120 = .ok (.iload 7, 2) := by decide +kernel
theorem dJ2_sort_2_122 : decode cJ2_sort_2 122 = .ok (.iadd, 1) := by decide +kernel
theorem dJ2_sort_2_123 : decode cJ2_sort_2 123 = .ok (.istore 8, 2) := by decide +kernel
theorem dJ2_sort_2_125 : decode cJ2_sort_2 125 = .ok (.iload 5, 2) := by decide +kernel
theorem dJ2_sort_2_127 : decode cJ2_sort_2 127 = .ok (.iload 7, 2) := by decide +kernel
theorem dJ2_sort_2_129 : decode cJ2_sort_2 129 = .ok (.isub, 1) := by decide +kernel
theorem dJ2_sort_2_130 : decode cJ2_sort_2 130 = .ok (.istore 9, 2) := by decide +kernel
theorem dJ2_sort_2_132 : decode cJ2_sort_2 132 = .ok (.iload 8, 2) := by decide +kernel
theorem dJ2_sort_2_134 : decode cJ2_sort_2 134 = .ok (.iload 9, 2) := by decide +kernel
theorem dJ2_sort_2_136 : decode cJ2_sort_2 136 = .ok (.iadd, 1) := by decide +kernel
theorem dJ2_sort_2_137 : decode cJ2_sort_2 137 = .ok (.iconst 1, 1) := by decide +kernel
theorem dJ2_sort_2_138 : decode cJ2_sort_2 138 = .ok (.iushr, 1) := by decide +kernel
theorem dJ2_sort_2_139 : decode cJ2_sort_2 139 = .ok (.istore 10, 2) := by decide +kernel
theorem dJ2_sort_2_141 : decode cJ2_sort_2 141 = .ok (.iload 8, 2) := by decide +kernel
theorem dJ2_sort_2_143 : decode cJ2_sort_2 143 = .ok (.iload 10, 2) := by decide +kernel
theorem dJ2_sort_2_145 : decode cJ2_sort_2 145 = .ok (.iadd, 1) := by decide +kernel
theorem dJ2_sort_2_146 : decode cJ2_sort_2 146 = .ok (.iconst 1, 1) := by decide +kernel
theorem dJ2_sort_2_147 : decode cJ2_sort_2 147 = .ok (.iushr, 1) := by decide +kernel
theorem dJ2_sort_2_148 : decode cJ2_sort_2 148 = .ok (.istore 11, 2) := by decide +kernel
theorem dJ2_sort_2_150 : decode cJ2_sort_2 150 = .ok (.iload 10, 2) := by decide +kernel
theorem dJ2_sort_2_152 : decode cJ2_sort_2 152 = .ok (.iload 9, 2) := by decide +kernel
theorem dJ2_sort_2_154 : decode cJ2_sort_2 154 = .ok (.iadd, 1) := by decide +kernel
theorem dJ2_sort_2_155 : decode cJ2_sort_2 155 = .ok (.iconst 1, 1) := by decide +kernel
theorem dJ2_sort_2_156 : decode cJ2_sort_2 156 = .ok (.iushr, 1) := by decide +kernel
theorem dJ2_sort_2_157 : decode cJ2_sort_2 157 = .ok (.istore 12, 2) := by decide +kernel
theorem dJ2_sort_2_159 : decode cJ2_sort_2 159 = .ok (.aload_n 1, 1) := by decide +kernel
theorem dJ2_sort_2_160 : decode cJ2_sort_2 160 = .ok (.iload 10, 2) := by decide +kernel
theorem dJ2_sort_2_162 : decode cJ2_sort_2 162 = .ok (.iaload, 1) := by decide +kernel
theorem dJ2_sort_2_163 : decode cJ2_sort_2 163 = .ok (.istore 13, 2) := by decide +kernel
theorem dJ2_sort_2_165 : decode cJ2_sort_2 165 = .ok (.aload_n 1, 1) := by decide +kernel
theorem dJ2_sort_2_166 : decode cJ2_sort_2 166 = .ok (.iload 9, 2) := by decide +kernel
theorem dJ2_sort_2_168 : decode cJ2_sort_2 168 = .ok (.iaload, 1) := by decide +kernel
theorem dJ2_sort_2_169 : decode cJ2_sort_2 169 = .ok (.aload_n 1, 1) := by decide +kernel
theorem dJ2_sort_2_170 : decode cJ2_sort_2 170 = .ok (.iload 11, 2) := by decide +kernel
theorem dJ2_sort_2_172 : decode cJ2_sort_2 172 = .ok (.iaload, 1) := by decide +kernel
theorem dJ2_sort_2_173 : decode cJ2_sort_2 173 = .ok (.if_icmp .ge 23, 3) := by decide +kernel
theorem dJ2_sort_2_176 : decode cJ2_sort_2 176 = .ok (.aload_n 1, 1) := by decide +kernel
theorem dJ2_sort_2_177 : decode cJ2_sort_2 177 = .ok (.iload 9, 2) := by decide +kernel
theorem dJ2_sort_2_179 : decode cJ2_sort_2 179 = .ok (.iaload, 1) := by decide +kernel
theorem dJ2_sort_2_180 : decode cJ2_sort_2 180 = .ok (.istore 14, 2) := by decide +kernel
theorem dJ2_sort_2_182 : decode cJ2_sort_2 182 = .ok (.aload_n 1, 1) := by decide +kernel
theorem dJ2_sort_2_183 : decode cJ2_sort_2 183 = .ok (.iload 9, 2) := by decide +kernel
theorem dJ2_sort_2_185 : decode cJ2_sort_2 185 = .ok (.aload_n 1, 1) := by decide +kernel
theorem dJ2_sort_2_186 : decode cJ2_sort_2 186 = .ok (.iload 11, 2) := by decide +kernel
theorem dJ2_sort_2_188 : decode cJ2_sort_2 188 = .ok (.iaload, 1) := by decide +kernel
theorem dJ2_sort_2_189 : decode cJ2_sort_2 189 = .ok (.iastore, 1) := by decide +kernel
theorem dJ2_sort_2_190 : decode cJ2_sort_2 190 = .ok (.aload_n 1, 1) := by decide +kernel
theorem dJ2_sort_2_191 : decode cJ2_sort_2 191 = .ok (.iload 11, 2) := by decide +kernel
theorem dJ2_sort_2_193 : decode cJ2_sort_2 193 = .ok (.iload 14, 2) := by decide +kernel
theorem dJ2_sort_2_195 : decode cJ2_sort_2 195 = .ok (.iastore, 1) := by decide +kernel
theorem dJ2_sort_2_196 : decode cJ2_sort_2 196 = .ok (.aload_n 1, 1) := by decide +kernel
theorem dJ2_sort_2_197 : decode cJ2_sort_2 197 = .ok (.iload 12, 2) := by decide +kernel
theorem dJ2_sort_2_199 : decode cJ2_sort_2 199 = .ok (.iaload, 1) := by decide +kernel
theorem dJ2_sort_2_200 : decode cJ2_sort_2 200 = .ok (.aload_n 1, 1) := by decide +kernel
theorem dJ2_sort_2_201 : decode cJ2_sort_2 201 = .ok (.iload 8, 2) := by decide +kernel
theorem dJ2_sort_2_203 : decode cJ2_sort_2 203 = .ok (.iaload, 1) := by decide +kernel
theorem dJ2_sort_2_204 : decode cJ2_sort_2 204 = .ok (.if_icmp .ge 23, 3) := by decide +kernel
theorem dJ2_sort_2_207 : decode cJ2_sort_2 207 = .ok (.aload_n 1, 1) := by decide +kernel
theorem dJ2_sort_2_208 : decode cJ2_sort_2 208 = .ok (.iload 12, 2) := by decide +kernel
theorem dJ2_sort_2_210 : decode cJ2_sort_2 210 = .ok (.iaload, 1) := by decide +kernel
theorem dJ2_sort_2_211 : decode cJ2_sort_2 211 = .ok (.istore 14, 2) := by decide +kernel
theorem dJ2_sort_2_213 : decode cJ2_sort_2 213 = .ok (.aload_n 1, 1) := by decide +kernel
theorem dJ2_sort_2_214 : decode cJ2_sort_2 214 = .ok (.iload 12, 2) := by decide +kernel
theorem dJ2_sort_2_216 : decode cJ2_sort_2 216 = .ok (.aload_n 1, 1) := by decide +kernel
theorem dJ2_sort_2_217 : decode cJ2_sort_2 217 = .ok (.iload 8, 2) := by decide +kernel
theorem dJ2_sort_2_219 : decode cJ2_sort_2 219 = .ok (.iaload, 1) := by decide +kernel
theorem dJ2_sort_2_220 : decode cJ2_sort_2 220 = .ok (.iastore, 1) := by decide +kernel
theorem dJ2_sort_2_221 : decode cJ2_sort_2 221 = .ok (.aload_n 1, 1) := by decide +kernel
theorem dJ2_sort_2_222 : decode cJ2_sort_2 222 = .ok (.iload 8, 2) := by decide +kernel
theorem dJ2_sort_2_224 : decode cJ2_sort_2 224 = .ok (.iload 14, 2) := by decide +kernel
theorem dJ2_sort_2_226 : decode cJ2_sort_2 226 = .ok (.iastore, 1) := by decide +kernel
theorem dJ2_sort_2_227 : decode cJ2_sort_2 227 = .ok (.aload_n 1, 1) := by decide +kernel
theorem dJ2_sort_2_228 : decode cJ2_sort_2 228 = .ok (.iload 9, 2) := by decide +kernel
theorem dJ2_sort_2_230 : decode cJ2_sort_2 230 = .ok (.iaload, 1) := by decide +kernel
theorem dJ2_sort_2_231 : decode cJ2_sort_2 231 = .ok (.aload_n 1, 1) := by decide +kernel
theorem dJ2_sort_2_232 : decode cJ2_sort_2 232 = .ok (.iload 12, 2) := by decide +kernel
theorem dJ2_sort_2_234 : decode cJ2_sort_2 234 = .ok (.iaload, 1) := by decide +kernel
theorem dJ2_sort_2_235 : decode cJ2_sort_2 235 = .ok (.if_icmp .ge 23, 3) := by decide +kernel
theorem dJ2_sort_2_238 : decode cJ2_sort_2 238 = .ok (.aload_n 1, 1) := by decide +kernel
theorem dJ2_sort_2_239 : decode cJ2_sort_2 239 = .ok (.iload 9, 2) := by decide +kernel
theorem dJ2_sort_2_241 : decode cJ2_sort_2 241 = .ok (.iaload, 1) := by decide +kernel
theorem dJ2_sort_2_242 : decode cJ2_sort_2 242 = .ok (.istore 14, 2) := by decide +kernel
theorem dJ2_sort_2_244 : decode cJ2_sort_2 244 = .ok (.aload_n 1, 1) := by decide +kernel
theorem dJ2_sort_2_245 : decode cJ2_sort_2 245 = .ok (.iload 9, 2) := by decide +kernel
theorem dJ2_sort_2_247 : decode cJ2_sort_2 247 = .ok (.aload_n 1, 1) := by decide +kernel
theorem dJ2_sort_2_248 : decode cJ2_sort_2 248 = .ok (.iload 12, 2) := by decide +kernel
theorem dJ2_sort_2_250 : decode cJ2_sort_2 250 = .ok (.iaload, 1) := by decide +kernel
theorem dJ2_sort_2_251 : decode cJ2_sort_2 251 = .ok (.iastore, 1) := by decide +kernel
theorem dJ2_sort_2_252 : decode cJ2_sort_2 252 = .ok (.aload_n 1, 1) := by decide +kernel
theorem dJ2_sort_2_253 : decode cJ2_sort_2 253 = .ok (.iload 12, 2) := by decide +kernel
theorem dJ2_sort_2_255 : decode cJ2_sort_2 255 = .ok (.iload 14, 2) := by decide +kernel
theorem dJ2_sort_2_257 : decode cJ2_sort_2 257 = .ok (.iastore, 1) := by decide +kernel
theorem dJ2_sort_2_258 : decode cJ2_sort_2 258 = .ok (.aload_n 1, 1) := by decide +kernel
theorem dJ2_sort_2_259 : decode cJ2_sort_2 259 = .ok (.iload 11, 2) := by decide +kernel
theorem dJ2_sort_2_261 : decode cJ2_sort_2 261 = .ok (.iaload, 1) := by decide +kernel
theorem dJ2_sort_2_262 : decode cJ2_sort_2 262 = .ok (.aload_n 1, 1) := by decide +kernel
theorem dJ2_sort_2_263 : decode cJ2_sort_2 263 = .ok (.iload 8, 2) := by decide +kernel
theorem dJ2_sort_2_265 : decode cJ2_sort_2 265 = .ok (.iaload, 1) := by decide +kernel
theorem dJ2_sort_2_266 : decode cJ2_sort_2 266 = .ok (.if_icmp .ge 23, 3) := by decide +kernel
theorem dJ2_sort_2_269 : decode cJ2_sort_2 269 = .ok (.aload_n 1, 1) := by decide +kernel
theorem dJ2_sort_2_270 : decode cJ2_sort_2 270 = .ok (.iload 11, 2) := by decide +kernel
theorem dJ2_sort_2_272 : decode cJ2_sort_2 272 = .ok (.iaload, 1) := by decide +kernel
theorem dJ2_sort_2_273 : decode cJ2_sort_2 273 = .ok (.istore 14, 2) := by decide +kernel
theorem dJ2_sort_2_275 : decode cJ2_sort_2 275 = .ok (.aload_n 1, 1) := by decide +kernel
theorem dJ2_sort_2_276 : decode cJ2_sort_2 276 = .ok (.iload 11, 2) := by decide +kernel
theorem dJ2_sort_2_278 : decode cJ2_sort_2 278 = .ok (.aload_n 1, 1) := by decide +kernel
theorem dJ2_sort_2_279 : decode cJ2_sort_2 279 = .ok (.iload 8, 2) := by decide +kernel
theorem dJ2_sort_2_281 : decode cJ2_sort_2 281 = .ok (.iaload, 1) := by decide +kernel
theorem dJ2_sort_2_282 : decode cJ2_sort_2 282 = .ok (.iastore, 1) := by decide +kernel
theorem dJ2_sort_2_283 : decode cJ2_sort_2 283 = .ok (.aload_n 1, 1) := by decide +kernel
theorem dJ2_sort_2_284 : decode cJ2_sort_2 284 = .ok (.iload 8, 2) := by decide +kernel
theorem dJ2_sort_2_286 : decode cJ2_sort_2 286 = .ok (.iload 14, 2) := by decide +kernel
theorem dJ2_sort_2_288 : decode cJ2_sort_2 288 = .ok (.iastore, 1) := by decide +kernel
theorem dJ2_sort_2_289 : decode cJ2_sort_2 289 = .ok (.aload_n 1, 1) := by decide +kernel
theorem dJ2_sort_2_290 : decode cJ2_sort_2 290 = .ok (.iload 12, 2) := by decide +kernel
theorem dJ2_sort_2_292 : decode cJ2_sort_2 292 = .ok (.iaload, 1) := by decide +kernel
theorem dJ2_sort_2_293 : decode cJ2_sort_2 293 = .ok (.aload_n 1, 1) := by decide +kernel
theorem dJ2_sort_2_294 : decode cJ2_sort_2 294 = .ok (.iload 11, 2) := by decide +kernel
theorem dJ2_sort_2_296 : decode cJ2_sort_2 296 = .ok (.iaload, 1) := by decide +kernel
theorem dJ2_sort_2_297 : decode cJ2_sort_2 297 = .ok (.if_icmp .ge 23, 3) := by decide +kernel
theorem dJ2_sort_2_300 : decode cJ2_sort_2 300 = .ok (.aload_n 1, 1) := by decide +kernel
theorem dJ2_sort_2_301 : decode cJ2_sort_2 301 = .ok (.iload 12, 2) := by decide +kernel
theorem dJ2_sort_2_303 : decode cJ2_sort_2 303 = .ok (.iaload, 1) := by decide +kernel
theorem dJ2_sort_2_304 : decode cJ2_sort_2 304 = .ok (.istore 14, 2) := by decide +kernel
theorem dJ2_sort_2_306 : decode cJ2_sort_2 306 = .ok (.aload_n 1, 1) := by decide +kernel
theorem dJ2_sort_2_307 : decode cJ2_sort_2 307 = .ok (.iload 12, 2) := by decide +kernel
theorem dJ2_sort_2_309 : decode cJ2_sort_2 309 = .ok (.aload_n 1, 1) := by decide +kernel
theorem dJ2_sort_2_310 : decode cJ2_sort_2 310 = .ok (.iload 11, 2) := by decide +kernel
theorem dJ2_sort_2_312 : decode cJ2_sort_2 312 = .ok (.iaload, 1) := by decide +kernel
theorem dJ2_sort_2_313 : decode cJ2_sort_2 313 = .ok (.iastore, 1) := by decide +kernel
theorem dJ2_sort_2_314 : decode cJ2_sort_2 314 = .ok (.aload_n 1, 1) := by decide +kernel
theorem dJ2_sort_2_315 : decode cJ2_sort_2 315 = .ok (.iload 11, 2) := by decide +kernel
theorem dJ2_sort_2_317 : decode cJ2_sort_2 317 = .ok (.iload 14, 2) := by decide +kernel
theorem dJ2_sort_2_319 : decode cJ2_sort_2 319 = .ok (.iastore, 1) := by decide +kernel
theorem dJ2_sort_2_320 : decode cJ2_sort_2 320 = .ok (.iload 13, 2) := by decide +kernel
theorem dJ2_sort_2_322 : decode cJ2_sort_2 322 = .ok (.aload_n 1, 1) := by decide +kernel
theorem dJ2_sort_2_323 : decode cJ2_sort_2 323 = .ok (.iload 11, 2) := by decide +kernel
theorem dJ2_sort_2_325 : decode cJ2_sort_2 325 = .ok (.iaload, 1) := by decide +kernel
theorem dJ2_sort_2_326 : decode cJ2_sort_2 326 = .ok (.if_icmp .ge 54, 3) := by decide +kernel
theorem dJ2_sort_2_329 : decode cJ2_sort_2 329 = .ok (.iload 13, 2) := by decide +kernel
theorem dJ2_sort_2_331 : decode cJ2_sort_2 331 = .ok (.aload_n 1, 1) := by decide +kernel
theorem dJ2_sort_2_332 : decode cJ2_sort_2 332 = .ok (.iload 8, 2) := by decide +kernel
theorem dJ2_sort_2_334 : decode cJ2_sort_2 334 = .ok (.iaload, 1) := by decide +kernel
theorem dJ2_sort_2_335 : decode cJ2_sort_2 335 = .ok (.if_icmp .ge 28, 3) := by decide +kernel
theorem dJ2_sort_2_338 : decode cJ2_sort_2 338 = .ok (.aload_n 1, 1) := by decide +kernel
theorem dJ2_sort_2_339 : decode cJ2_sort_2 339 = .ok (.iload 10, 2) := by decide +kernel
theorem dJ2_sort_2_341 : decode cJ2_sort_2 341 = .ok (.aload_n 1, 1) := by decide +kernel
theorem dJ2_sort_2_342 : decode cJ2_sort_2 342 = .ok (.iload 11, 2) := by decide +kernel
theorem dJ2_sort_2_344 : decode cJ2_sort_2 344 = .ok (.iaload, 1) := by decide +kernel
theorem dJ2_sort_2_345 : decode cJ2_sort_2 345 = .ok (.iastore, 1) := by decide +kernel
theorem dJ2_sort_2_346 : decode cJ2_sort_2 346 = .ok (.aload_n 1, 1) := by decide +kernel
theorem dJ2_sort_2_347 : decode cJ2_sort_2 347 = .ok (.iload 11, 2) := by decide +kernel
theorem dJ2_sort_2_349 : decode cJ2_sort_2 349 = .ok (.aload_n 1, 1) := by decide +kernel
theorem dJ2_sort_2_350 : decode cJ2_sort_2 350 = .ok (.iload 8, 2) := by decide +kernel
theorem dJ2_sort_2_352 : decode cJ2_sort_2 352 = .ok (.iaload, 1) := by decide +kernel
theorem dJ2_sort_2_353 : decode cJ2_sort_2 353 = .ok (.iastore, 1) := by decide +kernel
theorem dJ2_sort_2_354 : decode cJ2_sort_2 354 = .ok (.aload_n 1, 1) := by decide +kernel
theorem dJ2_sort_2_355 : decode cJ2_sort_2 355 = .ok (.iload 8, 2) := by decide +kernel
theorem dJ2_sort_2_357 : decode cJ2_sort_2 357 = .ok (.iload 13, 2) := by decide +kernel
theorem dJ2_sort_2_359 : decode cJ2_sort_2 359 = .ok (.iastore, 1) := by decide +kernel
theorem dJ2_sort_2_360 : decode cJ2_sort_2 360 = .ok (.goto 77, 3) := by decide +kernel
theorem dJ2_sort_2_363 : decode cJ2_sort_2 363 = .ok (.aload_n 1, 1) := by decide +kernel
theorem dJ2_sort_2_364 : decode cJ2_sort_2 364 = .ok (.iload 10, 2) := by decide +kernel
theorem dJ2_sort_2_366 : decode cJ2_sort_2 366 = .ok (.aload_n 1, 1) := by decide +kernel
theorem dJ2_sort_2_367 : decode cJ2_sort_2 367 = .ok (.iload 11, 2) := by decide +kernel
theorem dJ2_sort_2_369 : decode cJ2_sort_2 369 = .ok (.iaload, 1) := by decide +kernel
theorem dJ2_sort_2_370 : decode cJ2_sort_2 370 = .ok (.iastore, 1) := by decide +kernel
theorem dJ2_sort_2_371 : decode cJ2_sort_2 371 = .ok (.aload_n 1, 1) := by decide +kernel
theorem dJ2_sort_2_372 : decode cJ2_sort_2 372 = .ok (.iload 11, 2) := by decide +kernel
theorem dJ2_sort_2_374 : decode cJ2_sort_2 374 = .ok (.iload 13, 2) := by decide +kernel
theorem dJ2_sort_2_376 : decode cJ2_sort_2 376 = .ok (.iastore, 1) := by decide +kernel
theorem dJ2_sort_2_377 : decode cJ2_sort_2 377 = .ok (.goto 60, 3) := by decide +kernel
theorem dJ2_sort_2_380 : decode cJ2_sort_2 380 = .ok (.iload 13, 2) := by decide +kernel
theorem dJ2_sort_2_382 : decode cJ2_sort_2 382 = .ok (.aload_n 1, 1) := by decide +kernel
theorem dJ2_sort_2_383 : decode cJ2_sort_2 383 = .ok (.iload 12, 2) := by decide +kernel
theorem dJ2_sort_2_385 : decode cJ2_sort_2 385 = .ok (.iaload, 1) := by decide +kernel
theorem dJ2_sort_2_386 : decode cJ2_sort_2 386 = .ok (.if_icmp .le 51, 3) := by decide +kernel
theorem dJ2_sort_2_389 : decode cJ2_sort_2 389 = .ok (.iload 13, 2) := by decide +kernel
theorem dJ2_sort_2_391 : decode cJ2_sort_2 391 = .ok (.aload_n 1, 1) := by decide +kernel
theorem dJ2_sort_2_392 : decode cJ2_sort_2 392 = .ok (.iload 9, 2) := by decide +kernel
theorem dJ2_sort_2_394 : decode cJ2_sort_2 394 = .ok (.iaload, 1) := by decide +kernel
theorem dJ2_sort_2_395 : decode cJ2_sort_2 395 = .ok (.if_icmp .le 28, 3) := by decide +kernel
theorem dJ2_sort_2_398 : decode cJ2_sort_2 398 = .ok (.aload_n 1, 1) := by decide +kernel
theorem dJ2_sort_2_399 : decode cJ2_sort_2 399 = .ok (.iload 10, 2) := by decide +kernel
theorem dJ2_sort_2_401 : decode cJ2_sort_2 401 = .ok (.aload_n 1, 1) := by decide +kernel
theorem dJ2_sort_2_402 : decode cJ2_sort_2 402 = .ok (.iload 12, 2) := by decide +kernel
theorem dJ2_sort_2_404 : decode cJ2_sort_2 404 = .ok (.iaload, 1) := by decide +kernel
theorem dJ2_sort_2_405 : decode cJ2_sort_2 405 = .ok (.iastore, 1) := by decide +kernel
theorem dJ2_sort_2_406 : decode cJ2_sort_2 406 = .ok (.aload_n 1, 1) := by decide +kernel
theorem dJ2_sort_2_407 : decode cJ2_sort_2 407 = .ok (.iload 12, 2) := by decide +kernel
theorem dJ2_sort_2_409 : decode cJ2_sort_2 409 = .ok (.aload_n 1, 1) := by decide +kernel
theorem dJ2_sort_2_410 : decode cJ2_sort_2 410 = .ok (.iload 9, 2) := by decide +kernel
theorem dJ2_sort_2_412 : decode cJ2_sort_2 412 = .ok (.iaload, 1) := by decide +kernel
theorem dJ2_sort_2_413 : decode cJ2_sort_2 413 = .ok (.iastore, 1) := by decide +kernel
theorem dJ2_sort_2_414 : decode cJ2_sort_2 414 = .ok (.aload_n 1, 1) := by decide +kernel
theorem dJ2_sort_2_415 : decode cJ2_sort_2 415 = .ok (.iload 9, 2) := by decide +kernel
theorem dJ2_sort_2_417 : decode cJ2_sort_2 417 = .ok (.iload 13, 2) := by decide +kernel
theorem dJ2_sort_2_419 : decode cJ2_sort_2 419 = .ok (.iastore, 1) := by decide +kernel
theorem dJ2_sort_2_420 : decode cJ2_sort_2 420 = .ok (.goto 17, 3) := by decide +kernel
theorem dJ2_sort_2_423 : decode cJ2_sort_2 423 = .ok (.aload_n 1, 1) := by decide +kernel
theorem dJ2_sort_2_424 : decode cJ2_sort_2 424 = .ok (.iload 10, 2) := by decide +kernel
theorem dJ2_sort_2_426 : decode cJ2_sort_2 426 = .ok (.aload_n 1, 1) := by decide +kernel
theorem dJ2_sort_2_427 : decode cJ2_sort_2 427 = .ok (.iload 12, 2) := by decide +kernel
theorem dJ2_sort_2_429 : decode cJ2_sort_2 429 = .ok (.iaload, 1) := by decide +kernel
theorem dJ2_sort_2_430 : decode cJ2_sort_2 430 = .ok (.iastore, 1) := by decide +kernel
theorem dJ2_sort_2_431 : decode cJ2_sort_2 431 = .ok (.aload_n 1, 1) := by decide +kernel
theorem dJ2_sort_2_432 : decode cJ2_sort_2 432 = .ok (.iload 12, 2) := by decide +kernel
theorem dJ2_sort_2_434 : decode cJ2_sort_2 434 = .ok (.iload 13, 2) := by decide +kernel
theorem dJ2_sort_2_436 : decode cJ2_sort_2 436 = .ok (.iastore, 1) := by decide +kernel
theorem dJ2_sort_2_437 : decode cJ2_sort_2 437 = .ok (.iload_n 3, 1) := by decide +kernel
theorem dJ2_sort_2_438 : decode cJ2_sort_2 438 = .ok (.istore 14, 2) := by decide +kernel
theorem dJ2_sort_2_440 : decode cJ2_sort_2 440 = .ok (.iload 5, 2) := by decide +kernel
theorem dJ2_sort_2_442 : decode cJ2_sort_2 442 = .ok (.istore 15, 2) := by decide +kernel
theorem dJ2_sort_2_444 : decode cJ2_sort_2 444 = .ok (.aload_n 1, 1) := by decide +kernel
theorem dJ2_sort_2_445 : decode cJ2_sort_2 445 = .ok (.iload 8, 2) := by decide +kernel
theorem dJ2_sort_2_447 : decode cJ2_sort_2 447 = .ok (.iaload, 1) := by decide +kernel
theorem dJ2_sort_2_448 : decode cJ2_sort_2 448 = .ok (.aload_n 1, 1) := by decide +kernel
theorem dJ2_sort_2_449 : decode cJ2_sort_2 449 = .ok (.iload 11, 2) := by decide +kernel
theorem dJ2_sort_2_451 : decode cJ2_sort_2 451 = .ok (.iaload, 1) := by decide +kernel
theorem dJ2_sort_2_452 : decode cJ2_sort_2 452 = .ok (.if_icmp .ge 324, 3) := by decide +kernel
theorem dJ2_sort_2_455 : decode cJ2_sort_2 455 = .ok (.aload_n 1, 1) := by decide +kernel
theorem dJ2_sort_2_456 : decode cJ2_sort_2 456 = .ok (.iload 11, 2) := by decide +kernel
theorem dJ2_sort_2_458 : decode cJ2_sort_2 458 = .ok (.iaload, 1) := by decide +kernel
theorem dJ2_sort_2_459 : decode cJ2_sort_2 459 = .ok (.aload_n 1, 1) := by decide +kernel
theorem dJ2_sort_2_460 : decode cJ2_sort_2 460 = .ok (.iload 10, 2) := by decide +kernel
theorem dJ2_sort_2_462 : decode cJ2_sort_2 462 = .ok (.iaload, 1) := by decide +kernel
theorem dJ2_sort_2_463 : decode cJ2_sort_2 463 = .ok (.if_icmp .ge 313, 3) := by decide +kernel
theorem dJ2_sort_2_466 : decode cJ2_sort_2 466 = .ok (.aload_n 1, 1) := by decide +kernel
theorem dJ2_sort_2_467 : decode cJ2_sort_2 467 = .ok (.iload 10, 2) := by decide +kernel
theorem dJ2_sort_2_469 : decode cJ2_sort_2 469 = .ok (.iaload, 1) := by decide +kernel
theorem dJ2_sort_2_470 : decode cJ2_sort_2 470 = .ok (.aload_n 1, 1) := by decide +kernel
theorem dJ2_sort_2_471 : decode cJ2_sort_2 471 = .ok (.iload 12, 2) := by decide +kernel
theorem dJ2_sort_2_473 : decode cJ2_sort_2 473 = .ok (.iaload, 1) := by decide +kernel
theorem dJ2_sort_2_474 : decode cJ2_sort_2 474 = .ok (.if_icmp .ge 302, 3) := by decide +kernel
theorem dJ2_sort_2_477 : decode cJ2_sort_2 477 = .ok (.aload_n 1, 1) := by decide +kernel
theorem dJ2_sort_2_478 : decode cJ2_sort_2 478 = .ok (.iload 12, 2) := by decide +kernel
theorem dJ2_sort_2_480 : decode cJ2_sort_2 480 = .ok (.iaload, 1) := by decide +kernel
theorem dJ2_sort_2_481 : decode cJ2_sort_2 481 = .ok (.aload_n 1, 1) := by decide +kernel
theorem dJ2_sort_2_482 : decode cJ2_sort_2 482 = .ok (.iload 9, 2) := by decide +kernel
theorem dJ2_sort_2_484 : decode cJ2_sort_2 484 = .ok (.iaload, 1) := by decide +kernel
theorem dJ2_sort_2_485 : decode cJ2_sort_2 485 = .ok (.if_icmp .ge 291, 3) := by decide +kernel
theorem dJ2_sort_2_488 : decode cJ2_sort_2 488 = .ok (.aload_n 1, 1) := by decide +kernel
theorem dJ2_sort_2_489 : decode cJ2_sort_2 489 = .ok (.iload 8, 2) := by decide +kernel
theorem dJ2_sort_2_491 : decode cJ2_sort_2 491 = .ok (.iaload, 1) := by decide +kernel
theorem dJ2_sort_2_492 : decode cJ2_sort_2 492 = .ok (.istore 16, 2) := by decide +kernel
theorem dJ2_sort_2_494 : decode cJ2_sort_2 494 = .ok (.aload_n 1, 1) := by decide +kernel
theorem dJ2_sort_2_495 : decode cJ2_sort_2 495 = .ok (.iload 9, 2) := by decide +kernel
theorem dJ2_sort_2_497 : decode cJ2_sort_2 497 = .ok (.iaload, 1) := by decide +kernel
theorem dJ2_sort_2_498 : decode cJ2_sort_2 498 = .ok (.istore 17, 2) := by decide +kernel
theorem dJ2_sort_2_500 : decode cJ2_sort_2 500 = .ok (.aload_n 1, 1) := by decide +kernel
theorem dJ2_sort_2_501 : decode cJ2_sort_2 501 = .ok (.iload 8, 2) := by decide +kernel
theorem dJ2_sort_2_503 : decode cJ2_sort_2 503 = .ok (.aload_n 1, 1) := by decide +kernel
theorem dJ2_sort_2_504 : decode cJ2_sort_2 504 = .ok (.iload 14, 2) := by decide +kernel
theorem dJ2_sort_2_506 : decode cJ2_sort_2 506 = .ok (.iaload, 1) := by decide +kernel
theorem dJ2_sort_2_507 : decode cJ2_sort_2 507 = .ok (.iastore, 1) := by decide +kernel
theorem dJ2_sort_2_508 : decode cJ2_sort_2 508 = .ok (.aload_n 1, 1) := by decide +kernel
theorem dJ2_sort_2_509 : decode cJ2_sort_2 509 = .ok (.iload 9, 2) := by decide +kernel
theorem dJ2_sort_2_511 : decode cJ2_sort_2 511 = .ok (.aload_n 1, 1) := by decide +kernel
theorem dJ2_sort_2_512 : decode cJ2_sort_2 512 = .ok (.iload 15, 2) := by decide +kernel
theorem dJ2_sort_2_514 : decode cJ2_sort_2 514 = .ok (.iaload, 1) := by decide +kernel
theorem dJ2_sort_2_515 : decode cJ2_sort_2 515 = .ok (.iastore, 1) := by decide +kernel
theorem dJ2_sort_2_516 : decode cJ2_sort_2 516 = .ok (.aload_n 1, 1) := by decide +kernel
theorem dJ2_sort_2_517 : decode cJ2_sort_2 517 = .ok (.iinc 14 1, 3) := by decide +kernel
theorem dJ2_sort_2_520 : decode cJ2_sort_2 520 = .ok (.iload 14, 2) := by decide +kernel
theorem dJ2_sort_2_522 : decode cJ2_sort_2 522 = .ok (.iaload, 1) := by decide +kernel
theorem dJ2_sort_2_523 : decode cJ2_sort_2 523 = .ok (.iload 16, 2) := by decide +kernel
theorem dJ2_sort_2_525 : decode cJ2_sort_2 525 = .ok (.if_icmp .ge 6, 3) := by decide +kernel
theorem dJ2_sort_2_528 : decode cJ2_sort_2 528 = .ok (.goto (-12), 3) := by decide +kernel
theorem dJ2_sort_2_531 : decode cJ2_sort_2 531 = .ok (.aload_n 1, 1) := by decide +kernel
theorem dJ2_sort_2_532 : decode cJ2_sort_2 532 = .ok (.iinc 15 (-1), 3) := by decide +kernel
theorem dJ2_sort_2_535 : decode cJ2_sort_2 535 = .ok (.iload 15, 2) := by decide +kernel
theorem dJ2_sort_2_537 : decode cJ2_sort_2 537 = .ok (.iaload, 1) := by decide +kernel
theorem dJ2_sort_2_538 : decode cJ2_sort_2 538 = .ok (.iload 17, 2) := by decide +kernel
theorem dJ2_sort_2_540 : decode cJ2_sort_2 540 = .ok (.if_icmp .le 6, 3) := by decide +kernel
theorem dJ2_sort_2_543 : decode cJ2_sort_2 543 = .ok (.goto (-12), 3) := by decide +kernel
theorem dJ2_sort_2_546 : decode cJ2_sort_2 546 = .ok (.iinc 14 (-1), 3) := by decide +kernel
theorem dJ2_sort_2_549 : decode cJ2_sort_2 549 = .ok (.iload 14, 2) := by decide +kernel
theorem dJ2_sort_2_551 : decode cJ2_sort_2 551 = .ok (.istore 18, 2) := by decide +kernel
theorem dJ2_sort_2_553 : decode cJ2_sort_2 553 = .ok (.iinc 15 1, 3) := by decide +kernel
theorem dJ2_sort_2_556 : decode cJ2_sort_2 556 = .ok (.iload 15, 2) := by decide +kernel
theorem dJ2_sort_2_558 : decode cJ2_sort_2 558 = .ok (.istore 19, 2) := by decide +kernel
theorem dJ2_sort_2_560 : decode cJ2_sort_2 560 = .ok (.iinc 19 (-1), 3) := by decide +kernel
theorem dJ2_sort_2_563 : decode cJ2_sort_2 563 = .ok (.iload 19, 2) := by decide +kernel
theorem dJ2_sort_2_565 : decode cJ2_sort_2 565 = .ok (.iload 14, 2) := by decide +kernel
theorem dJ2_sort_2_567 : decode cJ2_sort_2 567 = .ok (.if_icmp .le 110, 3) := by decide +kernel
theorem dJ2_sort_2_570 : decode cJ2_sort_2 570 = .ok (.aload_n 1, 1) := by decide +kernel
theorem dJ2_sort_2_571 : decode cJ2_sort_2 571 = .ok (.iload 19, 2) := by decide +kernel
theorem dJ2_sort_2_573 : decode cJ2_sort_2 573 = .ok (.iaload, 1) := by decide +kernel
theorem dJ2_sort_2_574 : decode cJ2_sort_2 574 = .ok (.istore 20, 2) := by decide +kernel
theorem dJ2_sort_2_576 : decode cJ2_sort_2 576 = .ok (.iload 20, 2) := by decide +kernel
theorem dJ2_sort_2_578 : decode cJ2_sort_2 578 = .ok (.iload 16, 2) := by decide +kernel
theorem dJ2_sort_2_580 : decode cJ2_sort_2 580 = .ok (.if_icmp .ge 70, 3) := by decide +kernel
theorem dJ2_sort_2_583 : decode cJ2_sort_2 583 = .ok (.iload 14, 2) := by decide +kernel
theorem dJ2_sort_2_585 : decode cJ2_sort_2 585 = .ok (.iload 19, 2) := by decide +kernel
theorem dJ2_sort_2_587 : decode cJ2_sort_2 587 = .ok (.if_icmp .ge 87, 3) := by decide +kernel
theorem dJ2_sort_2_590 : decode cJ2_sort_2 590 = .ok (.aload_n 1, 1) := by decide +kernel
theorem dJ2_sort_2_591 : decode cJ2_sort_2 591 = .ok (.iinc 14 1, 3) := by decide +kernel
theorem dJ2_sort_2_594 : decode cJ2_sort_2 594 = .ok (.iload 14, 2) := by decide +kernel
theorem dJ2_sort_2_596 : decode cJ2_sort_2 596 = .ok (.iaload, 1) := by decide +kernel
theorem dJ2_sort_2_597 : decode cJ2_sort_2 597 = .ok (.iload 16, 2) := by decide +kernel
theorem dJ2_sort_2_599 : decode cJ2_sort_2 599 = .ok (.if_icmp .lt (-16), 3) := by decide +kernel
theorem dJ2_sort_2_602 : decode cJ2_sort_2 602 = .ok (.aload_n 1, 1) := by decide +kernel
theorem dJ2_sort_2_603 : decode cJ2_sort_2 603 = .ok (.iload 14, 2) := by decide +kernel
theorem dJ2_sort_2_605 : decode cJ2_sort_2 605 = .ok (.iaload, 1) := by decide +kernel
theorem dJ2_sort_2_606 : decode cJ2_sort_2 606 = .ok (.iload 17, 2) := by decide +kernel
theorem dJ2_sort_2_608 : decode cJ2_sort_2 608 = .ok (.if_icmp .le 25, 3) := by decide +kernel
theorem dJ2_sort_2_611 : decode cJ2_sort_2 611 = .ok (.aload_n 1, 1) := by decide +kernel
theorem dJ2_sort_2_612 : decode cJ2_sort_2 612 = .ok (.iload 19, 2) := by decide +kernel
theorem dJ2_sort_2_614 : decode cJ2_sort_2 614 = .ok (.aload_n 1, 1) := by decide +kernel
theorem dJ2_sort_2_615 : decode cJ2_sort_2 615 = .ok (.iinc 15 (-1), 3) := by decide +kernel
theorem dJ2_sort_2_618 : decode cJ2_sort_2 618 = .ok (.iload 15, 2) := by decide +kernel
theorem dJ2_sort_2_620 : decode cJ2_sort_2 620 = .ok (.iaload, 1) := by decide +kernel
theorem dJ2_sort_2_621 : decode cJ2_sort_2 621 = .ok (.iastore, 1) := by decide +kernel
theorem dJ2_sort_2_622 : decode cJ2_sort_2 622 = .ok (.aload_n 1, 1) := by decide +kernel
theorem dJ2_sort_2_623 : decode cJ2_sort_2 623 = .ok (.iload 15, 2) := by decide +kernel
theorem dJ2_sort_2_625 : decode cJ2_sort_2 625 = .ok (.aload_n 1, 1) := by decide +kernel
theorem dJ2_sort_2_626 : decode cJ2_sort_2 626 = .ok (.iload 14, 2) := by decide +kernel
theorem dJ2_sort_2_628 : decode cJ2_sort_2 628 = .ok (.iaload, 1) := by decide +kernel
theorem dJ2_sort_2_629 : decode cJ2_sort_2 629 = .ok (.iastore, 1) := by decide +kernel
theorem dJ2_sort_2_630 : decode cJ2_sort_2 630 = .ok (.goto 11, 3) := by decide +kernel
theorem dJ2_sort_2_633 : decode cJ2_sort_2 633 = .ok (.aload_n 1, 1) := by decide +kernel
theorem dJ2_sort_2_634 : decode cJ2_sort_2 634 = .ok (.iload 19, 2) := by decide +kernel
theorem dJ2_sort_2_636 : decode cJ2_sort_2 636 = .ok (.aload_n 1, 1) := by decide +kernel
theorem dJ2_sort_2_637 : decode cJ2_sort_2 637 = .ok (.iload 14, 2) := by decide +kernel
theorem dJ2_sort_2_639 : decode cJ2_sort_2 639 = .ok (.iaload, 1) := by decide +kernel
theorem dJ2_sort_2_640 : decode cJ2_sort_2 640 = .ok (.iastore, 1) := by decide +kernel
theorem dJ2_sort_2_641 : decode cJ2_sort_2 641 = .ok (.aload_n 1, 1) := by decide +kernel
theorem dJ2_sort_2_642 : decode cJ2_sort_2 642 = .ok (.iload 14, 2) := by decide +kernel
theorem dJ2_sort_2_644 : decode cJ2_sort_2 644 = .ok (.iload 20, 2) := by decide +kernel
theorem dJ2_sort_2_646 : decode cJ2_sort_2 646 = .ok (.iastore, 1) := by decide +kernel
theorem dJ2_sort_2_647 : decode cJ2_sort_2 647 = .ok (.goto 27, 3) := by decide +kernel
theorem dJ2_sort_2_650 : decode cJ2_sort_2 650 = .ok (.iload 20, 2) := by decide +kernel
theorem dJ2_sort_2_652 : decode cJ2_sort_2 652 = .ok (.iload 17, 2) := by decide +kernel
theorem dJ2_sort_2_654 : decode cJ2_sort_2 654 = .ok (.if_icmp .le 20, 3) := by decide +kernel
theorem dJ2_sort_2_657 : decode cJ2_sort_2 657 = .ok (.aload_n 1, 1) := by decide +kernel
theorem dJ2_sort_2_658 : decode cJ2_sort_2 658 = .ok (.iload 19, 2) := by decide +kernel
theorem dJ2_sort_2_660 : decode cJ2_sort_2 660 = .ok (.aload_n 1, 1) := by decide +kernel
theorem dJ2_sort_2_661 : decode cJ2_sort_2 661 = .ok (.iinc 15 (-1), 3) := by decide +kernel
theorem dJ2_sort_2_664 : decode cJ2_sort_2 664 = .ok (.iload 15, 2) := by decide +kernel
theorem dJ2_sort_2_666 : decode cJ2_sort_2 666 = .ok (.iaload, 1) := by decide +kernel
theorem dJ2_sort_2_667 : decode cJ2_sort_2 667 = .ok (.iastore, 1) := by decide +kernel
theorem dJ2_sort_2_668 : decode cJ2_sort_2 668 = .ok (.aload_n 1, 1) := by decide +kernel
theorem dJ2_sort_2_669 : decode cJ2_sort_2 669 = .ok (.iload 15, 2) := by decide +kernel
theorem dJ2_sort_2_671 : decode cJ2_sort_2 671 = .ok (.iload 20, 2) := by decide +kernel
theorem dJ2_sort_2_673 : decode cJ2_sort_2 673 = .ok (.iastore, 1) := by decide +kernel
theorem dJ2_sort_2_674 : decode cJ2_sort_2 674 = .ok (.goto (-114), 3) := by decide +kernel
theorem dJ2_sort_2_677 : decode cJ2_sort_2 677 = .ok (.aload_n 1, 1) := by decide +kernel
theorem dJ2_sort_2_678 : decode cJ2_sort_2 678 = .ok (.iload_n 3, 1) := by decide +kernel
theorem dJ2_sort_2_679 : decode cJ2_sort_2 679 = .ok (.aload_n 1, 1) := by decide +kernel
theorem dJ2_sort_2_680 : decode cJ2_sort_2 680 = .ok (.iload 14, 2) := by decide +kernel
theorem dJ2_sort_2_682 : decode cJ2_sort_2 682 = .ok (.iaload, 1) := by decide +kernel
theorem dJ2_sort_2_683 : decode cJ2_sort_2 683 = .ok (.iastore, 1) := by decide +kernel
theorem dJ2_sort_2_684 : decode cJ2_sort_2 684 = .ok (.aload_n 1, 1) := by decide +kernel
theorem dJ2_sort_2_685 : decode cJ2_sort_2 685 = .ok (.iload 14, 2) := by decide +kernel
theorem dJ2_sort_2_687 : decode cJ2_sort_2 687 = .ok (.iload 16, 2) := by decide +kernel
theorem dJ2_sort_2_689 : decode cJ2_sort_2 689 = .ok (.iastore, 1) := by decide +kernel
theorem dJ2_sort_2_690 : decode cJ2_sort_2 690 = .ok (.aload_n 1, 1) := by decide +kernel
theorem dJ2_sort_2_691 : decode cJ2_sort_2 691 = .ok (.iload 5, 2) := by decide +kernel
theorem dJ2_sort_2_693 : decode cJ2_sort_2 693 = .ok (.aload_n 1, 1) := by decide +kernel
theorem dJ2_sort_2_694 : decode cJ2_sort_2 694 = .ok (.iload 15, 2) := by decide +kernel
theorem dJ2_sort_2_696 : decode cJ2_sort_2 696 = .ok (.iaload, 1) := by decide +kernel
theorem dJ2_sort_2_697 : decode cJ2_sort_2 697 = .ok (.iastore, 1) := by decide +kernel
theorem dJ2_sort_2_698 : decode cJ2_sort_2 698 = .ok (.aload_n 1, 1) := by decide +kernel
theorem dJ2_sort_2_699 : decode cJ2_sort_2 699 = .ok (.iload 15, 2) := by decide +kernel
theorem dJ2_sort_2_701 : decode cJ2_sort_2 701 = .ok (.iload 17, 2) := by decide +kernel
theorem dJ2_sort_2_703 : decode cJ2_sort_2 703 = .ok (.iastore, 1) := by decide +kernel
theorem dJ2_sort_2_704 : decode cJ2_sort_2 704 = .ok (.iload 6, 2) := by decide +kernel
theorem dJ2_sort_2_706 : decode cJ2_sort_2 706 = .ok (.sipush 4096, 3) := by decide +kernel
theorem dJ2_sort_2_709 : decode cJ2_sort_2 709 = .ok (.if_icmp .le 36, 3) := by decide +kernel
theorem dJ2_sort_2_712 : decode cJ2_sort_2 712 = .ok (.aload_n 0, 1) := by decide +kernel
theorem dJ2_sort_2_713 : decode cJ2_sort_2 713 = .ok (.ifnull 32, 3) := by decide +kernel
theorem dJ2_sort_2_716 : decode cJ2_sort_2 716 = .ok (.aload_n 0, 1) := by decide +kernel
theorem dJ2_sort_2_717 : decode cJ2_sort_2 717 = .ok (.iload_n 2, 1) := by decide +kernel
theorem dJ2_sort_2_718 : decode cJ2_sort_2 718 = .ok (.iconst 1, 1) := by decide +kernel
theorem dJ2_sort_2_719 : decode cJ2_sort_2 719 = .ok (.ior, 1) := by decide +kernel
theorem dJ2_sort_2_720 : decode cJ2_sort_2 720 = .ok (.iload 14, 2) := by decide +kernel
theorem dJ2_sort_2_722 : decode cJ2_sort_2 722 = .ok (.iconst 1, 1) := by decide +kernel
theorem dJ2_sort_2_723 : decode cJ2_sort_2 723 = .ok (.iadd, 1) := by decide +kernel
theorem dJ2_sort_2_724 : decode cJ2_sort_2 724 = .ok (.iload 15, 2) := by decide +kernel
theorem dJ2_sort_2_726 : decode cJ2_sort_2 726 = .ok (.invokevirtual 45, 3) := by decide +kernel
theorem dJ2_sort_2_729 : decode cJ2_sort_2 729 = .ok (.aload_n 0, 1) := by decide +kernel
theorem dJ2_sort_2_730 : decode cJ2_sort_2 730 = .ok (.iload_n 2, 1) := by decide +kernel
theorem dJ2_sort_2_731 : decode cJ2_sort_2 731 = .ok (.iconst 1, 1) := by decide +kernel
theorem dJ2_sort_2_732 : decode cJ2_sort_2 732 = .ok (.ior, 1) := by decide +kernel
theorem dJ2_sort_2_733 : decode cJ2_sort_2 733 = .ok (.iload 15, 2) := by decide +kernel
theorem dJ2_sort_2_735 : decode cJ2_sort_2 735 = .ok (.iconst 1, 1) := by decide +kernel
theorem dJ2_sort_2_736 : decode cJ2_sort_2 736 = .ok (.iadd, 1) := by decide +kernel
theorem dJ2_sort_2_737 : decode cJ2_sort_2 737 = .ok (.iload 4, 2) := by decide +kernel
theorem dJ2_sort_2_739 : decode cJ2_sort_2 739 = .ok (.invokevirtual 45, 3) := by decide +kernel
theorem dJ2_sort_2_742 : decode cJ2_sort_2 742 = .ok (.goto 31, 3) := by decide +kernel
theorem dJ2_sort_2_745 : decode cJ2_sort_2 745 = .ok (.aload_n 0, 1) := by decide +kernel
theorem dJ2_sort_2_746 : decode cJ2_sort_2 746 = .ok (.aload_n 1, 1) := by decide +kernel
theorem dJ2_sort_2_747 : decode cJ2_sort_2 747 = .ok (.iload_n 2, 1) := by decide +kernel
theorem dJ2_sort_2_748 : decode cJ2_sort_2 748 = .ok (.iconst 1, 1) := by decide +kernel
theorem dJ2_sort_2_749 : decode cJ2_sort_2 749 = .ok (.ior, 1) := by decide +kernel
theorem dJ2_sort_2_750 : decode cJ2_sort_2 750 = .ok (.iload 14, 2) := by decide +kernel
theorem dJ2_sort_2_752 : decode cJ2_sort_2 752 = .ok (.iconst 1, 1) := by decide +kernel
theorem dJ2_sort_2_753 : decode cJ2_sort_2 753 = .ok (.iadd, 1) := by decide +kernel
theorem dJ2_sort_2_754 : decode cJ2_sort_2 754 = .ok (.iload 15, 2) := by decide +kernel
theorem dJ2_sort_2_756 : decode cJ2_sort_2 756 = .ok (.invokestatic 26, 3) := by decide +kernel
theorem dJ2_sort_2_759 : decode cJ2_sort_2 759 = .ok (.aload_n 0, 1) := by decide +kernel
theorem dJ2_sort_2_760 : decode cJ2_sort_2 760 = .ok (.aload_n 1, 1) := by decide +kernel
theorem dJ2_sort_2_761 : decode cJ2_sort_2 761 = .ok (.iload_n 2, 1) := by decide +kernel
theorem dJ2_sort_2_762 : decode cJ2_sort_2 762 = .ok (.iconst 1, 1) := by decide +kernel
theorem dJ2_sort_2_763 : decode cJ2_sort_2 763 = .ok (.ior, 1) := by decide +kernel
theorem dJ2_sort_2_764 : decode cJ2_sort_2 764 = .ok (.iload 15, 2) := by decide +kernel
theorem dJ2_sort_2_766 : decode cJ2_sort_2 766 = .ok (.iconst 1, 1) := by decide +kernel
theorem dJ2_sort_2_767 : decode cJ2_sort_2 767 = .ok (.iadd, 1) := by decide +kernel
theorem dJ2_sort_2_768 : decode cJ2_sort_2 768 = .ok (.iload 4, 2) := by decide +kernel
theorem dJ2_sort_2_770 : decode cJ2_sort_2 770 = .ok (.invokestatic 26, 3) := by decide +kernel
theorem dJ2_sort_2_773 : decode cJ2_sort_2 773 = .ok (.goto 167, 3) := by decide +kernel
theorem dJ2_sort_2_776 : decode cJ2_sort_2 776 = .ok (.aload_n 1, 1) := by decide +kernel
theorem dJ2_sort_2_777 : decode cJ2_sort_2 777 = .ok (.iload 10, 2) := by decide +kernel
theorem dJ2_sort_2_779 : decode cJ2_sort_2 779 = .ok (.iaload, 1) := by decide +kernel
theorem dJ2_sort_2_780 : decode cJ2_sort_2 780 = .ok (.istore 16, 2) := by decide +kernel
theorem dJ2_sort_2_782 : decode cJ2_sort_2 782 = .ok (.aload_n 1, 1) := by decide +kernel
theorem dJ2_sort_2_783 : decode cJ2_sort_2 783 = .ok (.iload 10, 2) := by decide +kernel
theorem dJ2_sort_2_785 : decode cJ2_sort_2 785 = .ok (.aload_n 1, 1) := by decide +kernel
theorem dJ2_sort_2_786 : decode cJ2_sort_2 786 = .ok (.iload 14, 2) := by decide +kernel
theorem dJ2_sort_2_788 : decode cJ2_sort_2 788 = .ok (.iaload, 1) := by decide +kernel
theorem dJ2_sort_2_789 : decode cJ2_sort_2 789 = .ok (.iastore, 1) := by decide +kernel
theorem dJ2_sort_2_790 : decode cJ2_sort_2 790 = .ok (.iinc 15 1, 3) := by decide +kernel
theorem dJ2_sort_2_793 : decode cJ2_sort_2 793 = .ok (.iload 15, 2) := by decide +kernel
theorem dJ2_sort_2_795 : decode cJ2_sort_2 795 = .ok (.istore 17, 2) := by decide +kernel
theorem dJ2_sort_2_797 : decode cJ2_sort_2 797 = .ok (.iinc 17 (-1), 3) := by decide +kernel
theorem dJ2_sort_2_800 : decode cJ2_sort_2 800 = .ok (.iload 17, 2) := by decide +kernel
theorem dJ2_sort_2_802 : decode cJ2_sort_2 802 = .ok (.iload 14, 2) := by decide +kernel
theorem dJ2_sort_2_804 : decode cJ2_sort_2 804 = .ok (.if_icmp .le 85, 3) := by decide +kernel
theorem dJ2_sort_2_807 : decode cJ2_sort_2 807 = .ok (.aload_n 1, 1) := by decide +kernel
theorem dJ2_sort_2_808 : decode cJ2_sort_2 808 = .ok (.iload 17, 2) := by decide +kernel
theorem dJ2_sort_2_810 : decode cJ2_sort_2 810 = .ok (.iaload, 1) := by decide +kernel
theorem dJ2_sort_2_811 : decode cJ2_sort_2 811 = .ok (.istore 18, 2) := by decide +kernel
theorem dJ2_sort_2_813 : decode cJ2_sort_2 813 = .ok (.iload 18, 2) := by decide +kernel
theorem dJ2_sort_2_815 : decode cJ2_sort_2 815 = .ok (.iload 16, 2) := by decide +kernel
theorem dJ2_sort_2_817 : decode cJ2_sort_2 817 = .ok (.if_icmp .eq 69, 3) := by decide +kernel
theorem dJ2_sort_2_820 : decode cJ2_sort_2 820 = .ok (.aload_n 1, 1) := by decide +kernel
theorem dJ2_sort_2_821 : decode cJ2_sort_2 821 = .ok (.iload 17, 2) := by decide +kernel
theorem dJ2_sort_2_823 : decode cJ2_sort_2 823 = .ok (.iload 16, 2) := by decide +kernel
theorem dJ2_sort_2_825 : decode cJ2_sort_2 825 = .ok (.iastore, 1) := by decide +kernel
theorem dJ2_sort_2_826 : decode cJ2_sort_2 826 = .ok (.iload 18, 2) := by decide +kernel
theorem dJ2_sort_2_828 : decode cJ2_sort_2 828 = .ok (.iload 16, 2) := by decide +kernel
theorem dJ2_sort_2_830 : decode cJ2_sort_2 830 = .ok (.if_icmp .ge 47, 3) := by decide +kernel
theorem dJ2_sort_2_833 : decode cJ2_sort_2 833 = .ok (.aload_n 1, 1) := by decide +kernel
theorem dJ2_sort_2_834 : decode cJ2_sort_2 834 = .ok (.iinc 14 1, 3) := by decide +kernel
theorem dJ2_sort_2_837 : decode cJ2_sort_2 837 = .ok (.iload 14, 2) := by decide +kernel
theorem dJ2_sort_2_839 : decode cJ2_sort_2 839 = .ok (.iaload, 1) := by decide +kernel
theorem dJ2_sort_2_840 : decode cJ2_sort_2 840 = .ok (.iload 16, 2) := by decide +kernel
theorem dJ2_sort_2_842 : decode cJ2_sort_2 842 = .ok (.if_icmp .ge 6, 3) := by decide +kernel
theorem dJ2_sort_2_845 : decode cJ2_sort_2 845 = .ok (.goto (-12), 3) := by decide +kernel
theorem dJ2_sort_2_848 : decode cJ2_sort_2 848 = .ok (.aload_n 1, 1) := by decide +kernel
theorem dJ2_sort_2_849 : decode cJ2_sort_2 849 = .ok (.iload 14, 2) := by decide +kernel
theorem dJ2_sort_2_851 : decode cJ2_sort_2 851 = .ok (.iaload, 1) := by decide +kernel
theorem dJ2_sort_2_852 : decode cJ2_sort_2 852 = .ok (.iload 16, 2) := by decide +kernel
theorem dJ2_sort_2_854 : decode cJ2_sort_2 854 = .ok (.if_icmp .le 14, 3) := by decide +kernel
theorem dJ2_sort_2_857 : decode cJ2_sort_2 857 = .ok (.aload_n 1, 1) := by decide +kernel
theorem dJ2_sort_2_858 : decode cJ2_sort_2 858 = .ok (.iinc 15 (-1), 3) := by decide +kernel
theorem dJ2_sort_2_861 : decode cJ2_sort_2 861 = .ok (.iload 15, 2) := by decide +kernel
theorem dJ2_sort_2_863 : decode cJ2_sort_2 863 = .ok (.aload_n 1, 1) := by decide +kernel
theorem dJ2_sort_2_864 : decode cJ2_sort_2 864 = .ok (.iload 14, 2) := by decide +kernel
theorem dJ2_sort_2_866 : decode cJ2_sort_2 866 = .ok (.iaload, 1) := by decide +kernel
theorem dJ2_sort_2_867 : decode cJ2_sort_2 867 = .ok (.iastore, 1) := by decide +kernel
theorem dJ2_sort_2_868 : decode cJ2_sort_2 868 = .ok (.aload_n 1, 1) := by decide +kernel
theorem dJ2_sort_2_869 : decode cJ2_sort_2 869 = .ok (.iload 14, 2) := by decide +kernel
theorem dJ2_sort_2_871 : decode cJ2_sort_2 871 = .ok (.iload 18, 2) := by decide +kernel
theorem dJ2_sort_2_873 : decode cJ2_sort_2 873 = .ok (.iastore, 1) := by decide +kernel
theorem dJ2_sort_2_874 : decode cJ2_sort_2 874 = .ok (.goto 12, 3) := by decide +kernel
theorem dJ2_sort_2_877 : decode cJ2_sort_2 877 = .ok (.aload_n 1, 1) := by decide +kernel
theorem dJ2_sort_2_878 : decode cJ2_sort_2 878 = .ok (.iinc 15 (-1), 3) := by decide +kernel
theorem dJ2_sort_2_881 : decode cJ2_sort_2 881 = .ok (.iload 15, 2) := by decide +kernel
theorem dJ2_sort_2_883 : decode cJ2_sort_2 883 = .ok (.iload 18, 2) := by decide +kernel
theorem dJ2_sort_2_885 : decode cJ2_sort_2 885 = .ok (.iastore, 1) := by decide +kernel
theorem dJ2_sort_2_886 : decode cJ2_sort_2 886 = .ok (.goto (-89), 3) := by decide +kernel
theorem dJ2_sort_2_889 : decode cJ2_sort_2 889 = .ok (.aload_n 1, 1) := by decide +kernel
theorem dJ2_sort_2_890 : decode cJ2_sort_2 890 = .ok (.iload_n 3, 1) := by decide +kernel
theorem dJ2_sort_2_891 : decode cJ2_sort_2 891 = .ok (.aload_n 1, 1) := by decide +kernel
theorem dJ2_sort_2_892 : decode cJ2_sort_2 892 = .ok (.iload 14, 2) := by decide +kernel
theorem dJ2_sort_2_894 : decode cJ2_sort_2 894 = .ok (.iaload, 1) := by decide +kernel
theorem dJ2_sort_2_895 : decode cJ2_sort_2 895 = .ok (.iastore, 1) := by decide +kernel
theorem dJ2_sort_2_896 : decode cJ2_sort_2 896 = .ok (.aload_n 1, 1) := by decide +kernel
theorem dJ2_sort_2_897 : decode cJ2_sort_2 897 = .ok (.iload 14, 2) := by decide +kernel
theorem dJ2_sort_2_899 : decode cJ2_sort_2 899 = .ok (.iload 16, 2) := by decide +kernel
theorem dJ2_sort_2_901 : decode cJ2_sort_2 901 = .ok (.iastore, 1) := by decide +kernel
theorem dJ2_sort_2_902 : decode cJ2_sort_2 902 = .ok (.iload 6, 2) := by decide +kernel
theorem dJ2_sort_2_904 : decode cJ2_sort_2 904 = .ok (.sipush 4096, 3) := by decide +kernel
theorem dJ2_sort_2_907 : decode cJ2_sort_2 907 = .ok (.if_icmp .le 21, 3) := by decide +kernel
theorem dJ2_sort_2_910 : decode cJ2_sort_2 910 = .ok (.aload_n 0, 1) := by decide +kernel
theorem dJ2_sort_2_911 : decode cJ2_sort_2 911 = .ok (.ifnull 17, 3) := by decide +kernel
theorem dJ2_sort_2_914 : decode cJ2_sort_2 914 = .ok (.aload_n 0, 1) := by decide +kernel
theorem dJ2_sort_2_915 : decode cJ2_sort_2 915 = .ok (.iload_n 2, 1) := by decide +kernel
theorem dJ2_sort_2_916 : decode cJ2_sort_2 916 = .ok (.iconst 1, 1) := by decide +kernel
theorem dJ2_sort_2_917 : decode cJ2_sort_2 917 = .ok (.ior, 1) := by decide +kernel
theorem dJ2_sort_2_918 : decode cJ2_sort_2 918 = .ok (.iload 15, 2) := by decide +kernel
theorem dJ2_sort_2_920 : decode cJ2_sort_2 920 = .ok (.iload 4, 2) := by decide +kernel
theorem dJ2_sort_2_922 : decode cJ2_sort_2 922 = .ok (.invokevirtual 45, 3) := by decide +kernel
theorem dJ2_sort_2_925 : decode cJ2_sort_2 925 = .ok (.goto 15, 3) := by decide +kernel
theorem dJ2_sort_2_928 : decode cJ2_sort_2 928 = .ok (.aload_n 0, 1) := by decide +kernel
theorem dJ2_sort_2_929 : decode cJ2_sort_2 929 = .ok (.aload_n 1, 1) := by decide +kernel
theorem dJ2_sort_2_930 : decode cJ2_sort_2 930 = .ok (.iload_n 2, 1) := by decide +kernel
theorem dJ2_sort_2_931 : decode cJ2_sort_2 931 = .ok (.iconst 1, 1) := by decide +kernel
theorem dJ2_sort_2_932 : decode cJ2_sort_2 932 = .ok (.ior, 1) := by decide +kernel
theorem dJ2_sort_2_933 : decode cJ2_sort_2 933 = .ok (.iload 15, 2) := by decide +kernel
theorem dJ2_sort_2_935 : decode cJ2_sort_2 935 = .ok (.iload 4, 2) := by decide +kernel
theorem dJ2_sort_2_937 : decode cJ2_sort_2 937 = .ok (.invokestatic 26, 3) := by decide +kernel
theorem dJ2_sort_2_940 : decode cJ2_sort_2 940 = .ok (.iload 14, 2) := by decide +kernel
theorem dJ2_sort_2_942 : decode cJ2_sort_2 942 = .ok (.istore 4, 2) := by decide +kernel
theorem dJ2_sort_2_944 : decode cJ2_sort_2 944 = .ok (.goto (-944), 3) := by decide +kernel
theorem dJ2_insertionSort_0 : decode cJ2_insertionSort 0 = .ok (.iload_n 1, 1) := by decide +kernel
theorem dJ2_insertionSort_1 : decode cJ2_insertionSort 1 = .ok (.istore 4, 2) := by decide +kernel
theorem dJ2_insertionSort_3 : decode cJ2_insertionSort 3 = .ok (.iinc 4 1, 3) := by decide +kernel
theorem dJ2_insertionSort_6 : decode cJ2_insertionSort 6 = .ok (.iload 4, 2) := by decide +kernel
theorem dJ2_insertionSort_8 : decode cJ2_insertionSort 8 = .ok (.iload_n 2, 1) := by decide +kernel
theorem dJ2_insertionSort_9 : decode cJ2_insertionSort 9 = .ok (.if_icmp .ge 58, 3) := by decide +kernel
theorem dJ2_insertionSort_12 : decode cJ2_insertionSort 12 = .ok (.aload_n 0, 1) := by decide +kernel
theorem dJ2_insertionSort_13 : decode cJ2_insertionSort 13 = .ok (.iload 4, 2) := by decide +kernel
theorem dJ2_insertionSort_15 : decode cJ2_insertionSort 15 = .ok (.dup, 1) := by decide +kernel
theorem dJ2_insertionSort_16 : decode cJ2_insertionSort 16 = .ok (.istore_n 3, 1) := by decide +kernel
theorem dJ2_insertionSort_17 : decode cJ2_insertionSort 17 = .ok (.iaload, 1) := by decide +kernel
theorem dJ2_insertionSort_18 : decode cJ2_insertionSort 18 = .ok (.istore 5, 2) := by decide +kernel
theorem dJ2_insertionSort_20 : decode cJ2_insertionSort 20 = .ok (.iload 5, 2) := by decide +kernel
theorem dJ2_insertionSort_22 : decode cJ2_insertionSort 22 = .ok (.aload_n 0, 1) := by decide +kernel
theorem dJ2_insertionSort_23 : decode cJ2_insertionSort 23 = .ok (.iload_n 3, 1) := by decide +kernel
theorem dJ2_insertionSort_24 : decode cJ2_insertionSort 24 = .ok (.iconst 1, 1) := by decide +kernel
theorem dJ2_insertionSort_25 : decode cJ2_insertionSort 25 = .ok (.isub, 1) := by decide +kernel
theorem dJ2_insertionSort_26 : decode cJ2_insertionSort 26 = .ok (.iaload, 1) := by decide +kernel
theorem dJ2_insertionSort_27 : decode cJ2_insertionSort 27 = .ok (.if_icmp .ge 37, 3) := by decide +kernel
theorem dJ2_insertionSort_30 : decode cJ2_insertionSort 30 = .ok (.iinc 3 (-1), 3) := by decide +kernel
theorem dJ2_insertionSort_33 : decode cJ2_insertionSort 33 = .ok (.iload_n 3, 1) := by decide +kernel
theorem dJ2_insertionSort_34 : decode cJ2_insertionSort 34 = .ok (.iload_n 1, 1) := by decide +kernel
theorem dJ2_insertionSort_35 : decode cJ2_insertionSort 35 = .ok (.if_icmp .lt 22, 3) := by decide +kernel
theorem dJ2_insertionSort_38 : decode cJ2_insertionSort 38 = .ok (.iload 5, 2) := by decide +kernel
theorem dJ2_insertionSort_40 : decode cJ2_insertionSort 40 = .ok (.aload_n 0, 1) := by decide +kernel
theorem dJ2_insertionSort_41 : decode cJ2_insertionSort 41 = .ok (.iload_n 3, 1) := by decide +kernel
theorem dJ2_insertionSort_42 : decode cJ2_insertionSort 42 = .ok (.iaload, 1) := by decide +kernel
theorem dJ2_insertionSort_43 : decode cJ2_insertionSort 43 = .ok (.if_icmp .ge 14, 3) := by decide +kernel
theorem dJ2_insertionSort_46 : decode cJ2_insertionSort 46 = .ok (.aload_n 0, 1) := by decide +kernel
theorem dJ2_insertionSort_47 : decode cJ2_insertionSort 47 = .ok (.iload_n 3, 1) := by decide +kernel
theorem dJ2_insertionSort_48 : decode cJ2_insertionSort 48 = .ok (.iconst 1, 1) := by decide +kernel
theorem dJ2_insertionSort_49 : decode cJ2_insertionSort 49 = .ok (.iadd, 1) := by decide +kernel
theorem dJ2_insertionSort_50 : decode cJ2_insertionSort 50 = .ok (.aload_n 0, 1) := by decide +kernel
theorem dJ2_insertionSort_51 : decode cJ2_insertionSort 51 = .ok (.iload_n 3, 1) := by decide +kernel
theorem dJ2_insertionSort_52 : decode cJ2_insertionSort 52 = .ok (.iaload, 1) := by decide +kernel
theorem dJ2_insertionSort_53 : decode cJ2_insertionSort 53 = .ok (.iastore, 1) := by decide +kernel
theorem dJ2_insertionSort_54 : decode cJ2_insertionSort 54 = .ok (.goto (-24), 3) := by decide +kernel
theorem dJ2_insertionSort_57 : decode cJ2_insertionSort 57 = .ok (.aload_n 0, 1) := by decide +kernel
theorem dJ2_insertionSort_58 : decode cJ2_insertionSort 58 = .ok (.iload_n 3, 1) := by decide +kernel
theorem dJ2_insertionSort_59 : decode cJ2_insertionSort 59 = .ok (.iconst 1, 1) := by decide +kernel
theorem dJ2_insertionSort_60 : decode cJ2_insertionSort 60 = .ok (.iadd, 1) := by decide +kernel
theorem dJ2_insertionSort_61 : decode cJ2_insertionSort 61 = .ok (.iload 5, 2) := by decide +kernel
theorem dJ2_insertionSort_63 : decode cJ2_insertionSort 63 = .ok (.iastore, 1) := by decide +kernel
theorem dJ2_insertionSort_64 : decode cJ2_insertionSort 64 = .ok (.goto (-61), 3) := by decide +kernel
theorem dJ2_insertionSort_67 : decode cJ2_insertionSort 67 = .ok (.return_, 1) := by decide +kernel
theorem dJ3_bitCount_0 : decode cJ3_bitCount 0 = .ok (.iload_n 0, 1) := by decide +kernel
theorem dJ3_bitCount_1 : decode cJ3_bitCount 1 = .ok (.iload_n 0, 1) := by decide +kernel
theorem dJ3_bitCount_2 : decode cJ3_bitCount 2 = .ok (.iconst 1, 1) := by decide +kernel
theorem dJ3_bitCount_3 : decode cJ3_bitCount 3 = .ok (.iushr, 1) := by decide +kernel
theorem dJ3_bitCount_4 : decode cJ3_bitCount 4 = .ok (.ldc_w 265, 3) := by decide +kernel
theorem dJ3_bitCount_7 : decode cJ3_bitCount 7 = .ok (.iand, 1) := by decide +kernel
theorem dJ3_bitCount_8 : decode cJ3_bitCount 8 = .ok (.isub, 1) := by decide +kernel
theorem dJ3_bitCount_9 : decode cJ3_bitCount 9 = .ok (.istore_n 0, 1) := by decide +kernel
theorem dJ3_bitCount_10 : decode cJ3_bitCount 10 = .ok (.iload_n 0, 1) := by decide +kernel
theorem dJ3_bitCount_11 : decode cJ3_bitCount 11 = .ok (.ldc_w 266, 3) := by decide +kernel
theorem dJ3_bitCount_14 : decode cJ3_bitCount 14 = .ok (.iand, 1) := by decide +kernel
theorem dJ3_bitCount_15 : decode cJ3_bitCount 15 = .ok (.iload_n 0, 1) := by decide +kernel
theorem dJ3_bitCount_16 : decode cJ3_bitCount 16 = .ok (.iconst 2, 1) := by decide +kernel
theorem dJ3_bitCount_17 : decode cJ3_bitCount 17 = .ok (.iushr, 1) := by decide +kernel
theorem dJ3_bitCount_18 : decode cJ3_bitCount 18 = .ok (.ldc_w 266, 3) := by decide +kernel
theorem dJ3_bitCount_21 : decode cJ3_bitCount 21 = .ok (.iand, 1) := by decide +kernel
theorem dJ3_bitCount_22 : decode cJ3_bitCount 22 = .ok (.iadd, 1) := by decide +kernel
theorem dJ3_bitCount_23 : decode cJ3_bitCount 23 = .ok (.istore_n 0, 1) := by decide +kernel
theorem dJ3_bitCount_24 : decode cJ3_bitCount 24 = .ok (.iload_n 0, 1) := by decide +kernel
theorem dJ3_bitCount_25 : decode cJ3_bitCount 25 = .ok (.iload_n 0, 1) := by decide +kernel
theorem dJ3_bitCount_26 : decode cJ3_bitCount 26 = .ok (.iconst 4, 1) := by decide +kernel
theorem dJ3_bitCount_27 : decode cJ3_bitCount 27 = .ok (.iushr, 1) := by decide +kernel
theorem dJ3_bitCount_28 : decode cJ3_bitCount 28 = .ok (.iadd, 1) := by decide +kernel
theorem dJ3_bitCount_29 : decode cJ3_bitCount 29 = .ok (.ldc_w 267, 3) := by decide +kernel
theorem dJ3_bitCount_32 : decode cJ3_bitCount 32 = .ok (.iand, 1) := by decide +kernel
theorem dJ3_bitCount_33 : decode cJ3_bitCount 33 = .ok (.istore_n 0, 1) := by decide +kernel
theorem dJ3_bitCount_34 : decode cJ3_bitCount 34 = .ok (.iload_n 0, 1) := by decide +kernel
theorem dJ3_bitCount_35 : decode cJ3_bitCount 35 = .ok (.iload_n 0, 1) := by decide +kernel
theorem dJ3_bitCount_36 : decode cJ3_bitCount 36 = .ok (.bipush 8, 2) := by decide +kernel
theorem dJ3_bitCount_38 : decode cJ3_bitCount 38 = .ok (.iushr, 1) := by decide +kernel
theorem dJ3_bitCount_39 : decode cJ3_bitCount 39 = .ok (.iadd, 1) := by decide +kernel
theorem dJ3_bitCount_40 : decode cJ3_bitCount 40 = .ok (.istore_n 0, 1) := by decide +kernel
theorem dJ3_bitCount_41 : decode cJ3_bitCount 41 = .ok (.iload_n 0, 1) := by decide +kernel
theorem dJ3_bitCount_42 : decode cJ3_bitCount 42 = .ok (.iload_n 0, 1) := by decide +kernel
theorem dJ3_bitCount_43 : decode cJ3_bitCount 43 = .ok (.bipush 16, 2) := by decide +kernel
theorem dJ3_bitCount_45 : decode cJ3_bitCount 45 = .ok (.iushr, 1) := by decide +kernel
theorem dJ3_bitCount_46 : decode cJ3_bitCount 46 = .ok (.iadd, 1) := by decide +kernel
theorem dJ3_bitCount_47 : decode cJ3_bitCount 47 = .ok (.istore_n 0, 1) := by decide +kernel
theorem dJ3_bitCount_48 : decode cJ3_bitCount 48 = .ok (.iload_n 0, 1) := by decide +kernel
theorem dJ3_bitCount_49 : decode cJ3_bitCount 49 = .ok (.bipush 63, 2) := by decide +kernel
theorem dJ3_bitCount_51 : decode cJ3_bitCount 51 = .ok (.iand, 1) := by decide +kernel
theorem dJ3_bitCount_52 : decode cJ3_bitCount 52 = .ok (.ireturn, 1) := by decide +kernel
theorem dJ4_init_0 : decode cJ4_init 0 = .ok (.return_, 1) := by decide +kernel
theorem dL_law_0 : decode cL_law 0 = .ok (.new 7, 3) := by decide +kernel
theorem dL_law_3 : decode cL_law 3 = .ok (.dup, 1) := by decide +kernel
theorem dL_law_4 : decode cL_law 4 = .ok (.invokespecial 9, 3) := by decide +kernel
theorem dL_law_7 : decode cL_law 7 = .ok (.astore_n 1, 1) := by decide +kernel
theorem dL_law_8 : decode cL_law 8 = .ok (.new 10, 3) := by decide +kernel
theorem dL_law_11 : decode cL_law 11 = .ok (.dup, 1) := by decide +kernel
theorem dL_law_12 : decode cL_law 12 = .ok (.invokespecial 12, 3) := by decide +kernel
theorem dL_law_15 : decode cL_law 15 = .ok (.astore_n 2, 1) := by decide +kernel
theorem dL_law_16 : decode cL_law 16 = .ok (.iconst 0, 1) := by decide +kernel
theorem dL_law_17 : decode cL_law 17 = .ok (.istore_n 3, 1) := by decide +kernel
theorem dL_law_18 : decode cL_law 18 = .ok (.iload_n 3, 1) := by decide +kernel
theorem dL_law_19 : decode cL_law 19 = .ok (.aload_n 0, 1) := by decide +kernel
theorem dL_law_20 : decode cL_law 20 = .ok (.arraylength, 1) := by decide +kernel
theorem dL_law_21 : decode cL_law 21 = .ok (.iconst 4, 1) := by decide +kernel
theorem dL_law_22 : decode cL_law 22 = .ok (.isub, 1) := by decide +kernel
theorem dL_law_23 : decode cL_law 23 = .ok (.if_icmp .gt 497, 3) := by decide +kernel
theorem dL_law_26 : decode cL_law 26 = .ok (.aload_n 0, 1) := by decide +kernel
theorem dL_law_27 : decode cL_law 27 = .ok (.iload_n 3, 1) := by decide +kernel
theorem dL_law_28 : decode cL_law 28 = .ok (.iaload, 1) := by decide +kernel
theorem dL_law_29 : decode cL_law 29 = .ok (.bipush 15, 2) := by decide +kernel
theorem dL_law_31 : decode cL_law 31 = .ok (.iand, 1) := by decide +kernel
theorem dL_law_32 : decode cL_law 32 = .ok (.tableswitch 482 0 14 #[76, 119, 132, 145, 178, 211, 225, 248, 281, 314, 337, 360, 393, 436, 459], 76) := by decide +kernel
theorem dL_law_108 : decode cL_law 108 = .ok (.aload_n 1, 1) := by decide +kernel
theorem dL_law_109 : decode cL_law 109 = .ok (.aload_n 0, 1) := by decide +kernel
theorem dL_law_110 : decode cL_law 110 = .ok (.iload_n 3, 1) := by decide +kernel
theorem dL_law_111 : decode cL_law 111 = .ok (.iconst 1, 1) := by decide +kernel
theorem dL_law_112 : decode cL_law 112 = .ok (.iadd, 1) := by decide +kernel
theorem dL_law_113 : decode cL_law 113 = .ok (.iaload, 1) := by decide +kernel
theorem dL_law_114 : decode cL_law 114 = .ok (.aload_n 0, 1) := by decide +kernel
theorem dL_law_115 : decode cL_law 115 = .ok (.iload_n 3, 1) := by decide +kernel
theorem dL_law_116 : decode cL_law 116 = .ok (.iconst 2, 1) := by decide +kernel
theorem dL_law_117 : decode cL_law 117 = .ok (.iadd, 1) := by decide +kernel
theorem dL_law_118 : decode cL_law 118 = .ok (.iaload, 1) := by decide +kernel
theorem dL_law_119 : decode cL_law 119 = .ok (.aload_n 0, 1) := by decide +kernel
theorem dL_law_120 : decode cL_law 120 = .ok (.iload_n 3, 1) := by decide +kernel
theorem dL_law_121 : decode cL_law 121 = .ok (.iconst 3, 1) := by decide +kernel
theorem dL_law_122 : decode cL_law 122 = .ok (.iadd, 1) := by decide +kernel
theorem dL_law_123 : decode cL_law 123 = .ok (.iaload, 1) := by decide +kernel
theorem dL_law_124 : decode cL_law 124 = .ok (.invokevirtual 13, 3) := by decide +kernel
theorem dL_law_127 : decode cL_law 127 = .ok (.aload_n 2, 1) := by decide +kernel
theorem dL_law_128 : decode cL_law 128 = .ok (.aload_n 0, 1) := by decide +kernel
theorem dL_law_129 : decode cL_law 129 = .ok (.iload_n 3, 1) := by decide +kernel
theorem dL_law_130 : decode cL_law 130 = .ok (.iconst 1, 1) := by decide +kernel
theorem dL_law_131 : decode cL_law 131 = .ok (.iadd, 1) := by decide +kernel
theorem dL_law_132 : decode cL_law 132 = .ok (.iaload, 1) := by decide +kernel
theorem dL_law_133 : decode cL_law 133 = .ok (.aload_n 0, 1) := by decide +kernel
theorem dL_law_134 : decode cL_law 134 = .ok (.iload_n 3, 1) := by decide +kernel
theorem dL_law_135 : decode cL_law 135 = .ok (.iconst 2, 1) := by decide +kernel
theorem dL_law_136 : decode cL_law 136 = .ok (.iadd, 1) := by decide +kernel
theorem dL_law_137 : decode cL_law 137 = .ok (.iaload, 1) := by decide +kernel
theorem dL_law_138 : decode cL_law 138 = .ok (.aload_n 0, 1) := by decide +kernel
theorem dL_law_139 : decode cL_law 139 = .ok (.iload_n 3, 1) := by decide +kernel
theorem dL_law_140 : decode cL_law 140 = .ok (.iconst 3, 1) := by decide +kernel
theorem dL_law_141 : decode cL_law 141 = .ok (.iadd, 1) := by decide +kernel
theorem dL_law_142 : decode cL_law 142 = .ok (.iaload, 1) := by decide +kernel
theorem dL_law_143 : decode cL_law 143 = .ok (.invokevirtual 17, 3) := by decide +kernel
theorem dL_law_146 : decode cL_law 146 = .ok (.if_icmp .eq 368, 3) := by decide +kernel
theorem dL_law_149 : decode cL_law 149 = .ok (.iconst 0, 1) := by decide +kernel
theorem dL_law_150 : decode cL_law 150 = .ok (.ireturn, 1) := by decide +kernel
theorem dL_law_151 : decode cL_law 151 = .ok (.aload_n 1, 1) := by decide +kernel
theorem dL_law_152 : decode cL_law 152 = .ok (.invokevirtual 18, 3) := by decide +kernel
theorem dL_law_155 : decode cL_law 155 = .ok (.aload_n 2, 1) := by decide +kernel
theorem dL_law_156 : decode cL_law 156 = .ok (.invokevirtual 22, 3) := by decide +kernel
theorem dL_law_159 : decode cL_law 159 = .ok (.if_icmp .eq 355, 3) := by decide +kernel
theorem dL_law_162 : decode cL_law 162 = .ok (.iconst 0, 1) := by decide +kernel
theorem dL_law_163 : decode cL_law 163 = .ok (.ireturn, 1) := by decide +kernel
theorem dL_law_164 : decode cL_law 164 = .ok (.aload_n 1, 1) := by decide +kernel
theorem dL_law_165 : decode cL_law 165 = .ok (.invokevirtual 23, 3) := by decide +kernel
theorem dL_law_168 : decode cL_law 168 = .ok (.aload_n 2, 1) := by decide +kernel
theorem dL_law_169 : decode cL_law 169 = .ok (.invokevirtual 26, 3) := by decide +kernel
theorem dL_law_172 : decode cL_law 172 = .ok (.if_icmp .eq 342, 3) := by decide +kernel
theorem dL_law_175 : decode cL_law 175 = .ok (.iconst 0, 1) := by decide +kernel
theorem dL_law_176 : decode cL_law 176 = .ok (.ireturn, 1) := by decide +kernel
theorem dL_law_177 : decode cL_law 177 = .ok (.aload_n 1, 1) := by decide +kernel
theorem dL_law_178 : decode cL_law 178 = .ok (.aload_n 0, 1) := by decide +kernel
theorem dL_law_179 : decode cL_law 179 = .ok (.iload_n 3, 1) := by decide +kernel
theorem dL_law_180 : decode cL_law 180 = .ok (.iconst 1, 1) := by decide +kernel
theorem dL_law_181 : decode cL_law 181 = .ok (.iadd, 1) := by decide +kernel
theorem dL_law_182 : decode cL_law 182 = .ok (.iaload, 1) := by decide +kernel
theorem dL_law_183 : decode cL_law 183 = .ok (.aload_n 0, 1) := by decide +kernel
theorem dL_law_184 : decode cL_law 184 = .ok (.iload_n 3, 1) := by decide +kernel
theorem dL_law_185 : decode cL_law 185 = .ok (.iconst 2, 1) := by decide +kernel
theorem dL_law_186 : decode cL_law 186 = .ok (.iadd, 1) := by decide +kernel
theorem dL_law_187 : decode cL_law 187 = .ok (.iaload, 1) := by decide +kernel
theorem dL_law_188 : decode cL_law 188 = .ok (.invokevirtual 27, 3) := by decide +kernel
theorem dL_law_191 : decode cL_law 191 = .ok (.aload_n 2, 1) := by decide +kernel
theorem dL_law_192 : decode cL_law 192 = .ok (.aload_n 0, 1) := by decide +kernel
theorem dL_law_193 : decode cL_law 193 = .ok (.iload_n 3, 1) := by decide +kernel
theorem dL_law_194 : decode cL_law 194 = .ok (.iconst 1, 1) := by decide +kernel
theorem dL_law_195 : decode cL_law 195 = .ok (.iadd, 1) := by decide +kernel
theorem dL_law_196 : decode cL_law 196 = .ok (.iaload, 1) := by decide +kernel
theorem dL_law_197 : decode cL_law 197 = .ok (.aload_n 0, 1) := by decide +kernel
theorem dL_law_198 : decode cL_law 198 = .ok (.iload_n 3, 1) := by decide +kernel
theorem dL_law_199 : decode cL_law 199 = .ok (.iconst 2, 1) := by decide +kernel
theorem dL_law_200 : decode cL_law 200 = .ok (.iadd, 1) := by decide +kernel
theorem dL_law_201 : decode cL_law 201 = .ok (.iaload, 1) := by decide +kernel
theorem dL_law_202 : decode cL_law 202 = .ok (.invokevirtual 31, 3) := by decide +kernel
theorem dL_law_205 : decode cL_law 205 = .ok (.if_icmp .eq 309, 3) := by decide +kernel
theorem dL_law_208 : decode cL_law 208 = .ok (.iconst 0, 1) := by decide +kernel
theorem dL_law_209 : decode cL_law 209 = .ok (.ireturn, 1) := by decide +kernel
theorem dL_law_210 : decode cL_law 210 = .ok (.aload_n 1, 1) := by decide +kernel
theorem dL_law_211 : decode cL_law 211 = .ok (.aload_n 0, 1) := by decide +kernel
theorem dL_law_212 : decode cL_law 212 = .ok (.iload_n 3, 1) := by decide +kernel
theorem dL_law_213 : decode cL_law 213 = .ok (.iconst 1, 1) := by decide +kernel
theorem dL_law_214 : decode cL_law 214 = .ok (.iadd, 1) := by decide +kernel
theorem dL_law_215 : decode cL_law 215 = .ok (.iaload, 1) := by decide +kernel
theorem dL_law_216 : decode cL_law 216 = .ok (.aload_n 0, 1) := by decide +kernel
theorem dL_law_217 : decode cL_law 217 = .ok (.iload_n 3, 1) := by decide +kernel
theorem dL_law_218 : decode cL_law 218 = .ok (.iconst 2, 1) := by decide +kernel
theorem dL_law_219 : decode cL_law 219 = .ok (.iadd, 1) := by decide +kernel
theorem dL_law_220 : decode cL_law 220 = .ok (.iaload, 1) := by decide +kernel
theorem dL_law_221 : decode cL_law 221 = .ok (.invokevirtual 32, 3) := by decide +kernel
theorem dL_law_224 : decode cL_law 224 = .ok (.aload_n 2, 1) := by decide +kernel
theorem dL_law_225 : decode cL_law 225 = .ok (.aload_n 0, 1) := by decide +kernel
theorem dL_law_226 : decode cL_law 226 = .ok (.iload_n 3, 1) := by decide +kernel
theorem dL_law_227 : decode cL_law 227 = .ok (.iconst 1, 1) := by decide +kernel
theorem dL_law_228 : decode cL_law 228 = .ok (.iadd, 1) := by decide +kernel
theorem dL_law_229 : decode cL_law 229 = .ok (.iaload, 1) := by decide +kernel
theorem dL_law_230 : decode cL_law 230 = .ok (.aload_n 0, 1) := by decide +kernel
theorem dL_law_231 : decode cL_law 231 = .ok (.iload_n 3, 1) := by decide +kernel
theorem dL_law_232 : decode cL_law 232 = .ok (.iconst 2, 1) := by decide +kernel
theorem dL_law_233 : decode cL_law 233 = .ok (.iadd, 1) := by decide +kernel
theorem dL_law_234 : decode cL_law 234 = .ok (.iaload, 1) := by decide +kernel
theorem dL_law_235 : decode cL_law 235 = .ok (.invokevirtual 35, 3) := by decide +kernel
theorem dL_law_238 : decode cL_law 238 = .ok (.if_icmp .eq 276, 3) := by decide +kernel
theorem dL_law_241 : decode cL_law 241 = .ok (.iconst 0, 1) := by decide +kernel
theorem dL_law_242 : decode cL_law 242 = .ok (.ireturn, 1) := by decide +kernel
theorem dL_law_243 : decode cL_law 243 = .ok (.aload_n 1, 1) := by decide +kernel
theorem dL_law_244 : decode cL_law 244 = .ok (.invokevirtual 36, 3) := by decide +kernel
theorem dL_law_247 : decode cL_law 247 = .ok (.aload_n 2, 1) := by decide +kernel
theorem dL_law_248 : decode cL_law 248 = .ok (.invokevirtual 40, 3) := by decide +kernel
theorem dL_law_251 : decode cL_law 251 = .ok (.lcmp, 1) := by decide +kernel
theorem dL_law_252 : decode cL_law 252 = .ok (.ifCond .eq 262, 3) := by decide +kernel
theorem dL_law_255 : decode cL_law 255 = .ok (.iconst 0, 1) := by decide +kernel
theorem dL_law_256 : decode cL_law 256 = .ok (.ireturn, 1) := by decide +kernel
theorem dL_law_257 : decode cL_law 257 = .ok (.aload_n 1, 1) := by decide +kernel
theorem dL_law_258 : decode cL_law 258 = .ok (.aload_n 0, 1) := by decide +kernel
theorem dL_law_259 : decode cL_law 259 = .ok (.iload_n 3, 1) := by decide +kernel
theorem dL_law_260 : decode cL_law 260 = .ok (.iconst 1, 1) := by decide +kernel
theorem dL_law_261 : decode cL_law 261 = .ok (.iadd, 1) := by decide +kernel
theorem dL_law_262 : decode cL_law 262 = .ok (.iaload, 1) := by decide +kernel
theorem dL_law_263 : decode cL_law 263 = .ok (.invokevirtual 41, 3) := by decide +kernel
theorem dL_law_266 : decode cL_law 266 = .ok (.aload_n 2, 1) := by decide +kernel
theorem dL_law_267 : decode cL_law 267 = .ok (.aload_n 0, 1) := by decide +kernel
theorem dL_law_268 : decode cL_law 268 = .ok (.iload_n 3, 1) := by decide +kernel
theorem dL_law_269 : decode cL_law 269 = .ok (.iconst 1, 1) := by decide +kernel
theorem dL_law_270 : decode cL_law 270 = .ok (.iadd, 1) := by decide +kernel
theorem dL_law_271 : decode cL_law 271 = .ok (.iaload, 1) := by decide +kernel
theorem dL_law_272 : decode cL_law 272 = .ok (.invokevirtual 45, 3) := by decide +kernel
theorem dL_law_275 : decode cL_law 275 = .ok (.if_icmp .eq 239, 3) := by decide +kernel
theorem dL_law_278 : decode cL_law 278 = .ok (.iconst 0, 1) := by decide +kernel
theorem dL_law_279 : decode cL_law 279 = .ok (.ireturn, 1) := by decide +kernel
theorem dL_law_280 : decode cL_law 280 = .ok (.aload_n 1, 1) := by decide +kernel
theorem dL_law_281 : decode cL_law 281 = .ok (.aload_n 0, 1) := by decide +kernel
theorem dL_law_282 : decode cL_law 282 = .ok (.iload_n 3, 1) := by decide +kernel
theorem dL_law_283 : decode cL_law 283 = .ok (.iconst 1, 1) := by decide +kernel
theorem dL_law_284 : decode cL_law 284 = .ok (.iadd, 1) := by decide +kernel
theorem dL_law_285 : decode cL_law 285 = .ok (.iaload, 1) := by decide +kernel
theorem dL_law_286 : decode cL_law 286 = .ok (.aload_n 0, 1) := by decide +kernel
theorem dL_law_287 : decode cL_law 287 = .ok (.iload_n 3, 1) := by decide +kernel
theorem dL_law_288 : decode cL_law 288 = .ok (.iconst 2, 1) := by decide +kernel
theorem dL_law_289 : decode cL_law 289 = .ok (.iadd, 1) := by decide +kernel
theorem dL_law_290 : decode cL_law 290 = .ok (.iaload, 1) := by decide +kernel
theorem dL_law_291 : decode cL_law 291 = .ok (.invokevirtual 46, 3) := by decide +kernel
theorem dL_law_294 : decode cL_law 294 = .ok (.aload_n 2, 1) := by decide +kernel
theorem dL_law_295 : decode cL_law 295 = .ok (.aload_n 0, 1) := by decide +kernel
theorem dL_law_296 : decode cL_law 296 = .ok (.iload_n 3, 1) := by decide +kernel
theorem dL_law_297 : decode cL_law 297 = .ok (.iconst 1, 1) := by decide +kernel
theorem dL_law_298 : decode cL_law 298 = .ok (.iadd, 1) := by decide +kernel
theorem dL_law_299 : decode cL_law 299 = .ok (.iaload, 1) := by decide +kernel
theorem dL_law_300 : decode cL_law 300 = .ok (.aload_n 0, 1) := by decide +kernel
theorem dL_law_301 : decode cL_law 301 = .ok (.iload_n 3, 1) := by decide +kernel
theorem dL_law_302 : decode cL_law 302 = .ok (.iconst 2, 1) := by decide +kernel
theorem dL_law_303 : decode cL_law 303 = .ok (.iadd, 1) := by decide +kernel
theorem dL_law_304 : decode cL_law 304 = .ok (.iaload, 1) := by decide +kernel
theorem dL_law_305 : decode cL_law 305 = .ok (.invokevirtual 49, 3) := by decide +kernel
theorem dL_law_308 : decode cL_law 308 = .ok (.if_icmp .eq 206, 3) := by decide +kernel
theorem dL_law_311 : decode cL_law 311 = .ok (.iconst 0, 1) := by decide +kernel
theorem dL_law_312 : decode cL_law 312 = .ok (.ireturn, 1) := by decide +kernel
theorem dL_law_313 : decode cL_law 313 = .ok (.aload_n 1, 1) := by decide +kernel
theorem dL_law_314 : decode cL_law 314 = .ok (.aload_n 0, 1) := by decide +kernel
theorem dL_law_315 : decode cL_law 315 = .ok (.iload_n 3, 1) := by decide +kernel
theorem dL_law_316 : decode cL_law 316 = .ok (.iconst 1, 1) := by decide +kernel
theorem dL_law_317 : decode cL_law 317 = .ok (.iadd, 1) := by decide +kernel
theorem dL_law_318 : decode cL_law 318 = .ok (.iaload, 1) := by decide +kernel
theorem dL_law_319 : decode cL_law 319 = .ok (.aload_n 0, 1) := by decide +kernel
theorem dL_law_320 : decode cL_law 320 = .ok (.iload_n 3, 1) := by decide +kernel
theorem dL_law_321 : decode cL_law 321 = .ok (.iconst 2, 1) := by decide +kernel
theorem dL_law_322 : decode cL_law 322 = .ok (.iadd, 1) := by decide +kernel
theorem dL_law_323 : decode cL_law 323 = .ok (.iaload, 1) := by decide +kernel
theorem dL_law_324 : decode cL_law 324 = .ok (.invokevirtual 50, 3) := by decide +kernel
theorem dL_law_327 : decode cL_law 327 = .ok (.aload_n 2, 1) := by decide +kernel
theorem dL_law_328 : decode cL_law 328 = .ok (.aload_n 0, 1) := by decide +kernel
theorem dL_law_329 : decode cL_law 329 = .ok (.iload_n 3, 1) := by decide +kernel
theorem dL_law_330 : decode cL_law 330 = .ok (.iconst 1, 1) := by decide +kernel
theorem dL_law_331 : decode cL_law 331 = .ok (.iadd, 1) := by decide +kernel
theorem dL_law_332 : decode cL_law 332 = .ok (.iaload, 1) := by decide +kernel
theorem dL_law_333 : decode cL_law 333 = .ok (.aload_n 0, 1) := by decide +kernel
theorem dL_law_334 : decode cL_law 334 = .ok (.iload_n 3, 1) := by decide +kernel
theorem dL_law_335 : decode cL_law 335 = .ok (.iconst 2, 1) := by decide +kernel
theorem dL_law_336 : decode cL_law 336 = .ok (.iadd, 1) := by decide +kernel
theorem dL_law_337 : decode cL_law 337 = .ok (.iaload, 1) := by decide +kernel
theorem dL_law_338 : decode cL_law 338 = .ok (.invokevirtual 53, 3) := by decide +kernel
theorem dL_law_341 : decode cL_law 341 = .ok (.if_icmp .eq 173, 3) := by decide +kernel
theorem dL_law_344 : decode cL_law 344 = .ok (.iconst 0, 1) := by decide +kernel
theorem dL_law_345 : decode cL_law 345 = .ok (.ireturn, 1) := by decide +kernel
theorem dL_law_346 : decode cL_law 346 = .ok (.aload_n 1, 1) := by decide +kernel
theorem dL_law_347 : decode cL_law 347 = .ok (.aload_n 0, 1) := by decide +kernel
theorem dL_law_348 : decode cL_law 348 = .ok (.iload_n 3, 1) := by decide +kernel
theorem dL_law_349 : decode cL_law 349 = .ok (.iconst 1, 1) := by decide +kernel
theorem dL_law_350 : decode cL_law 350 = .ok (.iadd, 1) := by decide +kernel
theorem dL_law_351 : decode cL_law 351 = .ok (.iaload, 1) := by decide +kernel
theorem dL_law_352 : decode cL_law 352 = .ok (.invokevirtual 54, 3) := by decide +kernel
theorem dL_law_355 : decode cL_law 355 = .ok (.aload_n 2, 1) := by decide +kernel
theorem dL_law_356 : decode cL_law 356 = .ok (.aload_n 0, 1) := by decide +kernel
theorem dL_law_357 : decode cL_law 357 = .ok (.iload_n 3, 1) := by decide +kernel
theorem dL_law_358 : decode cL_law 358 = .ok (.iconst 1, 1) := by decide +kernel
theorem dL_law_359 : decode cL_law 359 = .ok (.iadd, 1) := by decide +kernel
theorem dL_law_360 : decode cL_law 360 = .ok (.iaload, 1) := by decide +kernel
theorem dL_law_361 : decode cL_law 361 = .ok (.invokevirtual 57, 3) := by decide +kernel
theorem dL_law_364 : decode cL_law 364 = .ok (.if_icmp .eq 150, 3) := by decide +kernel
theorem dL_law_367 : decode cL_law 367 = .ok (.iconst 0, 1) := by decide +kernel
theorem dL_law_368 : decode cL_law 368 = .ok (.ireturn, 1) := by decide +kernel
theorem dL_law_369 : decode cL_law 369 = .ok (.aload_n 1, 1) := by decide +kernel
theorem dL_law_370 : decode cL_law 370 = .ok (.aload_n 0, 1) := by decide +kernel
theorem dL_law_371 : decode cL_law 371 = .ok (.iload_n 3, 1) := by decide +kernel
theorem dL_law_372 : decode cL_law 372 = .ok (.iconst 1, 1) := by decide +kernel
theorem dL_law_373 : decode cL_law 373 = .ok (.iadd, 1) := by decide +kernel
theorem dL_law_374 : decode cL_law 374 = .ok (.iaload, 1) := by decide +kernel
theorem dL_law_375 : decode cL_law 375 = .ok (.invokevirtual 58, 3) := by decide +kernel
theorem dL_law_378 : decode cL_law 378 = .ok (.aload_n 2, 1) := by decide +kernel
theorem dL_law_379 : decode cL_law 379 = .ok (.aload_n 0, 1) := by decide +kernel
theorem dL_law_380 : decode cL_law 380 = .ok (.iload_n 3, 1) := by decide +kernel
theorem dL_law_381 : decode cL_law 381 = .ok (.iconst 1, 1) := by decide +kernel
theorem dL_law_382 : decode cL_law 382 = .ok (.iadd, 1) := by decide +kernel
theorem dL_law_383 : decode cL_law 383 = .ok (.iaload, 1) := by decide +kernel
theorem dL_law_384 : decode cL_law 384 = .ok (.invokevirtual 61, 3) := by decide +kernel
theorem dL_law_387 : decode cL_law 387 = .ok (.if_icmp .eq 127, 3) := by decide +kernel
theorem dL_law_390 : decode cL_law 390 = .ok (.iconst 0, 1) := by decide +kernel
theorem dL_law_391 : decode cL_law 391 = .ok (.ireturn, 1) := by decide +kernel
theorem dL_law_392 : decode cL_law 392 = .ok (.aload_n 1, 1) := by decide +kernel
theorem dL_law_393 : decode cL_law 393 = .ok (.aload_n 0, 1) := by decide +kernel
theorem dL_law_394 : decode cL_law 394 = .ok (.iload_n 3, 1) := by decide +kernel
theorem dL_law_395 : decode cL_law 395 = .ok (.iconst 1, 1) := by decide +kernel
theorem dL_law_396 : decode cL_law 396 = .ok (.iadd, 1) := by decide +kernel
theorem dL_law_397 : decode cL_law 397 = .ok (.iaload, 1) := by decide +kernel
theorem dL_law_398 : decode cL_law 398 = .ok (.aload_n 0, 1) := by decide +kernel
theorem dL_law_399 : decode cL_law 399 = .ok (.iload_n 3, 1) := by decide +kernel
theorem dL_law_400 : decode cL_law 400 = .ok (.iconst 2, 1) := by decide +kernel
theorem dL_law_401 : decode cL_law 401 = .ok (.iadd, 1) := by decide +kernel
theorem dL_law_402 : decode cL_law 402 = .ok (.iaload, 1) := by decide +kernel
theorem dL_law_403 : decode cL_law 403 = .ok (.invokevirtual 62, 3) := by decide +kernel
theorem dL_law_406 : decode cL_law 406 = .ok (.aload_n 2, 1) := by decide +kernel
theorem dL_law_407 : decode cL_law 407 = .ok (.aload_n 0, 1) := by decide +kernel
theorem dL_law_408 : decode cL_law 408 = .ok (.iload_n 3, 1) := by decide +kernel
theorem dL_law_409 : decode cL_law 409 = .ok (.iconst 1, 1) := by decide +kernel
theorem dL_law_410 : decode cL_law 410 = .ok (.iadd, 1) := by decide +kernel
theorem dL_law_411 : decode cL_law 411 = .ok (.iaload, 1) := by decide +kernel
theorem dL_law_412 : decode cL_law 412 = .ok (.aload_n 0, 1) := by decide +kernel
theorem dL_law_413 : decode cL_law 413 = .ok (.iload_n 3, 1) := by decide +kernel
theorem dL_law_414 : decode cL_law 414 = .ok (.iconst 2, 1) := by decide +kernel
theorem dL_law_415 : decode cL_law 415 = .ok (.iadd, 1) := by decide +kernel
theorem dL_law_416 : decode cL_law 416 = .ok (.iaload, 1) := by decide +kernel
theorem dL_law_417 : decode cL_law 417 = .ok (.invokevirtual 65, 3) := by decide +kernel
theorem dL_law_420 : decode cL_law 420 = .ok (.if_icmp .eq 94, 3) := by decide +kernel
theorem dL_law_423 : decode cL_law 423 = .ok (.iconst 0, 1) := by decide +kernel
theorem dL_law_424 : decode cL_law 424 = .ok (.ireturn, 1) := by decide +kernel
theorem dL_law_425 : decode cL_law 425 = .ok (.aload_n 1, 1) := by decide +kernel
theorem dL_law_426 : decode cL_law 426 = .ok (.aload_n 0, 1) := by decide +kernel
theorem dL_law_427 : decode cL_law 427 = .ok (.iload_n 3, 1) := by decide +kernel
theorem dL_law_428 : decode cL_law 428 = .ok (.iconst 1, 1) := by decide +kernel
theorem dL_law_429 : decode cL_law 429 = .ok (.iadd, 1) := by decide +kernel
theorem dL_law_430 : decode cL_law 430 = .ok (.iaload, 1) := by decide +kernel
theorem dL_law_431 : decode cL_law 431 = .ok (.aload_n 0, 1) := by decide +kernel
theorem dL_law_432 : decode cL_law 432 = .ok (.iload_n 3, 1) := by decide +kernel
theorem dL_law_433 : decode cL_law 433 = .ok (.iconst 2, 1) := by decide +kernel
theorem dL_law_434 : decode cL_law 434 = .ok (.iadd, 1) := by decide +kernel
theorem dL_law_435 : decode cL_law 435 = .ok (.iaload, 1) := by decide +kernel
theorem dL_law_436 : decode cL_law 436 = .ok (.aload_n 0, 1) := by decide +kernel
theorem dL_law_437 : decode cL_law 437 = .ok (.iload_n 3, 1) := by decide +kernel
theorem dL_law_438 : decode cL_law 438 = .ok (.iconst 3, 1) := by decide +kernel
theorem dL_law_439 : decode cL_law 439 = .ok (.iadd, 1) := by decide +kernel
theorem dL_law_440 : decode cL_law 440 = .ok (.iaload, 1) := by decide +kernel
theorem dL_law_441 : decode cL_law 441 = .ok (.invokevirtual 66, 3) := by decide +kernel
theorem dL_law_444 : decode cL_law 444 = .ok (.aload_n 2, 1) := by decide +kernel
theorem dL_law_445 : decode cL_law 445 = .ok (.aload_n 0, 1) := by decide +kernel
theorem dL_law_446 : decode cL_law 446 = .ok (.iload_n 3, 1) := by decide +kernel
theorem dL_law_447 : decode cL_law 447 = .ok (.iconst 1, 1) := by decide +kernel
theorem dL_law_448 : decode cL_law 448 = .ok (.iadd, 1) := by decide +kernel
theorem dL_law_449 : decode cL_law 449 = .ok (.iaload, 1) := by decide +kernel
theorem dL_law_450 : decode cL_law 450 = .ok (.aload_n 0, 1) := by decide +kernel
theorem dL_law_451 : decode cL_law 451 = .ok (.iload_n 3, 1) := by decide +kernel
theorem dL_law_452 : decode cL_law 452 = .ok (.iconst 2, 1) := by decide +kernel
theorem dL_law_453 : decode cL_law 453 = .ok (.iadd, 1) := by decide +kernel
theorem dL_law_454 : decode cL_law 454 = .ok (.iaload, 1) := by decide +kernel
theorem dL_law_455 : decode cL_law 455 = .ok (.aload_n 0, 1) := by decide +kernel
theorem dL_law_456 : decode cL_law 456 = .ok (.iload_n 3, 1) := by decide +kernel
theorem dL_law_457 : decode cL_law 457 = .ok (.iconst 3, 1) := by decide +kernel
theorem dL_law_458 : decode cL_law 458 = .ok (.iadd, 1) := by decide +kernel
theorem dL_law_459 : decode cL_law 459 = .ok (.iaload, 1) := by decide +kernel
theorem dL_law_460 : decode cL_law 460 = .ok (.invokevirtual 69, 3) := by decide +kernel
theorem dL_law_463 : decode cL_law 463 = .ok (.if_icmp .eq 51, 3) := by decide +kernel
theorem dL_law_466 : decode cL_law 466 = .ok (.iconst 0, 1) := by decide +kernel
theorem dL_law_467 : decode cL_law 467 = .ok (.ireturn, 1) := by decide +kernel
theorem dL_law_468 : decode cL_law 468 = .ok (.aload_n 1, 1) := by decide +kernel
theorem dL_law_469 : decode cL_law 469 = .ok (.aload_n 0, 1) := by decide +kernel
theorem dL_law_470 : decode cL_law 470 = .ok (.iload_n 3, 1) := by decide +kernel
theorem dL_law_471 : decode cL_law 471 = .ok (.iconst 1, 1) := by decide +kernel
theorem dL_law_472 : decode cL_law 472 = .ok (.iadd, 1) := by decide +kernel
theorem dL_law_473 : decode cL_law 473 = .ok (.iaload, 1) := by decide +kernel
theorem dL_law_474 : decode cL_law 474 = .ok (.invokevirtual 70, 3) := by decide +kernel
theorem dL_law_477 : decode cL_law 477 = .ok (.aload_n 2, 1) := by decide +kernel
theorem dL_law_478 : decode cL_law 478 = .ok (.aload_n 0, 1) := by decide +kernel
theorem dL_law_479 : decode cL_law 479 = .ok (.iload_n 3, 1) := by decide +kernel
theorem dL_law_480 : decode cL_law 480 = .ok (.iconst 1, 1) := by decide +kernel
theorem dL_law_481 : decode cL_law 481 = .ok (.iadd, 1) := by decide +kernel
theorem dL_law_482 : decode cL_law 482 = .ok (.iaload, 1) := by decide +kernel
theorem dL_law_483 : decode cL_law 483 = .ok (.invokevirtual 73, 3) := by decide +kernel
theorem dL_law_486 : decode cL_law 486 = .ok (.if_icmp .eq 28, 3) := by decide +kernel
theorem dL_law_489 : decode cL_law 489 = .ok (.iconst 0, 1) := by decide +kernel
theorem dL_law_490 : decode cL_law 490 = .ok (.ireturn, 1) := by decide +kernel
theorem dL_law_491 : decode cL_law 491 = .ok (.aload_n 1, 1) := by decide +kernel
theorem dL_law_492 : decode cL_law 492 = .ok (.aload_n 0, 1) := by decide +kernel
theorem dL_law_493 : decode cL_law 493 = .ok (.iload_n 3, 1) := by decide +kernel
theorem dL_law_494 : decode cL_law 494 = .ok (.iconst 1, 1) := by decide +kernel
theorem dL_law_495 : decode cL_law 495 = .ok (.iadd, 1) := by decide +kernel
theorem dL_law_496 : decode cL_law 496 = .ok (.iaload, 1) := by decide +kernel
theorem dL_law_497 : decode cL_law 497 = .ok (.invokevirtual 74, 3) := by decide +kernel
theorem dL_law_500 : decode cL_law 500 = .ok (.aload_n 2, 1) := by decide +kernel
theorem dL_law_501 : decode cL_law 501 = .ok (.aload_n 0, 1) := by decide +kernel
theorem dL_law_502 : decode cL_law 502 = .ok (.iload_n 3, 1) := by decide +kernel
theorem dL_law_503 : decode cL_law 503 = .ok (.iconst 1, 1) := by decide +kernel
theorem dL_law_504 : decode cL_law 504 = .ok (.iadd, 1) := by decide +kernel
theorem dL_law_505 : decode cL_law 505 = .ok (.iaload, 1) := by decide +kernel
theorem dL_law_506 : decode cL_law 506 = .ok (.invokevirtual 77, 3) := by decide +kernel
theorem dL_law_509 : decode cL_law 509 = .ok (.if_icmp .eq 5, 3) := by decide +kernel
theorem dL_law_512 : decode cL_law 512 = .ok (.iconst 0, 1) := by decide +kernel
theorem dL_law_513 : decode cL_law 513 = .ok (.ireturn, 1) := by decide +kernel
theorem dL_law_514 : decode cL_law 514 = .ok (.iinc 3 4, 3) := by decide +kernel
theorem dL_law_517 : decode cL_law 517 = .ok (.goto (-499), 3) := by decide +kernel
theorem dL_law_520 : decode cL_law 520 = .ok (.iconst 1, 1) := by decide +kernel
theorem dL_law_521 : decode cL_law 521 = .ok (.ireturn, 1) := by decide +kernel
