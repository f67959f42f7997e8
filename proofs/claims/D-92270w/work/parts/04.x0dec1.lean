set_option maxRecDepth 100000
theorem dX0_init_0 : decode cX0_init 0 = .ok (.aload_n 0, 1) := by decide +kernel
theorem dX0_init_1 : decode cX0_init 1 = .ok (.invokespecial 7, 3) := by decide +kernel
theorem dX0_init_4 : decode cX0_init 4 = .ok (.aload_n 0, 1) := by decide +kernel
theorem dX0_init_5 : decode cX0_init 5 = .ok (.iconst 4, 1) := by decide +kernel
theorem dX0_init_6 : decode cX0_init 6 = .ok (.putfield 13, 3) := by decide +kernel
theorem dX0_init_9 : decode cX0_init 9 = .ok (.aload_n 0, 1) := by decide +kernel
theorem dX0_init_10 : decode cX0_init 10 = .ok (.bipush 8, 2) := by decide +kernel
theorem dX0_init_12 : decode cX0_init 12 = .ok (.bipush 8, 2) := by decide +kernel
theorem dX0_init_14 : decode cX0_init 14 = .ok (.multianewarray 17 2, 4) := by decide +kernel
theorem dX0_init_18 : decode cX0_init 18 = .ok (.putfield 19, 3) := by decide +kernel
theorem dX0_init_21 : decode cX0_init 21 = .ok (.aload_n 0, 1) := by decide +kernel
theorem dX0_init_22 : decode cX0_init 22 = .ok (.bipush 40, 2) := by decide +kernel
theorem dX0_init_24 : decode cX0_init 24 = .ok (.anewarray 22, 3) := by decide +kernel
theorem dX0_init_27 : decode cX0_init 27 = .ok (.putfield 24, 3) := by decide +kernel
theorem dX0_init_30 : decode cX0_init 30 = .ok (.aload_n 0, 1) := by decide +kernel
theorem dX0_init_31 : decode cX0_init 31 = .ok (.bipush 10, 2) := by decide +kernel
theorem dX0_init_33 : decode cX0_init 33 = .ok (.putfield 28, 3) := by decide +kernel
theorem dX0_init_36 : decode cX0_init 36 = .ok (.aload_n 0, 1) := by decide +kernel
theorem dX0_init_37 : decode cX0_init 37 = .ok (.bipush 50, 2) := by decide +kernel
theorem dX0_init_39 : decode cX0_init 39 = .ok (.putfield 31, 3) := by decide +kernel
theorem dX0_init_42 : decode cX0_init 42 = .ok (.aload_n 0, 1) := by decide +kernel
theorem dX0_init_43 : decode cX0_init 43 = .ok (.bipush 60, 2) := by decide +kernel
theorem dX0_init_45 : decode cX0_init 45 = .ok (.anewarray 34, 3) := by decide +kernel
theorem dX0_init_48 : decode cX0_init 48 = .ok (.putfield 36, 3) := by decide +kernel
theorem dX0_init_51 : decode cX0_init 51 = .ok (.aload_n 0, 1) := by decide +kernel
theorem dX0_init_52 : decode cX0_init 52 = .ok (.bipush 8, 2) := by decide +kernel
theorem dX0_init_54 : decode cX0_init 54 = .ok (.anewarray 40, 3) := by decide +kernel
theorem dX0_init_57 : decode cX0_init 57 = .ok (.putfield 42, 3) := by decide +kernel
theorem dX0_init_60 : decode cX0_init 60 = .ok (.aload_n 0, 1) := by decide +kernel
theorem dX0_init_61 : decode cX0_init 61 = .ok (.bipush 60, 2) := by decide +kernel
theorem dX0_init_63 : decode cX0_init 63 = .ok (.anewarray 46, 3) := by decide +kernel
theorem dX0_init_66 : decode cX0_init 66 = .ok (.putfield 48, 3) := by decide +kernel
theorem dX0_init_69 : decode cX0_init 69 = .ok (.aload_n 0, 1) := by decide +kernel
theorem dX0_init_70 : decode cX0_init 70 = .ok (.bipush 10, 2) := by decide +kernel
theorem dX0_init_72 : decode cX0_init 72 = .ok (.anewarray 52, 3) := by decide +kernel
theorem dX0_init_75 : decode cX0_init 75 = .ok (.putfield 54, 3) := by decide +kernel
theorem dX0_init_78 : decode cX0_init 78 = .ok (.aload_n 0, 1) := by decide +kernel
theorem dX0_init_79 : decode cX0_init 79 = .ok (.bipush 40, 2) := by decide +kernel
theorem dX0_init_81 : decode cX0_init 81 = .ok (.anewarray 58, 3) := by decide +kernel
theorem dX0_init_84 : decode cX0_init 84 = .ok (.putfield 60, 3) := by decide +kernel
theorem dX0_init_87 : decode cX0_init 87 = .ok (.aload_n 0, 1) := by decide +kernel
theorem dX0_init_88 : decode cX0_init 88 = .ok (.bipush 10, 2) := by decide +kernel
theorem dX0_init_90 : decode cX0_init 90 = .ok (.newarray .int, 2) := by decide +kernel
theorem dX0_init_92 : decode cX0_init 92 = .ok (.putfield 64, 3) := by decide +kernel
theorem dX0_init_95 : decode cX0_init 95 = .ok (.return_, 1) := by decide +kernel
theorem dX0_streets_0 : decode cX0_streets 0 = .ok (.iload_n 1, 1) := by decide +kernel
theorem dX0_streets_1 : decode cX0_streets 1 = .ok (.iconst 1, 1) := by decide +kernel
theorem dX0_streets_2 : decode cX0_streets 2 = .ok (.bipush 8, 2) := by decide +kernel
theorem dX0_streets_4 : decode cX0_streets 4 = .ok (.invokestatic 1, 3) := by decide +kernel
theorem dX0_streets_7 : decode cX0_streets 7 = .ok (.ifCond .ne 6, 3) := by decide +kernel
theorem dX0_streets_10 : decode cX0_streets 10 = .ok (.bipush (-2), 2) := by decide +kernel
theorem dX0_streets_12 : decode cX0_streets 12 = .ok (.ireturn, 1) := by decide +kernel
theorem dX0_streets_13 : decode cX0_streets 13 = .ok (.aload_n 0, 1) := by decide +kernel
theorem dX0_streets_14 : decode cX0_streets 14 = .ok (.getfield 68, 3) := by decide +kernel
theorem dX0_streets_17 : decode cX0_streets 17 = .ok (.ifCond .le 6, 3) := by decide +kernel
theorem dX0_streets_20 : decode cX0_streets 20 = .ok (.bipush (-3), 2) := by decide +kernel
theorem dX0_streets_22 : decode cX0_streets 22 = .ok (.ireturn, 1) := by decide +kernel
theorem dX0_streets_23 : decode cX0_streets 23 = .ok (.aload_n 0, 1) := by decide +kernel
theorem dX0_streets_24 : decode cX0_streets 24 = .ok (.getfield 13, 3) := by decide +kernel
theorem dX0_streets_27 : decode cX0_streets 27 = .ok (.istore_n 2, 1) := by decide +kernel
theorem dX0_streets_28 : decode cX0_streets 28 = .ok (.aload_n 0, 1) := by decide +kernel
theorem dX0_streets_29 : decode cX0_streets 29 = .ok (.iload_n 1, 1) := by decide +kernel
theorem dX0_streets_30 : decode cX0_streets 30 = .ok (.putfield 13, 3) := by decide +kernel
theorem dX0_streets_33 : decode cX0_streets 33 = .ok (.iconst 0, 1) := by decide +kernel
theorem dX0_streets_34 : decode cX0_streets 34 = .ok (.istore_n 3, 1) := by decide +kernel
theorem dX0_streets_35 : decode cX0_streets 35 = .ok (.iload_n 3, 1) := by decide +kernel
theorem dX0_streets_36 : decode cX0_streets 36 = .ok (.bipush 64, 2) := by decide +kernel
theorem dX0_streets_38 : decode cX0_streets 38 = .ok (.if_icmp .ge 53, 3) := by decide +kernel
theorem dX0_streets_41 : decode cX0_streets 41 = .ok (.aload_n 0, 1) := by decide +kernel
theorem dX0_streets_42 : decode cX0_streets 42 = .ok (.getfield 19, 3) := by decide +kernel
theorem dX0_streets_45 : decode cX0_streets 45 = .ok (.iload_n 3, 1) := by decide +kernel
theorem dX0_streets_46 : decode cX0_streets 46 = .ok (.bipush 8, 2) := by decide +kernel
theorem dX0_streets_48 : decode cX0_streets 48 = .ok (.idiv, 1) := by decide +kernel
theorem dX0_streets_49 : decode cX0_streets 49 = .ok (.aaload, 1) := by decide +kernel
theorem dX0_streets_50 : decode cX0_streets 50 = .ok (.iload_n 3, 1) := by decide +kernel
theorem dX0_streets_51 : decode cX0_streets 51 = .ok (.bipush 8, 2) := by decide +kernel
theorem dX0_streets_53 : decode cX0_streets 53 = .ok (.irem, 1) := by decide +kernel
theorem dX0_streets_54 : decode cX0_streets 54 = .ok (.dup2, 1) := by decide +kernel
theorem dX0_streets_55 : decode cX0_streets 55 = .ok (.baload, 1) := by decide +kernel
theorem dX0_streets_56 : decode cX0_streets 56 = .ok (.aload_n 0, 1) := by decide +kernel
theorem dX0_streets_57 : decode cX0_streets 57 = .ok (.iload_n 3, 1) := by decide +kernel
theorem dX0_streets_58 : decode cX0_streets 58 = .ok (.bipush 8, 2) := by decide +kernel
theorem dX0_streets_60 : decode cX0_streets 60 = .ok (.idiv, 1) := by decide +kernel
theorem dX0_streets_61 : decode cX0_streets 61 = .ok (.invokevirtual 71, 3) := by decide +kernel
theorem dX0_streets_64 : decode cX0_streets 64 = .ok (.ifCond .eq 18, 3) := by decide +kernel
theorem dX0_streets_67 : decode cX0_streets 67 = .ok (.aload_n 0, 1) := by decide +kernel
theorem dX0_streets_68 : decode cX0_streets 68 = .ok (.iload_n 3, 1) := by decide +kernel
theorem dX0_streets_69 : decode cX0_streets 69 = .ok (.bipush 8, 2) := by decide +kernel
theorem dX0_streets_71 : decode cX0_streets 71 = .ok (.irem, 1) := by decide +kernel
theorem dX0_streets_72 : decode cX0_streets 72 = .ok (.invokevirtual 71, 3) := by decide +kernel
theorem dX0_streets_75 : decode cX0_streets 75 = .ok (.ifCond .eq 7, 3) := by decide +kernel
theorem dX0_streets_78 : decode cX0_streets 78 = .ok (.iconst 1, 1) := by decide +kernel
theorem dX0_streets_79 : decode cX0_streets 79 = .ok (.goto 4, 3) := by decide +kernel
theorem dX0_streets_82 : decode cX0_streets 82 = .ok (.iconst 0, 1) := by decide +kernel
theorem dX0_streets_83 : decode cX0_streets 83 = .ok (.iand, 1) := by decide +kernel
theorem dX0_streets_84 : decode cX0_streets 84 = .ok (.bastore, 1) := by decide +kernel
theorem dX0_streets_85 : decode cX0_streets 85 = .ok (.iinc 3 1, 3) := by decide +kernel
theorem dX0_streets_88 : decode cX0_streets 88 = .ok (.goto (-53), 3) := by decide +kernel
theorem dX0_streets_91 : decode cX0_streets 91 = .ok (.iload_n 2, 1) := by decide +kernel
theorem dX0_streets_92 : decode cX0_streets 92 = .ok (.ireturn, 1) := by decide +kernel
theorem dX0_isIn_0 : decode cX0_isIn 0 = .ok (.iload_n 0, 1) := by decide +kernel
theorem dX0_isIn_1 : decode cX0_isIn 1 = .ok (.iload_n 1, 1) := by decide +kernel
theorem dX0_isIn_2 : decode cX0_isIn 2 = .ok (.if_icmp .lt 12, 3) := by decide +kernel
theorem dX0_isIn_5 : decode cX0_isIn 5 = .ok (.iload_n 0, 1) := by decide +kernel
theorem dX0_isIn_6 : decode cX0_isIn 6 = .ok (.iload_n 2, 1) := by decide +kernel
theorem dX0_isIn_7 : decode cX0_isIn 7 = .ok (.if_icmp .gt 7, 3) := by decide +kernel
theorem dX0_isIn_10 : decode cX0_isIn 10 = .ok (.iconst 1, 1) := by decide +kernel
theorem dX0_isIn_11 : decode cX0_isIn 11 = .ok (.goto 4, 3) := by decide +kernel
theorem dX0_isIn_14 : decode cX0_isIn 14 = .ok (.iconst 0, 1) := by decide +kernel
theorem dX0_isIn_15 : decode cX0_isIn 15 = .ok (.ireturn, 1) := by decide +kernel
theorem dX0_isStreet_0 : decode cX0_isStreet 0 = .ok (.iload_n 1, 1) := by decide +kernel
theorem dX0_isStreet_1 : decode cX0_isStreet 1 = .ok (.iconst 0, 1) := by decide +kernel
theorem dX0_isStreet_2 : decode cX0_isStreet 2 = .ok (.aload_n 0, 1) := by decide +kernel
theorem dX0_isStreet_3 : decode cX0_isStreet 3 = .ok (.getfield 13, 3) := by decide +kernel
theorem dX0_isStreet_6 : decode cX0_isStreet 6 = .ok (.iconst 1, 1) := by decide +kernel
theorem dX0_isStreet_7 : decode cX0_isStreet 7 = .ok (.isub, 1) := by decide +kernel
theorem dX0_isStreet_8 : decode cX0_isStreet 8 = .ok (.invokestatic 1, 3) := by decide +kernel
theorem dX0_isStreet_11 : decode cX0_isStreet 11 = .ok (.ireturn, 1) := by decide +kernel
theorem dX0_way_0 : decode cX0_way 0 = .ok (.aload_n 0, 1) := by decide +kernel
theorem dX0_way_1 : decode cX0_way 1 = .ok (.iload_n 1, 1) := by decide +kernel
theorem dX0_way_2 : decode cX0_way 2 = .ok (.invokevirtual 71, 3) := by decide +kernel
theorem dX0_way_5 : decode cX0_way 5 = .ok (.ifCond .eq 11, 3) := by decide +kernel
theorem dX0_way_8 : decode cX0_way 8 = .ok (.aload_n 0, 1) := by decide +kernel
theorem dX0_way_9 : decode cX0_way 9 = .ok (.iload_n 2, 1) := by decide +kernel
theorem dX0_way_10 : decode cX0_way 10 = .ok (.invokevirtual 71, 3) := by decide +kernel
theorem dX0_way_13 : decode cX0_way 13 = .ok (.ifCond .ne 5, 3) := by decide +kernel
theorem dX0_way_16 : decode cX0_way 16 = .ok (.iconst (-1), 1) := by decide +kernel
theorem dX0_way_17 : decode cX0_way 17 = .ok (.ireturn, 1) := by decide +kernel
theorem dX0_way_18 : decode cX0_way 18 = .ok (.iload_n 1, 1) := by decide +kernel
theorem dX0_way_19 : decode cX0_way 19 = .ok (.iload_n 2, 1) := by decide +kernel
theorem dX0_way_20 : decode cX0_way 20 = .ok (.if_icmp .ne 6, 3) := by decide +kernel
theorem dX0_way_23 : decode cX0_way 23 = .ok (.bipush (-2), 2) := by decide +kernel
theorem dX0_way_25 : decode cX0_way 25 = .ok (.ireturn, 1) := by decide +kernel
theorem dX0_way_26 : decode cX0_way 26 = .ok (.aload_n 0, 1) := by decide +kernel
theorem dX0_way_27 : decode cX0_way 27 = .ok (.getfield 19, 3) := by decide +kernel
theorem dX0_way_30 : decode cX0_way 30 = .ok (.iload_n 1, 1) := by decide +kernel
theorem dX0_way_31 : decode cX0_way 31 = .ok (.aaload, 1) := by decide +kernel
theorem dX0_way_32 : decode cX0_way 32 = .ok (.iload_n 2, 1) := by decide +kernel
theorem dX0_way_33 : decode cX0_way 33 = .ok (.baload, 1) := by decide +kernel
theorem dX0_way_34 : decode cX0_way 34 = .ok (.ifCond .eq 7, 3) := by decide +kernel
theorem dX0_way_37 : decode cX0_way 37 = .ok (.iconst 1, 1) := by decide +kernel
theorem dX0_way_38 : decode cX0_way 38 = .ok (.goto 4, 3) := by decide +kernel
theorem dX0_way_41 : decode cX0_way 41 = .ok (.iconst 0, 1) := by decide +kernel
theorem dX0_way_42 : decode cX0_way 42 = .ok (.istore 4, 2) := by decide +kernel
theorem dX0_way_44 : decode cX0_way 44 = .ok (.aload_n 0, 1) := by decide +kernel
theorem dX0_way_45 : decode cX0_way 45 = .ok (.getfield 19, 3) := by decide +kernel
theorem dX0_way_48 : decode cX0_way 48 = .ok (.iload_n 1, 1) := by decide +kernel
theorem dX0_way_49 : decode cX0_way 49 = .ok (.aaload, 1) := by decide +kernel
theorem dX0_way_50 : decode cX0_way 50 = .ok (.iload_n 2, 1) := by decide +kernel
theorem dX0_way_51 : decode cX0_way 51 = .ok (.iload_n 3, 1) := by decide +kernel
theorem dX0_way_52 : decode cX0_way 52 = .ok (.bastore, 1) := by decide +kernel
theorem dX0_way_53 : decode cX0_way 53 = .ok (.aload_n 0, 1) := by decide +kernel
theorem dX0_way_54 : decode cX0_way 54 = .ok (.getfield 19, 3) := by decide +kernel
theorem dX0_way_57 : decode cX0_way 57 = .ok (.iload_n 2, 1) := by decide +kernel
theorem dX0_way_58 : decode cX0_way 58 = .ok (.aaload, 1) := by decide +kernel
theorem dX0_way_59 : decode cX0_way 59 = .ok (.iload_n 1, 1) := by decide +kernel
theorem dX0_way_60 : decode cX0_way 60 = .ok (.iload_n 3, 1) := by decide +kernel
theorem dX0_way_61 : decode cX0_way 61 = .ok (.bastore, 1) := by decide +kernel
theorem dX0_way_62 : decode cX0_way 62 = .ok (.iload 4, 2) := by decide +kernel
theorem dX0_way_64 : decode cX0_way 64 = .ok (.ireturn, 1) := by decide +kernel
theorem dX0_far_0 : decode cX0_far 0 = .ok (.aload_n 0, 1) := by decide +kernel
theorem dX0_far_1 : decode cX0_far 1 = .ok (.iload_n 1, 1) := by decide +kernel
theorem dX0_far_2 : decode cX0_far 2 = .ok (.invokevirtual 71, 3) := by decide +kernel
theorem dX0_far_5 : decode cX0_far 5 = .ok (.ifCond .eq 21, 3) := by decide +kernel
theorem dX0_far_8 : decode cX0_far 8 = .ok (.aload_n 0, 1) := by decide +kernel
theorem dX0_far_9 : decode cX0_far 9 = .ok (.iload_n 2, 1) := by decide +kernel
theorem dX0_far_10 : decode cX0_far 10 = .ok (.invokevirtual 71, 3) := by decide +kernel
theorem dX0_far_13 : decode cX0_far 13 = .ok (.ifCond .eq 13, 3) := by decide +kernel
theorem dX0_far_16 : decode cX0_far 16 = .ok (.aload_n 0, 1) := by decide +kernel
theorem dX0_far_17 : decode cX0_far 17 = .ok (.iload_n 1, 1) := by decide +kernel
theorem dX0_far_18 : decode cX0_far 18 = .ok (.invokevirtual 75, 3) := by decide +kernel
theorem dX0_far_21 : decode cX0_far 21 = .ok (.iload_n 2, 1) := by decide +kernel
theorem dX0_far_22 : decode cX0_far 22 = .ok (.iaload, 1) := by decide +kernel
theorem dX0_far_23 : decode cX0_far 23 = .ok (.goto 4, 3) := by decide +kernel
theorem dX0_far_26 : decode cX0_far 26 = .ok (.iconst (-1), 1) := by decide +kernel
theorem dX0_far_27 : decode cX0_far 27 = .ok (.ireturn, 1) := by decide +kernel
theorem dX0_farFrom_0 : decode cX0_farFrom 0 = .ok (.bipush 8, 2) := by decide +kernel
theorem dX0_farFrom_2 : decode cX0_farFrom 2 = .ok (.newarray .int, 2) := by decide +kernel
theorem dX0_farFrom_4 : decode cX0_farFrom 4 = .ok (.astore_n 2, 1) := by decide +kernel
theorem dX0_farFrom_5 : decode cX0_farFrom 5 = .ok (.iconst 0, 1) := by decide +kernel
theorem dX0_farFrom_6 : decode cX0_farFrom 6 = .ok (.istore_n 3, 1) := by decide +kernel
theorem dX0_farFrom_7 : decode cX0_farFrom 7 = .ok (.iload_n 3, 1) := by decide +kernel
theorem dX0_farFrom_8 : decode cX0_farFrom 8 = .ok (.bipush 8, 2) := by decide +kernel
theorem dX0_farFrom_10 : decode cX0_farFrom 10 = .ok (.if_icmp .ge 23, 3) := by decide +kernel
theorem dX0_farFrom_13 : decode cX0_farFrom 13 = .ok (.aload_n 2, 1) := by decide +kernel
theorem dX0_farFrom_14 : decode cX0_farFrom 14 = .ok (.iload_n 3, 1) := by decide +kernel
theorem dX0_farFrom_15 : decode cX0_farFrom 15 = .ok (.iload_n 3, 1) := by decide +kernel
theorem dX0_farFrom_16 : decode cX0_farFrom 16 = .ok (.iload_n 1, 1) := by decide +kernel
theorem dX0_farFrom_17 : decode cX0_farFrom 17 = .ok (.if_icmp .ne 7, 3) := by decide +kernel
theorem dX0_farFrom_20 : decode cX0_farFrom 20 = .ok (.iconst 0, 1) := by decide +kernel
theorem dX0_farFrom_21 : decode cX0_farFrom 21 = .ok (.goto 5, 3) := by decide +kernel
theorem dX0_farFrom_24 : decode cX0_farFrom 24 = .ok (.bipush (-9), 2) := by decide +kernel
theorem dX0_farFrom_26 : decode cX0_farFrom 26 = .ok (.iastore, 1) := by decide +kernel
theorem dX0_farFrom_27 : decode cX0_farFrom 27 = .ok (.iinc 3 1, 3) := by decide +kernel
theorem dX0_farFrom_30 : decode cX0_farFrom 30 = .ok (.goto (-23), 3) := by decide +kernel
theorem dX0_farFrom_33 : decode cX0_farFrom 33 = .ok (.iconst 0, 1) := by decide +kernel
theorem dX0_farFrom_34 : decode cX0_farFrom 34 = .ok (.istore_n 3, 1) := by decide +kernel
theorem dX0_farFrom_35 : decode cX0_farFrom 35 = .ok (.iload_n 3, 1) := by decide +kernel
theorem dX0_farFrom_36 : decode cX0_farFrom 36 = .ok (.aload_n 0, 1) := by decide +kernel
theorem dX0_farFrom_37 : decode cX0_farFrom 37 = .ok (.getfield 13, 3) := by decide +kernel
theorem dX0_farFrom_40 : decode cX0_farFrom 40 = .ok (.if_icmp .ge 89, 3) := by decide +kernel
theorem dX0_farFrom_43 : decode cX0_farFrom 43 = .ok (.iconst 0, 1) := by decide +kernel
theorem dX0_farFrom_44 : decode cX0_farFrom 44 = .ok (.istore 4, 2) := by decide +kernel
theorem dX0_farFrom_46 : decode cX0_farFrom 46 = .ok (.iload 4, 2) := by decide +kernel
theorem dX0_farFrom_48 : decode cX0_farFrom 48 = .ok (.aload_n 0, 1) := by decide +kernel
theorem dX0_farFrom_49 : decode cX0_farFrom 49 = .ok (.getfield 13, 3) := by decide +kernel
theorem dX0_farFrom_52 : decode cX0_farFrom 52 = .ok (.if_icmp .ge 71, 3) := by decide +kernel
theorem dX0_farFrom_55 : decode cX0_farFrom 55 = .ok (.iconst 0, 1) := by decide +kernel
theorem dX0_farFrom_56 : decode cX0_farFrom 56 = .ok (.istore 5, 2) := by decide +kernel
theorem dX0_farFrom_58 : decode cX0_farFrom 58 = .ok (.iload 5, 2) := by decide +kernel
theorem dX0_farFrom_60 : decode cX0_farFrom 60 = .ok (.aload_n 0, 1) := by decide +kernel
theorem dX0_farFrom_61 : decode cX0_farFrom 61 = .ok (.getfield 13, 3) := by decide +kernel
theorem dX0_farFrom_64 : decode cX0_farFrom 64 = .ok (.if_icmp .ge 53, 3) := by decide +kernel
theorem dX0_farFrom_67 : decode cX0_farFrom 67 = .ok (.aload_n 2, 1) := by decide +kernel
theorem dX0_farFrom_68 : decode cX0_farFrom 68 = .ok (.iload 4, 2) := by decide +kernel
theorem dX0_farFrom_70 : decode cX0_farFrom 70 = .ok (.iaload, 1) := by decide +kernel
theorem dX0_farFrom_71 : decode cX0_farFrom 71 = .ok (.iload_n 3, 1) := by decide +kernel
theorem dX0_farFrom_72 : decode cX0_farFrom 72 = .ok (.if_icmp .ne 45, 3) := by decide +kernel
theorem dX0_farFrom_75 : decode cX0_farFrom 75 = .ok (.aload_n 2, 1) := by decide +kernel
theorem dX0_farFrom_76 : decode cX0_farFrom 76 = .ok (.iload 5, 2) := by decide +kernel
theorem dX0_farFrom_78 : decode cX0_farFrom 78 = .ok (.aload_n 0, 1) := by decide +kernel
theorem dX0_farFrom_79 : decode cX0_farFrom 79 = .ok (.getfield 19, 3) := by decide +kernel
theorem dX0_farFrom_82 : decode cX0_farFrom 82 = .ok (.iload 4, 2) := by decide +kernel
theorem dX0_farFrom_84 : decode cX0_farFrom 84 = .ok (.aaload, 1) := by decide +kernel
theorem dX0_farFrom_85 : decode cX0_farFrom 85 = .ok (.iload 5, 2) := by decide +kernel
theorem dX0_farFrom_87 : decode cX0_farFrom 87 = .ok (.baload, 1) := by decide +kernel
theorem dX0_farFrom_88 : decode cX0_farFrom 88 = .ok (.ifCond .eq 18, 3) := by decide +kernel
theorem dX0_farFrom_91 : decode cX0_farFrom 91 = .ok (.aload_n 2, 1) := by decide +kernel
theorem dX0_farFrom_92 : decode cX0_farFrom 92 = .ok (.iload 5, 2) := by decide +kernel
theorem dX0_farFrom_94 : decode cX0_farFrom 94 = .ok (.iaload, 1) := by decide +kernel
theorem dX0_farFrom_95 : decode cX0_farFrom 95 = .ok (.bipush (-9), 2) := by decide +kernel
theorem dX0_farFrom_97 : decode cX0_farFrom 97 = .ok (.if_icmp .ne 9, 3) := by decide +kernel
theorem dX0_farFrom_100 : decode cX0_farFrom 100 = .ok (.iload_n 3, 1) := by decide +kernel
theorem dX0_farFrom_101 : decode cX0_farFrom 101 = .ok (.iconst 1, 1) := by decide +kernel
theorem dX0_farFrom_102 : decode cX0_farFrom 102 = .ok (.iadd, 1) := by decide +kernel
theorem dX0_farFrom_103 : decode cX0_farFrom 103 = .ok (.goto 7, 3) := by decide +kernel
theorem dX0_farFrom_106 : decode cX0_farFrom 106 = .ok (.aload_n 2, 1) := by decide +kernel
theorem dX0_farFrom_107 : decode cX0_farFrom 107 = .ok (.iload 5, 2) := by decide +kernel
theorem dX0_farFrom_109 : decode cX0_farFrom 109 = .ok (.iaload, 1) := by decide +kernel
theorem dX0_farFrom_110 : decode cX0_farFrom 110 = .ok (.iastore, 1) := by decide +kernel
theorem dX0_farFrom_111 : decode cX0_farFrom 111 = .ok (.iinc 5 1, 3) := by decide +kernel
theorem dX0_farFrom_114 : decode cX0_farFrom 114 = .ok (.goto (-56), 3) := by decide +kernel
theorem dX0_farFrom_117 : decode cX0_farFrom 117 = .ok (.iinc 4 1, 3) := by decide +kernel
theorem dX0_farFrom_120 : decode cX0_farFrom 120 = .ok (.goto (-74), 3) := by decide +kernel
theorem dX0_farFrom_123 : decode cX0_farFrom 123 = .ok (.iinc 3 1, 3) := by decide +kernel
theorem dX0_farFrom_126 : decode cX0_farFrom 126 = .ok (.goto (-91), 3) := by decide +kernel
theorem dX0_farFrom_129 : decode cX0_farFrom 129 = .ok (.aload_n 2, 1) := by decide +kernel
theorem dX0_farFrom_130 : decode cX0_farFrom 130 = .ok (.areturn, 1) := by decide +kernel
theorem dX0_man_0 : decode cX0_man 0 = .ok (.aload_n 0, 1) := by decide +kernel
theorem dX0_man_1 : decode cX0_man 1 = .ok (.iload 7, 2) := by decide +kernel
theorem dX0_man_3 : decode cX0_man 3 = .ok (.invokevirtual 71, 3) := by decide +kernel
theorem dX0_man_6 : decode cX0_man 6 = .ok (.ifCond .ne 5, 3) := by decide +kernel
theorem dX0_man_9 : decode cX0_man 9 = .ok (.iconst (-1), 1) := by decide +kernel
theorem dX0_man_10 : decode cX0_man 10 = .ok (.ireturn, 1) := by decide +kernel
theorem dX0_man_11 : decode cX0_man 11 = .ok (.iload_n 1, 1) := by decide +kernel
theorem dX0_man_12 : decode cX0_man 12 = .ok (.bipush 10, 2) := by decide +kernel
theorem dX0_man_14 : decode cX0_man 14 = .ok (.bipush 60, 2) := by decide +kernel
theorem dX0_man_16 : decode cX0_man 16 = .ok (.invokestatic 1, 3) := by decide +kernel
theorem dX0_man_19 : decode cX0_man 19 = .ok (.ifCond .eq 54, 3) := by decide +kernel
theorem dX0_man_22 : decode cX0_man 22 = .ok (.iload_n 2, 1) := by decide +kernel
theorem dX0_man_23 : decode cX0_man 23 = .ok (.iconst 0, 1) := by decide +kernel
theorem dX0_man_24 : decode cX0_man 24 = .ok (.iconst 3, 1) := by decide +kernel
theorem dX0_man_25 : decode cX0_man 25 = .ok (.invokestatic 1, 3) := by decide +kernel
theorem dX0_man_28 : decode cX0_man 28 = .ok (.ifCond .eq 45, 3) := by decide +kernel
theorem dX0_man_31 : decode cX0_man 31 = .ok (.iload_n 3, 1) := by decide +kernel
theorem dX0_man_32 : decode cX0_man 32 = .ok (.iconst 0, 1) := by decide +kernel
theorem dX0_man_33 : decode cX0_man 33 = .ok (.iconst 3, 1) := by decide +kernel
theorem dX0_man_34 : decode cX0_man 34 = .ok (.invokestatic 1, 3) := by decide +kernel
theorem dX0_man_37 : decode cX0_man 37 = .ok (.ifCond .eq 36, 3) := by decide +kernel
theorem dX0_man_40 : decode cX0_man 40 = .ok (.iload 4, 2) := by decide +kernel
theorem dX0_man_42 : decode cX0_man 42 = .ok (.bipush 50, 2) := by decide +kernel
theorem dX0_man_44 : decode cX0_man 44 = .ok (.bipush 80, 2) := by decide +kernel
theorem dX0_man_46 : decode cX0_man 46 = .ok (.invokestatic 1, 3) := by decide +kernel
theorem dX0_man_49 : decode cX0_man 49 = .ok (.ifCond .eq 24, 3) := by decide +kernel
theorem dX0_man_52 : decode cX0_man 52 = .ok (.iload 5, 2) := by decide +kernel
theorem dX0_man_54 : decode cX0_man 54 = .ok (.iconst 0, 1) := by decide +kernel
theorem dX0_man_55 : decode cX0_man 55 = .ok (.iconst 5, 1) := by decide +kernel
theorem dX0_man_56 : decode cX0_man 56 = .ok (.invokestatic 1, 3) := by decide +kernel
theorem dX0_man_59 : decode cX0_man 59 = .ok (.ifCond .eq 14, 3) := by decide +kernel
theorem dX0_man_62 : decode cX0_man 62 = .ok (.iload 6, 2) := by decide +kernel
theorem dX0_man_64 : decode cX0_man 64 = .ok (.iconst 0, 1) := by decide +kernel
theorem dX0_man_65 : decode cX0_man 65 = .ok (.bipush 40, 2) := by decide +kernel
theorem dX0_man_67 : decode cX0_man 67 = .ok (.invokestatic 1, 3) := by decide +kernel
theorem dX0_man_70 : decode cX0_man 70 = .ok (.ifCond .ne 6, 3) := by decide +kernel
theorem dX0_man_73 : decode cX0_man 73 = .ok (.bipush (-2), 2) := by decide +kernel
theorem dX0_man_75 : decode cX0_man 75 = .ok (.ireturn, 1) := by decide +kernel
theorem dX0_man_76 : decode cX0_man 76 = .ok (.aload_n 0, 1) := by decide +kernel
theorem dX0_man_77 : decode cX0_man 77 = .ok (.getfield 68, 3) := by decide +kernel
theorem dX0_man_80 : decode cX0_man 80 = .ok (.bipush 40, 2) := by decide +kernel
theorem dX0_man_82 : decode cX0_man 82 = .ok (.if_icmp .ne 6, 3) := by decide +kernel
theorem dX0_man_85 : decode cX0_man 85 = .ok (.bipush (-4), 2) := by decide +kernel
theorem dX0_man_87 : decode cX0_man 87 = .ok (.ireturn, 1) := by decide +kernel
theorem dX0_man_88 : decode cX0_man 88 = .ok (.bipush 7, 2) := by decide +kernel
theorem dX0_man_90 : decode cX0_man 90 = .ok (.newarray .int, 2) := by decide +kernel
theorem dX0_man_92 : decode cX0_man 92 = .ok (.dup, 1) := by decide +kernel
theorem dX0_man_93 : decode cX0_man 93 = .ok (.iconst 0, 1) := by decide +kernel
theorem dX0_man_94 : decode cX0_man 94 = .ok (.iload_n 1, 1) := by decide +kernel
theorem dX0_man_95 : decode cX0_man 95 = .ok (.iastore, 1) := by decide +kernel
theorem dX0_man_96 : decode cX0_man 96 = .ok (.dup, 1) := by decide +kernel
theorem dX0_man_97 : decode cX0_man 97 = .ok (.iconst 1, 1) := by decide +kernel
theorem dX0_man_98 : decode cX0_man 98 = .ok (.iload_n 2, 1) := by decide +kernel
theorem dX0_man_99 : decode cX0_man 99 = .ok (.iastore, 1) := by decide +kernel
theorem dX0_man_100 : decode cX0_man 100 = .ok (.dup, 1) := by decide +kernel
theorem dX0_man_101 : decode cX0_man 101 = .ok (.iconst 2, 1) := by decide +kernel
theorem dX0_man_102 : decode cX0_man 102 = .ok (.iload_n 3, 1) := by decide +kernel
theorem dX0_man_103 : decode cX0_man 103 = .ok (.iastore, 1) := by decide +kernel
theorem dX0_man_104 : decode cX0_man 104 = .ok (.dup, 1) := by decide +kernel
theorem dX0_man_105 : decode cX0_man 105 = .ok (.iconst 3, 1) := by decide +kernel
theorem dX0_man_106 : decode cX0_man 106 = .ok (.iload 4, 2) := by decide +kernel
theorem dX0_man_108 : decode cX0_man 108 = .ok (.iastore, 1) := by decide +kernel
theorem dX0_man_109 : decode cX0_man 109 = .ok (.dup, 1) := by decide +kernel
theorem dX0_man_110 : decode cX0_man 110 = .ok (.iconst 4, 1) := by decide +kernel
theorem dX0_man_111 : decode cX0_man 111 = .ok (.iload 5, 2) := by decide +kernel
theorem dX0_man_113 : decode cX0_man 113 = .ok (.iastore, 1) := by decide +kernel
theorem dX0_man_114 : decode cX0_man 114 = .ok (.dup, 1) := by decide +kernel
theorem dX0_man_115 : decode cX0_man 115 = .ok (.iconst 5, 1) := by decide +kernel
theorem dX0_man_116 : decode cX0_man 116 = .ok (.iload 6, 2) := by decide +kernel
theorem dX0_man_118 : decode cX0_man 118 = .ok (.iastore, 1) := by decide +kernel
theorem dX0_man_119 : decode cX0_man 119 = .ok (.dup, 1) := by decide +kernel
theorem dX0_man_120 : decode cX0_man 120 = .ok (.bipush 6, 2) := by decide +kernel
theorem dX0_man_122 : decode cX0_man 122 = .ok (.iload 7, 2) := by decide +kernel
theorem dX0_man_124 : decode cX0_man 124 = .ok (.iastore, 1) := by decide +kernel
theorem dX0_man_125 : decode cX0_man 125 = .ok (.astore 8, 2) := by decide +kernel
theorem dX0_man_127 : decode cX0_man 127 = .ok (.aload_n 0, 1) := by decide +kernel
theorem dX0_man_128 : decode cX0_man 128 = .ok (.getfield 24, 3) := by decide +kernel
theorem dX0_man_131 : decode cX0_man 131 = .ok (.aload_n 0, 1) := by decide +kernel
theorem dX0_man_132 : decode cX0_man 132 = .ok (.getfield 68, 3) := by decide +kernel
theorem dX0_man_135 : decode cX0_man 135 = .ok (.new 22, 3) := by decide +kernel
theorem dX0_man_138 : decode cX0_man 138 = .ok (.dup, 1) := by decide +kernel
theorem dX0_man_139 : decode cX0_man 139 = .ok (.aload 8, 2) := by decide +kernel
theorem dX0_man_141 : decode cX0_man 141 = .ok (.invokespecial 79, 3) := by decide +kernel
theorem dX0_man_144 : decode cX0_man 144 = .ok (.aastore, 1) := by decide +kernel
theorem dX0_man_145 : decode cX0_man 145 = .ok (.aload_n 0, 1) := by decide +kernel
theorem dX0_man_146 : decode cX0_man 146 = .ok (.dup, 1) := by decide +kernel
theorem dX0_man_147 : decode cX0_man 147 = .ok (.getfield 68, 3) := by decide +kernel
theorem dX0_man_150 : decode cX0_man 150 = .ok (.iconst 1, 1) := by decide +kernel
theorem dX0_man_151 : decode cX0_man 151 = .ok (.iadd, 1) := by decide +kernel
theorem dX0_man_152 : decode cX0_man 152 = .ok (.putfield 68, 3) := by decide +kernel
theorem dX0_man_155 : decode cX0_man 155 = .ok (.aload_n 0, 1) := by decide +kernel
theorem dX0_man_156 : decode cX0_man 156 = .ok (.getfield 68, 3) := by decide +kernel
theorem dX0_man_159 : decode cX0_man 159 = .ok (.iconst 1, 1) := by decide +kernel
theorem dX0_man_160 : decode cX0_man 160 = .ok (.isub, 1) := by decide +kernel
theorem dX0_man_161 : decode cX0_man 161 = .ok (.ireturn, 1) := by decide +kernel
theorem dX0_about_0 : decode cX0_about 0 = .ok (.aload_n 0, 1) := by decide +kernel
theorem dX0_about_1 : decode cX0_about 1 = .ok (.iload_n 1, 1) := by decide +kernel
theorem dX0_about_2 : decode cX0_about 2 = .ok (.invokevirtual 82, 3) := by decide +kernel
theorem dX0_about_5 : decode cX0_about 5 = .ok (.ifCond .ne 5, 3) := by decide +kernel
theorem dX0_about_8 : decode cX0_about 8 = .ok (.iconst (-1), 1) := by decide +kernel
theorem dX0_about_9 : decode cX0_about 9 = .ok (.ireturn, 1) := by decide +kernel
theorem dX0_about_10 : decode cX0_about 10 = .ok (.iload_n 2, 1) := by decide +kernel
theorem dX0_about_11 : decode cX0_about 11 = .ok (.bipush 7, 2) := by decide +kernel
theorem dX0_about_13 : decode cX0_about 13 = .ok (.if_icmp .ne 21, 3) := by decide +kernel
theorem dX0_about_16 : decode cX0_about 16 = .ok (.aload_n 0, 1) := by decide +kernel
theorem dX0_about_17 : decode cX0_about 17 = .ok (.getfield 24, 3) := by decide +kernel
theorem dX0_about_20 : decode cX0_about 20 = .ok (.iload_n 1, 1) := by decide +kernel
theorem dX0_about_21 : decode cX0_about 21 = .ok (.aaload, 1) := by decide +kernel
theorem dX0_about_22 : decode cX0_about 22 = .ok (.getfield 85, 3) := by decide +kernel
theorem dX0_about_25 : decode cX0_about 25 = .ok (.ifCond .eq 7, 3) := by decide +kernel
theorem dX0_about_28 : decode cX0_about 28 = .ok (.iconst 1, 1) := by decide +kernel
theorem dX0_about_29 : decode cX0_about 29 = .ok (.goto 4, 3) := by decide +kernel
theorem dX0_about_32 : decode cX0_about 32 = .ok (.iconst 0, 1) := by decide +kernel
theorem dX0_about_33 : decode cX0_about 33 = .ok (.ireturn, 1) := by decide +kernel
theorem dX0_about_34 : decode cX0_about 34 = .ok (.iload_n 2, 1) := by decide +kernel
theorem dX0_about_35 : decode cX0_about 35 = .ok (.iconst 0, 1) := by decide +kernel
theorem dX0_about_36 : decode cX0_about 36 = .ok (.bipush 6, 2) := by decide +kernel
theorem dX0_about_38 : decode cX0_about 38 = .ok (.invokestatic 1, 3) := by decide +kernel
theorem dX0_about_41 : decode cX0_about 41 = .ok (.ifCond .eq 17, 3) := by decide +kernel
theorem dX0_about_44 : decode cX0_about 44 = .ok (.aload_n 0, 1) := by decide +kernel
theorem dX0_about_45 : decode cX0_about 45 = .ok (.getfield 24, 3) := by decide +kernel
theorem dX0_about_48 : decode cX0_about 48 = .ok (.iload_n 1, 1) := by decide +kernel
theorem dX0_about_49 : decode cX0_about 49 = .ok (.aaload, 1) := by decide +kernel
theorem dX0_about_50 : decode cX0_about 50 = .ok (.getfield 89, 3) := by decide +kernel
theorem dX0_about_53 : decode cX0_about 53 = .ok (.iload_n 2, 1) := by decide +kernel
theorem dX0_about_54 : decode cX0_about 54 = .ok (.iaload, 1) := by decide +kernel
theorem dX0_about_55 : decode cX0_about 55 = .ok (.goto 5, 3) := by decide +kernel
theorem dX0_about_58 : decode cX0_about 58 = .ok (.bipush (-2), 2) := by decide +kernel
theorem dX0_about_60 : decode cX0_about 60 = .ok (.ireturn, 1) := by decide +kernel
theorem dX0_isMan_0 : decode cX0_isMan 0 = .ok (.iload_n 1, 1) := by decide +kernel
theorem dX0_isMan_1 : decode cX0_isMan 1 = .ok (.iconst 0, 1) := by decide +kernel
theorem dX0_isMan_2 : decode cX0_isMan 2 = .ok (.aload_n 0, 1) := by decide +kernel
theorem dX0_isMan_3 : decode cX0_isMan 3 = .ok (.getfield 68, 3) := by decide +kernel
theorem dX0_isMan_6 : decode cX0_isMan 6 = .ok (.iconst 1, 1) := by decide +kernel
theorem dX0_isMan_7 : decode cX0_isMan 7 = .ok (.isub, 1) := by decide +kernel
theorem dX0_isMan_8 : decode cX0_isMan 8 = .ok (.invokestatic 1, 3) := by decide +kernel
theorem dX0_isMan_11 : decode cX0_isMan 11 = .ok (.ireturn, 1) := by decide +kernel
theorem dX0_shy_0 : decode cX0_shy 0 = .ok (.aload_n 0, 1) := by decide +kernel
theorem dX0_shy_1 : decode cX0_shy 1 = .ok (.iload_n 1, 1) := by decide +kernel
theorem dX0_shy_2 : decode cX0_shy 2 = .ok (.invokevirtual 82, 3) := by decide +kernel
theorem dX0_shy_5 : decode cX0_shy 5 = .ok (.ifCond .ne 5, 3) := by decide +kernel
theorem dX0_shy_8 : decode cX0_shy 8 = .ok (.iconst (-1), 1) := by decide +kernel
theorem dX0_shy_9 : decode cX0_shy 9 = .ok (.ireturn, 1) := by decide +kernel
theorem dX0_shy_10 : decode cX0_shy 10 = .ok (.aload_n 0, 1) := by decide +kernel
theorem dX0_shy_11 : decode cX0_shy 11 = .ok (.getfield 24, 3) := by decide +kernel
theorem dX0_shy_14 : decode cX0_shy 14 = .ok (.iload_n 1, 1) := by decide +kernel
theorem dX0_shy_15 : decode cX0_shy 15 = .ok (.aaload, 1) := by decide +kernel
theorem dX0_shy_16 : decode cX0_shy 16 = .ok (.getfield 85, 3) := by decide +kernel
theorem dX0_shy_19 : decode cX0_shy 19 = .ok (.ifCond .eq 7, 3) := by decide +kernel
theorem dX0_shy_22 : decode cX0_shy 22 = .ok (.iconst 1, 1) := by decide +kernel
theorem dX0_shy_23 : decode cX0_shy 23 = .ok (.goto 4, 3) := by decide +kernel
theorem dX0_shy_26 : decode cX0_shy 26 = .ok (.iconst 0, 1) := by decide +kernel
theorem dX0_shy_27 : decode cX0_shy 27 = .ok (.istore_n 3, 1) := by decide +kernel
theorem dX0_shy_28 : decode cX0_shy 28 = .ok (.aload_n 0, 1) := by decide +kernel
theorem dX0_shy_29 : decode cX0_shy 29 = .ok (.getfield 24, 3) := by decide +kernel
theorem dX0_shy_32 : decode cX0_shy 32 = .ok (.iload_n 1, 1) := by decide +kernel
theorem dX0_shy_33 : decode cX0_shy 33 = .ok (.aaload, 1) := by decide +kernel
theorem dX0_shy_34 : decode cX0_shy 34 = .ok (.iload_n 2, 1) := by decide +kernel
theorem dX0_shy_35 : decode cX0_shy 35 = .ok (.putfield 85, 3) := by decide +kernel
theorem dX0_shy_38 : decode cX0_shy 38 = .ok (.iload_n 3, 1) := by decide +kernel
theorem dX0_shy_39 : decode cX0_shy 39 = .ok (.ireturn, 1) := by decide +kernel
theorem dX0_where_0 : decode cX0_where 0 = .ok (.aload_n 0, 1) := by decide +kernel
theorem dX0_where_1 : decode cX0_where 1 = .ok (.iload_n 1, 1) := by decide +kernel
theorem dX0_where_2 : decode cX0_where 2 = .ok (.invokevirtual 82, 3) := by decide +kernel
theorem dX0_where_5 : decode cX0_where 5 = .ok (.ifCond .ne 5, 3) := by decide +kernel
theorem dX0_where_8 : decode cX0_where 8 = .ok (.iconst (-1), 1) := by decide +kernel
theorem dX0_where_9 : decode cX0_where 9 = .ok (.ireturn, 1) := by decide +kernel
theorem dX0_where_10 : decode cX0_where 10 = .ok (.iload_n 2, 1) := by decide +kernel
theorem dX0_where_11 : decode cX0_where 11 = .ok (.iconst 0, 1) := by decide +kernel
theorem dX0_where_12 : decode cX0_where 12 = .ok (.aload_n 0, 1) := by decide +kernel
theorem dX0_where_13 : decode cX0_where 13 = .ok (.getfield 92, 3) := by decide +kernel
theorem dX0_where_16 : decode cX0_where 16 = .ok (.invokestatic 1, 3) := by decide +kernel
theorem dX0_where_19 : decode cX0_where 19 = .ok (.ifCond .eq 19, 3) := by decide +kernel
theorem dX0_where_22 : decode cX0_where 22 = .ok (.aload_n 0, 1) := by decide +kernel
theorem dX0_where_23 : decode cX0_where 23 = .ok (.getfield 24, 3) := by decide +kernel
theorem dX0_where_26 : decode cX0_where 26 = .ok (.iload_n 1, 1) := by decide +kernel
theorem dX0_where_27 : decode cX0_where 27 = .ok (.aaload, 1) := by decide +kernel
theorem dX0_where_28 : decode cX0_where 28 = .ok (.iload_n 2, 1) := by decide +kernel
theorem dX0_where_29 : decode cX0_where 29 = .ok (.invokevirtual 95, 3) := by decide +kernel
theorem dX0_where_32 : decode cX0_where 32 = .ok (.getfield 99, 3) := by decide +kernel
theorem dX0_where_35 : decode cX0_where 35 = .ok (.goto 5, 3) := by decide +kernel
theorem dX0_where_38 : decode cX0_where 38 = .ok (.bipush (-2), 2) := by decide +kernel
theorem dX0_where_40 : decode cX0_where 40 = .ok (.ireturn, 1) := by decide +kernel
theorem dX0_at_0 : decode cX0_at 0 = .ok (.aload_n 0, 1) := by decide +kernel
theorem dX0_at_1 : decode cX0_at 1 = .ok (.iload_n 1, 1) := by decide +kernel
theorem dX0_at_2 : decode cX0_at 2 = .ok (.invokevirtual 71, 3) := by decide +kernel
theorem dX0_at_5 : decode cX0_at 5 = .ok (.ifCond .ne 32, 3) := by decide +kernel
theorem dX0_at_8 : decode cX0_at 8 = .ok (.iload_n 1, 1) := by decide +kernel
theorem dX0_at_9 : decode cX0_at 9 = .ok (.bipush 10, 2) := by decide +kernel
theorem dX0_at_11 : decode cX0_at 11 = .ok (.bipush 10, 2) := by decide +kernel
theorem dX0_at_13 : decode cX0_at 13 = .ok (.aload_n 0, 1) := by decide +kernel
theorem dX0_at_14 : decode cX0_at 14 = .ok (.getfield 111, 3) := by decide +kernel
theorem dX0_at_17 : decode cX0_at 17 = .ok (.iadd, 1) := by decide +kernel
theorem dX0_at_18 : decode cX0_at 18 = .ok (.iconst 1, 1) := by decide +kernel
theorem dX0_at_19 : decode cX0_at 19 = .ok (.isub, 1) := by decide +kernel
theorem dX0_at_20 : decode cX0_at 20 = .ok (.invokestatic 1, 3) := by decide +kernel
theorem dX0_at_23 : decode cX0_at 23 = .ok (.ifCond .ne 14, 3) := by decide +kernel
theorem dX0_at_26 : decode cX0_at 26 = .ok (.iload_n 1, 1) := by decide +kernel
theorem dX0_at_27 : decode cX0_at 27 = .ok (.bipush 20, 2) := by decide +kernel
theorem dX0_at_29 : decode cX0_at 29 = .ok (.bipush 23, 2) := by decide +kernel
theorem dX0_at_31 : decode cX0_at 31 = .ok (.invokestatic 1, 3) := by decide +kernel
theorem dX0_at_34 : decode cX0_at 34 = .ok (.ifCond .eq 7, 3) := by decide +kernel
theorem dX0_at_37 : decode cX0_at 37 = .ok (.iconst 1, 1) := by decide +kernel
theorem dX0_at_38 : decode cX0_at 38 = .ok (.goto 4, 3) := by decide +kernel
theorem dX0_at_41 : decode cX0_at 41 = .ok (.iconst 0, 1) := by decide +kernel
theorem dX0_at_42 : decode cX0_at 42 = .ok (.istore_n 2, 1) := by decide +kernel
theorem dX0_at_43 : decode cX0_at 43 = .ok (.iload_n 2, 1) := by decide +kernel
theorem dX0_at_44 : decode cX0_at 44 = .ok (.ifCond .eq 12, 3) := by decide +kernel
theorem dX0_at_47 : decode cX0_at 47 = .ok (.aload_n 0, 1) := by decide +kernel
theorem dX0_at_48 : decode cX0_at 48 = .ok (.iload_n 1, 1) := by decide +kernel
theorem dX0_at_49 : decode cX0_at 49 = .ok (.iconst 0, 1) := by decide +kernel
theorem dX0_at_50 : decode cX0_at 50 = .ok (.invokevirtual 114, 3) := by decide +kernel
theorem dX0_at_53 : decode cX0_at 53 = .ok (.goto 5, 3) := by decide +kernel
theorem dX0_at_56 : decode cX0_at 56 = .ok (.bipush (-2), 2) := by decide +kernel
theorem dX0_at_58 : decode cX0_at 58 = .ok (.ireturn, 1) := by decide +kernel
theorem dX0_menAt_0 : decode cX0_menAt 0 = .ok (.iconst 0, 1) := by decide +kernel
theorem dX0_menAt_1 : decode cX0_menAt 1 = .ok (.istore_n 3, 1) := by decide +kernel
theorem dX0_menAt_2 : decode cX0_menAt 2 = .ok (.iconst 0, 1) := by decide +kernel
theorem dX0_menAt_3 : decode cX0_menAt 3 = .ok (.istore 4, 2) := by decide +kernel
theorem dX0_menAt_5 : decode cX0_menAt 5 = .ok (.iload 4, 2) := by decide +kernel
theorem dX0_menAt_7 : decode cX0_menAt 7 = .ok (.aload_n 0, 1) := by decide +kernel
theorem dX0_menAt_8 : decode cX0_menAt 8 = .ok (.getfield 68, 3) := by decide +kernel
theorem dX0_menAt_11 : decode cX0_menAt 11 = .ok (.if_icmp .ge 48, 3) := by decide +kernel
theorem dX0_menAt_14 : decode cX0_menAt 14 = .ok (.iload_n 3, 1) := by decide +kernel
theorem dX0_menAt_15 : decode cX0_menAt 15 = .ok (.aload_n 0, 1) := by decide +kernel
theorem dX0_menAt_16 : decode cX0_menAt 16 = .ok (.getfield 24, 3) := by decide +kernel
theorem dX0_menAt_19 : decode cX0_menAt 19 = .ok (.iload 4, 2) := by decide +kernel
theorem dX0_menAt_21 : decode cX0_menAt 21 = .ok (.aaload, 1) := by decide +kernel
theorem dX0_menAt_22 : decode cX0_menAt 22 = .ok (.invokevirtual 104, 3) := by decide +kernel
theorem dX0_menAt_25 : decode cX0_menAt 25 = .ok (.iload_n 1, 1) := by decide +kernel
theorem dX0_menAt_26 : decode cX0_menAt 26 = .ok (.if_icmp .ne 24, 3) := by decide +kernel
theorem dX0_menAt_29 : decode cX0_menAt 29 = .ok (.iload_n 2, 1) := by decide +kernel
theorem dX0_menAt_30 : decode cX0_menAt 30 = .ok (.ifCond .eq 16, 3) := by decide +kernel
theorem dX0_menAt_33 : decode cX0_menAt 33 = .ok (.aload_n 0, 1) := by decide +kernel
theorem dX0_menAt_34 : decode cX0_menAt 34 = .ok (.getfield 24, 3) := by decide +kernel
theorem dX0_menAt_37 : decode cX0_menAt 37 = .ok (.iload 4, 2) := by decide +kernel
theorem dX0_menAt_39 : decode cX0_menAt 39 = .ok (.aaload, 1) := by decide +kernel
theorem dX0_menAt_40 : decode cX0_menAt 40 = .ok (.invokevirtual 107, 3) := by decide +kernel
theorem dX0_menAt_43 : decode cX0_menAt 43 = .ok (.ifCond .eq 7, 3) := by decide +kernel
theorem dX0_menAt_46 : decode cX0_menAt 46 = .ok (.iconst 1, 1) := by decide +kernel
theorem dX0_menAt_47 : decode cX0_menAt 47 = .ok (.goto 4, 3) := by decide +kernel
theorem dX0_menAt_50 : decode cX0_menAt 50 = .ok (.iconst 0, 1) := by decide +kernel
theorem dX0_menAt_51 : decode cX0_menAt 51 = .ok (.iadd, 1) := by decide +kernel
theorem dX0_menAt_52 : decode cX0_menAt 52 = .ok (.istore_n 3, 1) := by decide +kernel
theorem dX0_menAt_53 : decode cX0_menAt 53 = .ok (.iinc 4 1, 3) := by decide +kernel
theorem dX0_menAt_56 : decode cX0_menAt 56 = .ok (.goto (-51), 3) := by decide +kernel
theorem dX0_menAt_59 : decode cX0_menAt 59 = .ok (.iload_n 3, 1) := by decide +kernel
theorem dX0_menAt_60 : decode cX0_menAt 60 = .ok (.ireturn, 1) := by decide +kernel
theorem dX0_tide_0 : decode cX0_tide 0 = .ok (.aload_n 0, 1) := by decide +kernel
theorem dX0_tide_1 : decode cX0_tide 1 = .ok (.getfield 92, 3) := by decide +kernel
theorem dX0_tide_4 : decode cX0_tide 4 = .ok (.ireturn, 1) := by decide +kernel
theorem dX0_pass_0 : decode cX0_pass 0 = .ok (.iload_n 1, 1) := by decide +kernel
theorem dX0_pass_1 : decode cX0_pass 1 = .ok (.iconst 1, 1) := by decide +kernel
theorem dX0_pass_2 : decode cX0_pass 2 = .ok (.bipush 60, 2) := by decide +kernel
theorem dX0_pass_4 : decode cX0_pass 4 = .ok (.invokestatic 1, 3) := by decide +kernel
theorem dX0_pass_7 : decode cX0_pass 7 = .ok (.ifCond .ne 6, 3) := by decide +kernel
theorem dX0_pass_10 : decode cX0_pass 10 = .ok (.bipush (-2), 2) := by decide +kernel
theorem dX0_pass_12 : decode cX0_pass 12 = .ok (.ireturn, 1) := by decide +kernel
theorem dX0_pass_13 : decode cX0_pass 13 = .ok (.aload_n 0, 1) := by decide +kernel
theorem dX0_pass_14 : decode cX0_pass 14 = .ok (.getfield 92, 3) := by decide +kernel
theorem dX0_pass_17 : decode cX0_pass 17 = .ok (.iload_n 1, 1) := by decide +kernel
theorem dX0_pass_18 : decode cX0_pass 18 = .ok (.iadd, 1) := by decide +kernel
theorem dX0_pass_19 : decode cX0_pass 19 = .ok (.sipush 899, 3) := by decide +kernel
theorem dX0_pass_22 : decode cX0_pass 22 = .ok (.if_icmp .le 6, 3) := by decide +kernel
theorem dX0_pass_25 : decode cX0_pass 25 = .ok (.bipush (-4), 2) := by decide +kernel
theorem dX0_pass_27 : decode cX0_pass 27 = .ok (.ireturn, 1) := by decide +kernel
theorem dX0_pass_28 : decode cX0_pass 28 = .ok (.iconst 0, 1) := by decide +kernel
theorem dX0_pass_29 : decode cX0_pass 29 = .ok (.istore_n 2, 1) := by decide +kernel
theorem dX0_pass_30 : decode cX0_pass 30 = .ok (.iload_n 2, 1) := by decide +kernel
theorem dX0_pass_31 : decode cX0_pass 31 = .ok (.iload_n 1, 1) := by decide +kernel
theorem dX0_pass_32 : decode cX0_pass 32 = .ok (.if_icmp .ge 13, 3) := by decide +kernel
theorem dX0_pass_35 : decode cX0_pass 35 = .ok (.aload_n 0, 1) := by decide +kernel
theorem dX0_pass_36 : decode cX0_pass 36 = .ok (.invokevirtual 139, 3) := by decide +kernel
theorem dX0_pass_39 : decode cX0_pass 39 = .ok (.iinc 2 1, 3) := by decide +kernel
theorem dX0_pass_42 : decode cX0_pass 42 = .ok (.goto (-12), 3) := by decide +kernel
theorem dX0_pass_45 : decode cX0_pass 45 = .ok (.aload_n 0, 1) := by decide +kernel
theorem dX0_pass_46 : decode cX0_pass 46 = .ok (.getfield 92, 3) := by decide +kernel
theorem dX0_pass_49 : decode cX0_pass 49 = .ok (.ireturn, 1) := by decide +kernel
theorem dX0_goTide_0 : decode cX0_goTide 0 = .ok (.aload_n 0, 1) := by decide +kernel
theorem dX0_goTide_1 : decode cX0_goTide 1 = .ok (.dup, 1) := by decide +kernel
theorem dX0_goTide_2 : decode cX0_goTide 2 = .ok (.getfield 92, 3) := by decide +kernel
theorem dX0_goTide_5 : decode cX0_goTide 5 = .ok (.iconst 1, 1) := by decide +kernel
theorem dX0_goTide_6 : decode cX0_goTide 6 = .ok (.iadd, 1) := by decide +kernel
theorem dX0_goTide_7 : decode cX0_goTide 7 = .ok (.putfield 92, 3) := by decide +kernel
theorem dX0_goTide_10 : decode cX0_goTide 10 = .ok (.iconst 0, 1) := by decide +kernel
theorem dX0_goTide_11 : decode cX0_goTide 11 = .ok (.istore_n 1, 1) := by decide +kernel
theorem dX0_goTide_12 : decode cX0_goTide 12 = .ok (.iload_n 1, 1) := by decide +kernel
theorem dX0_goTide_13 : decode cX0_goTide 13 = .ok (.aload_n 0, 1) := by decide +kernel
theorem dX0_goTide_14 : decode cX0_goTide 14 = .ok (.getfield 68, 3) := by decide +kernel
theorem dX0_goTide_17 : decode cX0_goTide 17 = .ok (.if_icmp .ge 53, 3) := by decide +kernel
theorem dX0_goTide_20 : decode cX0_goTide 20 = .ok (.aload_n 0, 1) := by decide +kernel
theorem dX0_goTide_21 : decode cX0_goTide 21 = .ok (.getfield 24, 3) := by decide +kernel
theorem dX0_goTide_24 : decode cX0_goTide 24 = .ok (.iload_n 1, 1) := by decide +kernel
theorem dX0_goTide_25 : decode cX0_goTide 25 = .ok (.aaload, 1) := by decide +kernel
theorem dX0_goTide_26 : decode cX0_goTide 26 = .ok (.astore_n 2, 1) := by decide +kernel
theorem dX0_goTide_27 : decode cX0_goTide 27 = .ok (.aload_n 2, 1) := by decide +kernel
theorem dX0_goTide_28 : decode cX0_goTide 28 = .ok (.getfield 85, 3) := by decide +kernel
theorem dX0_goTide_31 : decode cX0_goTide 31 = .ok (.ifCond .eq 33, 3) := by decide +kernel
theorem dX0_goTide_34 : decode cX0_goTide 34 = .ok (.aload_n 2, 1) := by decide +kernel
theorem dX0_goTide_35 : decode cX0_goTide 35 = .ok (.invokevirtual 104, 3) := by decide +kernel
theorem dX0_goTide_38 : decode cX0_goTide 38 = .ok (.bipush 10, 2) := by decide +kernel
theorem dX0_goTide_40 : decode cX0_goTide 40 = .ok (.if_icmp .ge 24, 3) := by decide +kernel
theorem dX0_goTide_43 : decode cX0_goTide 43 = .ok (.aload_n 0, 1) := by decide +kernel
theorem dX0_goTide_44 : decode cX0_goTide 44 = .ok (.aload_n 2, 1) := by decide +kernel
theorem dX0_goTide_45 : decode cX0_goTide 45 = .ok (.invokevirtual 104, 3) := by decide +kernel
theorem dX0_goTide_48 : decode cX0_goTide 48 = .ok (.invokevirtual 118, 3) := by decide +kernel
theorem dX0_goTide_51 : decode cX0_goTide 51 = .ok (.ifCond .eq 13, 3) := by decide +kernel
theorem dX0_goTide_54 : decode cX0_goTide 54 = .ok (.aload_n 2, 1) := by decide +kernel
theorem dX0_goTide_55 : decode cX0_goTide 55 = .ok (.aload_n 0, 1) := by decide +kernel
theorem dX0_goTide_56 : decode cX0_goTide 56 = .ok (.getfield 92, 3) := by decide +kernel
theorem dX0_goTide_59 : decode cX0_goTide 59 = .ok (.bipush 22, 2) := by decide +kernel
theorem dX0_goTide_61 : decode cX0_goTide 61 = .ok (.invokevirtual 121, 3) := by decide +kernel
theorem dX0_goTide_64 : decode cX0_goTide 64 = .ok (.iinc 1 1, 3) := by decide +kernel
theorem dX0_goTide_67 : decode cX0_goTide 67 = .ok (.goto (-55), 3) := by decide +kernel
theorem dX0_goTide_70 : decode cX0_goTide 70 = .ok (.iconst 0, 1) := by decide +kernel
theorem dX0_goTide_71 : decode cX0_goTide 71 = .ok (.aload_n 0, 1) := by decide +kernel
theorem dX0_goTide_72 : decode cX0_goTide 72 = .ok (.bipush 20, 2) := by decide +kernel
theorem dX0_goTide_74 : decode cX0_goTide 74 = .ok (.iconst 0, 1) := by decide +kernel
theorem dX0_goTide_75 : decode cX0_goTide 75 = .ok (.invokevirtual 114, 3) := by decide +kernel
theorem dX0_goTide_78 : decode cX0_goTide 78 = .ok (.aload_n 0, 1) := by decide +kernel
theorem dX0_goTide_79 : decode cX0_goTide 79 = .ok (.getfield 28, 3) := by decide +kernel
theorem dX0_goTide_82 : decode cX0_goTide 82 = .ok (.isub, 1) := by decide +kernel
theorem dX0_goTide_83 : decode cX0_goTide 83 = .ok (.invokestatic 125, 3) := by decide +kernel
theorem dX0_goTide_86 : decode cX0_goTide 86 = .ok (.aload_n 0, 1) := by decide +kernel
theorem dX0_goTide_87 : decode cX0_goTide 87 = .ok (.getfield 31, 3) := by decide +kernel
theorem dX0_goTide_90 : decode cX0_goTide 90 = .ok (.imul, 1) := by decide +kernel
theorem dX0_goTide_91 : decode cX0_goTide 91 = .ok (.bipush 100, 2) := by decide +kernel
theorem dX0_goTide_93 : decode cX0_goTide 93 = .ok (.idiv, 1) := by decide +kernel
theorem dX0_goTide_94 : decode cX0_goTide 94 = .ok (.istore_n 1, 1) := by decide +kernel
theorem dX0_goTide_95 : decode cX0_goTide 95 = .ok (.iconst 0, 1) := by decide +kernel
theorem dX0_goTide_96 : decode cX0_goTide 96 = .ok (.istore_n 2, 1) := by decide +kernel
theorem dX0_goTide_97 : decode cX0_goTide 97 = .ok (.iload_n 2, 1) := by decide +kernel
theorem dX0_goTide_98 : decode cX0_goTide 98 = .ok (.aload_n 0, 1) := by decide +kernel
theorem dX0_goTide_99 : decode cX0_goTide 99 = .ok (.getfield 68, 3) := by decide +kernel
theorem dX0_goTide_102 : decode cX0_goTide 102 = .ok (.if_icmp .ge 45, 3) := by decide +kernel
theorem dX0_goTide_105 : decode cX0_goTide 105 = .ok (.iload_n 1, 1) := by decide +kernel
theorem dX0_goTide_106 : decode cX0_goTide 106 = .ok (.ifCond .le 41, 3) := by decide +kernel
theorem dX0_goTide_109 : decode cX0_goTide 109 = .ok (.aload_n 0, 1) := by decide +kernel
theorem dX0_goTide_110 : decode cX0_goTide 110 = .ok (.getfield 24, 3) := by decide +kernel
theorem dX0_goTide_113 : decode cX0_goTide 113 = .ok (.iload_n 2, 1) := by decide +kernel
theorem dX0_goTide_114 : decode cX0_goTide 114 = .ok (.aaload, 1) := by decide +kernel
theorem dX0_goTide_115 : decode cX0_goTide 115 = .ok (.invokevirtual 104, 3) := by decide +kernel
theorem dX0_goTide_118 : decode cX0_goTide 118 = .ok (.bipush 20, 2) := by decide +kernel
theorem dX0_goTide_120 : decode cX0_goTide 120 = .ok (.if_icmp .ne 21, 3) := by decide +kernel
theorem dX0_goTide_123 : decode cX0_goTide 123 = .ok (.aload_n 0, 1) := by decide +kernel
theorem dX0_goTide_124 : decode cX0_goTide 124 = .ok (.getfield 24, 3) := by decide +kernel
theorem dX0_goTide_127 : decode cX0_goTide 127 = .ok (.iload_n 2, 1) := by decide +kernel
theorem dX0_goTide_128 : decode cX0_goTide 128 = .ok (.aaload, 1) := by decide +kernel
theorem dX0_goTide_129 : decode cX0_goTide 129 = .ok (.aload_n 0, 1) := by decide +kernel
theorem dX0_goTide_130 : decode cX0_goTide 130 = .ok (.getfield 92, 3) := by decide +kernel
theorem dX0_goTide_133 : decode cX0_goTide 133 = .ok (.bipush 21, 2) := by decide +kernel
theorem dX0_goTide_135 : decode cX0_goTide 135 = .ok (.invokevirtual 121, 3) := by decide +kernel
theorem dX0_goTide_138 : decode cX0_goTide 138 = .ok (.iinc 1 (-1), 3) := by decide +kernel
theorem dX0_goTide_141 : decode cX0_goTide 141 = .ok (.iinc 2 1, 3) := by decide +kernel
theorem dX0_goTide_144 : decode cX0_goTide 144 = .ok (.goto (-47), 3) := by decide +kernel
theorem dX0_goTide_147 : decode cX0_goTide 147 = .ok (.iconst 0, 1) := by decide +kernel
theorem dX0_goTide_148 : decode cX0_goTide 148 = .ok (.istore_n 2, 1) := by decide +kernel
theorem dX0_goTide_149 : decode cX0_goTide 149 = .ok (.iload_n 2, 1) := by decide +kernel
theorem dX0_goTide_150 : decode cX0_goTide 150 = .ok (.aload_n 0, 1) := by decide +kernel
theorem dX0_goTide_151 : decode cX0_goTide 151 = .ok (.getfield 68, 3) := by decide +kernel
theorem dX0_goTide_154 : decode cX0_goTide 154 = .ok (.if_icmp .ge 64, 3) := by decide +kernel
theorem dX0_goTide_157 : decode cX0_goTide 157 = .ok (.aload_n 0, 1) := by decide +kernel
theorem dX0_goTide_158 : decode cX0_goTide 158 = .ok (.getfield 24, 3) := by decide +kernel
theorem dX0_goTide_161 : decode cX0_goTide 161 = .ok (.iload_n 2, 1) := by decide +kernel
theorem dX0_goTide_162 : decode cX0_goTide 162 = .ok (.aaload, 1) := by decide +kernel
theorem dX0_goTide_163 : decode cX0_goTide 163 = .ok (.getfield 131, 3) := by decide +kernel
theorem dX0_goTide_166 : decode cX0_goTide 166 = .ok (.astore_n 3, 1) := by decide +kernel
theorem dX0_goTide_167 : decode cX0_goTide 167 = .ok (.aload_n 3, 1) := by decide +kernel
theorem dX0_goTide_168 : decode cX0_goTide 168 = .ok (.getfield 99, 3) := by decide +kernel
theorem dX0_goTide_171 : decode cX0_goTide 171 = .ok (.bipush 21, 2) := by decide +kernel
theorem dX0_goTide_173 : decode cX0_goTide 173 = .ok (.if_icmp .ne 39, 3) := by decide +kernel
theorem dX0_goTide_176 : decode cX0_goTide 176 = .ok (.aload_n 3, 1) := by decide +kernel
theorem dX0_goTide_177 : decode cX0_goTide 177 = .ok (.getfield 135, 3) := by decide +kernel
theorem dX0_goTide_180 : decode cX0_goTide 180 = .ok (.aload_n 0, 1) := by decide +kernel
theorem dX0_goTide_181 : decode cX0_goTide 181 = .ok (.getfield 92, 3) := by decide +kernel
theorem dX0_goTide_184 : decode cX0_goTide 184 = .ok (.bipush 10, 2) := by decide +kernel
theorem dX0_goTide_186 : decode cX0_goTide 186 = .ok (.isub, 1) := by decide +kernel
theorem dX0_goTide_187 : decode cX0_goTide 187 = .ok (.if_icmp .ne 25, 3) := by decide +kernel
theorem dX0_goTide_190 : decode cX0_goTide 190 = .ok (.aload_n 0, 1) := by decide +kernel
theorem dX0_goTide_191 : decode cX0_goTide 191 = .ok (.getfield 24, 3) := by decide +kernel
theorem dX0_goTide_194 : decode cX0_goTide 194 = .ok (.iload_n 2, 1) := by decide +kernel
theorem dX0_goTide_195 : decode cX0_goTide 195 = .ok (.aaload, 1) := by decide +kernel
theorem dX0_goTide_196 : decode cX0_goTide 196 = .ok (.aload_n 0, 1) := by decide +kernel
theorem dX0_goTide_197 : decode cX0_goTide 197 = .ok (.getfield 92, 3) := by decide +kernel
theorem dX0_goTide_200 : decode cX0_goTide 200 = .ok (.aload_n 0, 1) := by decide +kernel
theorem dX0_goTide_201 : decode cX0_goTide 201 = .ok (.getfield 24, 3) := by decide +kernel
theorem dX0_goTide_204 : decode cX0_goTide 204 = .ok (.iload_n 2, 1) := by decide +kernel
theorem dX0_goTide_205 : decode cX0_goTide 205 = .ok (.aaload, 1) := by decide +kernel
theorem dX0_goTide_206 : decode cX0_goTide 206 = .ok (.invokevirtual 136, 3) := by decide +kernel
theorem dX0_goTide_209 : decode cX0_goTide 209 = .ok (.invokevirtual 121, 3) := by decide +kernel
theorem dX0_goTide_212 : decode cX0_goTide 212 = .ok (.iinc 2 1, 3) := by decide +kernel
theorem dX0_goTide_215 : decode cX0_goTide 215 = .ok (.goto (-66), 3) := by decide +kernel
theorem dX0_goTide_218 : decode cX0_goTide 218 = .ok (.return_, 1) := by decide +kernel
theorem dX0_hasHeard_0 : decode cX0_hasHeard 0 = .ok (.aload_n 0, 1) := by decide +kernel
theorem dX0_hasHeard_1 : decode cX0_hasHeard 1 = .ok (.iload_n 1, 1) := by decide +kernel
theorem dX0_hasHeard_2 : decode cX0_hasHeard 2 = .ok (.invokevirtual 270, 3) := by decide +kernel
theorem dX0_hasHeard_5 : decode cX0_hasHeard 5 = .ok (.istore_n 2, 1) := by decide +kernel
theorem dX0_hasHeard_6 : decode cX0_hasHeard 6 = .ok (.iload_n 2, 1) := by decide +kernel
theorem dX0_hasHeard_7 : decode cX0_hasHeard 7 = .ok (.bipush (-9), 2) := by decide +kernel
theorem dX0_hasHeard_9 : decode cX0_hasHeard 9 = .ok (.if_icmp .eq 15, 3) := by decide +kernel
theorem dX0_hasHeard_12 : decode cX0_hasHeard 12 = .ok (.iload_n 2, 1) := by decide +kernel
theorem dX0_hasHeard_13 : decode cX0_hasHeard 13 = .ok (.aload_n 0, 1) := by decide +kernel
theorem dX0_hasHeard_14 : decode cX0_hasHeard 14 = .ok (.getfield 92, 3) := by decide +kernel
theorem dX0_hasHeard_17 : decode cX0_hasHeard 17 = .ok (.if_icmp .gt 7, 3) := by decide +kernel
theorem dX0_hasHeard_20 : decode cX0_hasHeard 20 = .ok (.iconst 1, 1) := by decide +kernel
theorem dX0_hasHeard_21 : decode cX0_hasHeard 21 = .ok (.goto 4, 3) := by decide +kernel
theorem dX0_hasHeard_24 : decode cX0_hasHeard 24 = .ok (.iconst 0, 1) := by decide +kernel
theorem dX0_hasHeard_25 : decode cX0_hasHeard 25 = .ok (.ireturn, 1) := by decide +kernel
theorem dX0_heardBy_0 : decode cX0_heardBy 0 = .ok (.bipush (-9), 2) := by decide +kernel
theorem dX0_heardBy_2 : decode cX0_heardBy 2 = .ok (.istore_n 2, 1) := by decide +kernel
theorem dX0_heardBy_3 : decode cX0_heardBy 3 = .ok (.aload_n 0, 1) := by decide +kernel
theorem dX0_heardBy_4 : decode cX0_heardBy 4 = .ok (.iload_n 1, 1) := by decide +kernel
theorem dX0_heardBy_5 : decode cX0_heardBy 5 = .ok (.invokevirtual 75, 3) := by decide +kernel
theorem dX0_heardBy_8 : decode cX0_heardBy 8 = .ok (.astore_n 3, 1) := by decide +kernel
theorem dX0_heardBy_9 : decode cX0_heardBy 9 = .ok (.aload_n 0, 1) := by decide +kernel
theorem dX0_heardBy_10 : decode cX0_heardBy 10 = .ok (.getfield 261, 3) := by decide +kernel
theorem dX0_heardBy_13 : decode cX0_heardBy 13 = .ok (.istore 4, 2) := by decide +kernel
theorem dX0_heardBy_15 : decode cX0_heardBy 15 = .ok (.iload 4, 2) := by decide +kernel
theorem dX0_heardBy_17 : decode cX0_heardBy 17 = .ok (.aload_n 0, 1) := by decide +kernel
theorem dX0_heardBy_18 : decode cX0_heardBy 18 = .ok (.getfield 170, 3) := by decide +kernel
theorem dX0_heardBy_21 : decode cX0_heardBy 21 = .ok (.if_icmp .ge 71, 3) := by decide +kernel
theorem dX0_heardBy_24 : decode cX0_heardBy 24 = .ok (.aload_n 0, 1) := by decide +kernel
theorem dX0_heardBy_25 : decode cX0_heardBy 25 = .ok (.getfield 48, 3) := by decide +kernel
theorem dX0_heardBy_28 : decode cX0_heardBy 28 = .ok (.iload 4, 2) := by decide +kernel
theorem dX0_heardBy_30 : decode cX0_heardBy 30 = .ok (.aaload, 1) := by decide +kernel
theorem dX0_heardBy_31 : decode cX0_heardBy 31 = .ok (.astore 5, 2) := by decide +kernel
theorem dX0_heardBy_33 : decode cX0_heardBy 33 = .ok (.aload 5, 2) := by decide +kernel
theorem dX0_heardBy_35 : decode cX0_heardBy 35 = .ok (.invokevirtual 264, 3) := by decide +kernel
theorem dX0_heardBy_38 : decode cX0_heardBy 38 = .ok (.ifCond .eq 48, 3) := by decide +kernel
theorem dX0_heardBy_41 : decode cX0_heardBy 41 = .ok (.aload_n 3, 1) := by decide +kernel
theorem dX0_heardBy_42 : decode cX0_heardBy 42 = .ok (.aload 5, 2) := by decide +kernel
theorem dX0_heardBy_44 : decode cX0_heardBy 44 = .ok (.getfield 251, 3) := by decide +kernel
theorem dX0_heardBy_47 : decode cX0_heardBy 47 = .ok (.iaload, 1) := by decide +kernel
theorem dX0_heardBy_48 : decode cX0_heardBy 48 = .ok (.bipush (-9), 2) := by decide +kernel
theorem dX0_heardBy_50 : decode cX0_heardBy 50 = .ok (.if_icmp .eq 36, 3) := by decide +kernel
theorem dX0_heardBy_53 : decode cX0_heardBy 53 = .ok (.aload 5, 2) := by decide +kernel
theorem dX0_heardBy_55 : decode cX0_heardBy 55 = .ok (.getfield 176, 3) := by decide +kernel
theorem dX0_heardBy_58 : decode cX0_heardBy 58 = .ok (.aload_n 3, 1) := by decide +kernel
theorem dX0_heardBy_59 : decode cX0_heardBy 59 = .ok (.aload 5, 2) := by decide +kernel
theorem dX0_heardBy_61 : decode cX0_heardBy 61 = .ok (.getfield 251, 3) := by decide +kernel
theorem dX0_heardBy_64 : decode cX0_heardBy 64 = .ok (.iaload, 1) := by decide +kernel
theorem dX0_heardBy_65 : decode cX0_heardBy 65 = .ok (.iadd, 1) := by decide +kernel
theorem dX0_heardBy_66 : decode cX0_heardBy 66 = .ok (.istore 6, 2) := by decide +kernel
theorem dX0_heardBy_68 : decode cX0_heardBy 68 = .ok (.iload_n 2, 1) := by decide +kernel
theorem dX0_heardBy_69 : decode cX0_heardBy 69 = .ok (.bipush (-9), 2) := by decide +kernel
theorem dX0_heardBy_71 : decode cX0_heardBy 71 = .ok (.if_icmp .ne 8, 3) := by decide +kernel
theorem dX0_heardBy_74 : decode cX0_heardBy 74 = .ok (.iload 6, 2) := by decide +kernel
theorem dX0_heardBy_76 : decode cX0_heardBy 76 = .ok (.goto 9, 3) := by decide +kernel
theorem dX0_heardBy_79 : decode cX0_heardBy 79 = .ok (.iload_n 2, 1) := by decide +kernel
theorem dX0_heardBy_80 : decode cX0_heardBy 80 = .ok (.iload 6, 2) := by decide +kernel
theorem dX0_heardBy_82 : decode cX0_heardBy 82 = .ok (.invokestatic 267, 3) := by decide +kernel
theorem dX0_heardBy_85 : decode cX0_heardBy 85 = .ok (.istore_n 2, 1) := by decide +kernel
theorem dX0_heardBy_86 : decode cX0_heardBy 86 = .ok (.iinc 4 1, 3) := by decide +kernel
theorem dX0_heardBy_89 : decode cX0_heardBy 89 = .ok (.goto (-74), 3) := by decide +kernel
theorem dX0_heardBy_92 : decode cX0_heardBy 92 = .ok (.iload_n 2, 1) := by decide +kernel
theorem dX0_heardBy_93 : decode cX0_heardBy 93 = .ok (.ireturn, 1) := by decide +kernel
theorem dX0_walk_0 : decode cX0_walk 0 = .ok (.aload_n 0, 1) := by decide +kernel
theorem dX0_walk_1 : decode cX0_walk 1 = .ok (.iload_n 1, 1) := by decide +kernel
theorem dX0_walk_2 : decode cX0_walk 2 = .ok (.invokevirtual 82, 3) := by decide +kernel
theorem dX0_walk_5 : decode cX0_walk 5 = .ok (.ifCond .eq 11, 3) := by decide +kernel
theorem dX0_walk_8 : decode cX0_walk 8 = .ok (.aload_n 0, 1) := by decide +kernel
theorem dX0_walk_9 : decode cX0_walk 9 = .ok (.iload_n 2, 1) := by decide +kernel
theorem dX0_walk_10 : decode cX0_walk 10 = .ok (.invokevirtual 71, 3) := by decide +kernel
theorem dX0_walk_13 : decode cX0_walk 13 = .ok (.ifCond .ne 5, 3) := by decide +kernel
theorem dX0_walk_16 : decode cX0_walk 16 = .ok (.iconst (-1), 1) := by decide +kernel
theorem dX0_walk_17 : decode cX0_walk 17 = .ok (.ireturn, 1) := by decide +kernel
theorem dX0_walk_18 : decode cX0_walk 18 = .ok (.aload_n 0, 1) := by decide +kernel
theorem dX0_walk_19 : decode cX0_walk 19 = .ok (.getfield 24, 3) := by decide +kernel
theorem dX0_walk_22 : decode cX0_walk 22 = .ok (.iload_n 1, 1) := by decide +kernel
theorem dX0_walk_23 : decode cX0_walk 23 = .ok (.aaload, 1) := by decide +kernel
theorem dX0_walk_24 : decode cX0_walk 24 = .ok (.getfield 131, 3) := by decide +kernel
theorem dX0_walk_27 : decode cX0_walk 27 = .ok (.invokevirtual 142, 3) := by decide +kernel
theorem dX0_walk_30 : decode cX0_walk 30 = .ok (.ifCond .eq 17, 3) := by decide +kernel
theorem dX0_walk_33 : decode cX0_walk 33 = .ok (.aload_n 0, 1) := by decide +kernel
theorem dX0_walk_34 : decode cX0_walk 34 = .ok (.aload_n 0, 1) := by decide +kernel
theorem dX0_walk_35 : decode cX0_walk 35 = .ok (.getfield 24, 3) := by decide +kernel
theorem dX0_walk_38 : decode cX0_walk 38 = .ok (.iload_n 1, 1) := by decide +kernel
theorem dX0_walk_39 : decode cX0_walk 39 = .ok (.aaload, 1) := by decide +kernel
theorem dX0_walk_40 : decode cX0_walk 40 = .ok (.iload_n 2, 1) := by decide +kernel
theorem dX0_walk_41 : decode cX0_walk 41 = .ok (.invokevirtual 145, 3) := by decide +kernel
theorem dX0_walk_44 : decode cX0_walk 44 = .ok (.goto 5, 3) := by decide +kernel
theorem dX0_walk_47 : decode cX0_walk 47 = .ok (.bipush (-3), 2) := by decide +kernel
theorem dX0_walk_49 : decode cX0_walk 49 = .ok (.ireturn, 1) := by decide +kernel
theorem dX0_send_0 : decode cX0_send 0 = .ok (.aload_n 1, 1) := by decide +kernel
theorem dX0_send_1 : decode cX0_send 1 = .ok (.invokevirtual 104, 3) := by decide +kernel
theorem dX0_send_4 : decode cX0_send 4 = .ok (.istore_n 3, 1) := by decide +kernel
theorem dX0_send_5 : decode cX0_send 5 = .ok (.aload_n 1, 1) := by decide +kernel
theorem dX0_send_6 : decode cX0_send 6 = .ok (.aload_n 0, 1) := by decide +kernel
theorem dX0_send_7 : decode cX0_send 7 = .ok (.getfield 92, 3) := by decide +kernel
theorem dX0_send_10 : decode cX0_send 10 = .ok (.iload_n 2, 1) := by decide +kernel
theorem dX0_send_11 : decode cX0_send 11 = .ok (.invokevirtual 121, 3) := by decide +kernel
theorem dX0_send_14 : decode cX0_send 14 = .ok (.iload_n 3, 1) := by decide +kernel
theorem dX0_send_15 : decode cX0_send 15 = .ok (.ireturn, 1) := by decide +kernel
theorem dX0_run_0 : decode cX0_run 0 = .ok (.aload_n 0, 1) := by decide +kernel
theorem dX0_run_1 : decode cX0_run 1 = .ok (.iload_n 1, 1) := by decide +kernel
theorem dX0_run_2 : decode cX0_run 2 = .ok (.invokevirtual 82, 3) := by decide +kernel
theorem dX0_run_5 : decode cX0_run 5 = .ok (.ifCond .ne 5, 3) := by decide +kernel
theorem dX0_run_8 : decode cX0_run 8 = .ok (.iconst (-1), 1) := by decide +kernel
theorem dX0_run_9 : decode cX0_run 9 = .ok (.ireturn, 1) := by decide +kernel
theorem dX0_run_10 : decode cX0_run 10 = .ok (.aload_n 0, 1) := by decide +kernel
theorem dX0_run_11 : decode cX0_run 11 = .ok (.getfield 24, 3) := by decide +kernel
theorem dX0_run_14 : decode cX0_run 14 = .ok (.iload_n 1, 1) := by decide +kernel
theorem dX0_run_15 : decode cX0_run 15 = .ok (.aaload, 1) := by decide +kernel
theorem dX0_run_16 : decode cX0_run 16 = .ok (.invokevirtual 104, 3) := by decide +kernel
theorem dX0_run_19 : decode cX0_run 19 = .ok (.bipush 23, 2) := by decide +kernel
theorem dX0_run_21 : decode cX0_run 21 = .ok (.if_icmp .ne 8, 3) := by decide +kernel
theorem dX0_run_24 : decode cX0_run 24 = .ok (.bipush (-3), 2) := by decide +kernel
theorem dX0_run_26 : decode cX0_run 26 = .ok (.goto 15, 3) := by decide +kernel
theorem dX0_run_29 : decode cX0_run 29 = .ok (.aload_n 0, 1) := by decide +kernel
theorem dX0_run_30 : decode cX0_run 30 = .ok (.aload_n 0, 1) := by decide +kernel
theorem dX0_run_31 : decode cX0_run 31 = .ok (.getfield 24, 3) := by decide +kernel
theorem dX0_run_34 : decode cX0_run 34 = .ok (.iload_n 1, 1) := by decide +kernel
theorem dX0_run_35 : decode cX0_run 35 = .ok (.aaload, 1) := by decide +kernel
theorem dX0_run_36 : decode cX0_run 36 = .ok (.bipush 23, 2) := by decide +kernel
theorem dX0_run_38 : decode cX0_run 38 = .ok (.invokevirtual 145, 3) := by decide +kernel
theorem dX0_run_41 : decode cX0_run 41 = .ok (.ireturn, 1) := by decide +kernel
theorem dX0_paper_0 : decode cX0_paper 0 = .ok (.aload_n 0, 1) := by decide +kernel
theorem dX0_paper_1 : decode cX0_paper 1 = .ok (.iload_n 1, 1) := by decide +kernel
theorem dX0_paper_2 : decode cX0_paper 2 = .ok (.invokevirtual 82, 3) := by decide +kernel
theorem dX0_paper_5 : decode cX0_paper 5 = .ok (.ifCond .ne 5, 3) := by decide +kernel
theorem dX0_paper_8 : decode cX0_paper 8 = .ok (.iconst (-1), 1) := by decide +kernel
theorem dX0_paper_9 : decode cX0_paper 9 = .ok (.ireturn, 1) := by decide +kernel
theorem dX0_paper_10 : decode cX0_paper 10 = .ok (.iload_n 2, 1) := by decide +kernel
theorem dX0_paper_11 : decode cX0_paper 11 = .ok (.invokestatic 152, 3) := by decide +kernel
theorem dX0_paper_14 : decode cX0_paper 14 = .ok (.ifCond .eq 47, 3) := by decide +kernel
theorem dX0_paper_17 : decode cX0_paper 17 = .ok (.iload_n 3, 1) := by decide +kernel
theorem dX0_paper_18 : decode cX0_paper 18 = .ok (.invokestatic 152, 3) := by decide +kernel
theorem dX0_paper_21 : decode cX0_paper 21 = .ok (.ifCond .eq 40, 3) := by decide +kernel
theorem dX0_paper_24 : decode cX0_paper 24 = .ok (.iload 4, 2) := by decide +kernel
theorem dX0_paper_26 : decode cX0_paper 26 = .ok (.iload 5, 2) := by decide +kernel
theorem dX0_paper_28 : decode cX0_paper 28 = .ok (.bipush 99, 2) := by decide +kernel
theorem dX0_paper_30 : decode cX0_paper 30 = .ok (.invokestatic 155, 3) := by decide +kernel
theorem dX0_paper_33 : decode cX0_paper 33 = .ok (.ifCond .eq 28, 3) := by decide +kernel
theorem dX0_paper_36 : decode cX0_paper 36 = .ok (.iload 6, 2) := by decide +kernel
theorem dX0_paper_38 : decode cX0_paper 38 = .ok (.iload 7, 2) := by decide +kernel
theorem dX0_paper_40 : decode cX0_paper 40 = .ok (.bipush 99, 2) := by decide +kernel
theorem dX0_paper_42 : decode cX0_paper 42 = .ok (.invokestatic 155, 3) := by decide +kernel
theorem dX0_paper_45 : decode cX0_paper 45 = .ok (.ifCond .eq 16, 3) := by decide +kernel
theorem dX0_paper_48 : decode cX0_paper 48 = .ok (.iload 8, 2) := by decide +kernel
theorem dX0_paper_50 : decode cX0_paper 50 = .ok (.iload 9, 2) := by decide +kernel
theorem dX0_paper_52 : decode cX0_paper 52 = .ok (.sipush 899, 3) := by decide +kernel
theorem dX0_paper_55 : decode cX0_paper 55 = .ok (.invokestatic 155, 3) := by decide +kernel
theorem dX0_paper_58 : decode cX0_paper 58 = .ok (.ifCond .ne 6, 3) := by decide +kernel
theorem dX0_paper_61 : decode cX0_paper 61 = .ok (.bipush (-2), 2) := by decide +kernel
theorem dX0_paper_63 : decode cX0_paper 63 = .ok (.ireturn, 1) := by decide +kernel
theorem dX0_paper_64 : decode cX0_paper 64 = .ok (.aload_n 0, 1) := by decide +kernel
theorem dX0_paper_65 : decode cX0_paper 65 = .ok (.getfield 149, 3) := by decide +kernel
theorem dX0_paper_68 : decode cX0_paper 68 = .ok (.bipush 60, 2) := by decide +kernel
theorem dX0_paper_70 : decode cX0_paper 70 = .ok (.if_icmp .ne 6, 3) := by decide +kernel
theorem dX0_paper_73 : decode cX0_paper 73 = .ok (.bipush (-4), 2) := by decide +kernel
theorem dX0_paper_75 : decode cX0_paper 75 = .ok (.ireturn, 1) := by decide +kernel
theorem dX0_paper_76 : decode cX0_paper 76 = .ok (.bipush 6, 2) := by decide +kernel
theorem dX0_paper_78 : decode cX0_paper 78 = .ok (.newarray .int, 2) := by decide +kernel
theorem dX0_paper_80 : decode cX0_paper 80 = .ok (.dup, 1) := by decide +kernel
theorem dX0_paper_81 : decode cX0_paper 81 = .ok (.iconst 0, 1) := by decide +kernel
theorem dX0_paper_82 : decode cX0_paper 82 = .ok (.iload 4, 2) := by decide +kernel
theorem dX0_paper_84 : decode cX0_paper 84 = .ok (.iastore, 1) := by decide +kernel
theorem dX0_paper_85 : decode cX0_paper 85 = .ok (.dup, 1) := by decide +kernel
theorem dX0_paper_86 : decode cX0_paper 86 = .ok (.iconst 1, 1) := by decide +kernel
theorem dX0_paper_87 : decode cX0_paper 87 = .ok (.iload 5, 2) := by decide +kernel
theorem dX0_paper_89 : decode cX0_paper 89 = .ok (.iastore, 1) := by decide +kernel
theorem dX0_paper_90 : decode cX0_paper 90 = .ok (.dup, 1) := by decide +kernel
theorem dX0_paper_91 : decode cX0_paper 91 = .ok (.iconst 2, 1) := by decide +kernel
theorem dX0_paper_92 : decode cX0_paper 92 = .ok (.iload 6, 2) := by decide +kernel
theorem dX0_paper_94 : decode cX0_paper 94 = .ok (.iastore, 1) := by decide +kernel
theorem dX0_paper_95 : decode cX0_paper 95 = .ok (.dup, 1) := by decide +kernel
theorem dX0_paper_96 : decode cX0_paper 96 = .ok (.iconst 3, 1) := by decide +kernel
theorem dX0_paper_97 : decode cX0_paper 97 = .ok (.iload 7, 2) := by decide +kernel
theorem dX0_paper_99 : decode cX0_paper 99 = .ok (.iastore, 1) := by decide +kernel
theorem dX0_paper_100 : decode cX0_paper 100 = .ok (.dup, 1) := by decide +kernel
theorem dX0_paper_101 : decode cX0_paper 101 = .ok (.iconst 4, 1) := by decide +kernel
theorem dX0_paper_102 : decode cX0_paper 102 = .ok (.iload 8, 2) := by decide +kernel
theorem dX0_paper_104 : decode cX0_paper 104 = .ok (.iastore, 1) := by decide +kernel
theorem dX0_paper_105 : decode cX0_paper 105 = .ok (.dup, 1) := by decide +kernel
theorem dX0_paper_106 : decode cX0_paper 106 = .ok (.iconst 5, 1) := by decide +kernel
theorem dX0_paper_107 : decode cX0_paper 107 = .ok (.iload 9, 2) := by decide +kernel
theorem dX0_paper_109 : decode cX0_paper 109 = .ok (.iastore, 1) := by decide +kernel
theorem dX0_paper_110 : decode cX0_paper 110 = .ok (.astore 10, 2) := by decide +kernel
theorem dX0_paper_112 : decode cX0_paper 112 = .ok (.aload_n 0, 1) := by decide +kernel
theorem dX0_paper_113 : decode cX0_paper 113 = .ok (.getfield 36, 3) := by decide +kernel
theorem dX0_paper_116 : decode cX0_paper 116 = .ok (.aload_n 0, 1) := by decide +kernel
theorem dX0_paper_117 : decode cX0_paper 117 = .ok (.getfield 149, 3) := by decide +kernel
theorem dX0_paper_120 : decode cX0_paper 120 = .ok (.new 34, 3) := by decide +kernel
theorem dX0_paper_123 : decode cX0_paper 123 = .ok (.dup, 1) := by decide +kernel
theorem dX0_paper_124 : decode cX0_paper 124 = .ok (.aload_n 0, 1) := by decide +kernel
theorem dX0_paper_125 : decode cX0_paper 125 = .ok (.getfield 24, 3) := by decide +kernel
theorem dX0_paper_128 : decode cX0_paper 128 = .ok (.iload_n 1, 1) := by decide +kernel
theorem dX0_paper_129 : decode cX0_paper 129 = .ok (.aaload, 1) := by decide +kernel
theorem dX0_paper_130 : decode cX0_paper 130 = .ok (.iload_n 2, 1) := by decide +kernel
theorem dX0_paper_131 : decode cX0_paper 131 = .ok (.iload_n 3, 1) := by decide +kernel
theorem dX0_paper_132 : decode cX0_paper 132 = .ok (.aload 10, 2) := by decide +kernel
theorem dX0_paper_134 : decode cX0_paper 134 = .ok (.invokespecial 158, 3) := by decide +kernel
theorem dX0_paper_137 : decode cX0_paper 137 = .ok (.aastore, 1) := by decide +kernel
theorem dX0_paper_138 : decode cX0_paper 138 = .ok (.aload_n 0, 1) := by decide +kernel
theorem dX0_paper_139 : decode cX0_paper 139 = .ok (.dup, 1) := by decide +kernel
theorem dX0_paper_140 : decode cX0_paper 140 = .ok (.getfield 149, 3) := by decide +kernel
theorem dX0_paper_143 : decode cX0_paper 143 = .ok (.iconst 1, 1) := by decide +kernel
theorem dX0_paper_144 : decode cX0_paper 144 = .ok (.iadd, 1) := by decide +kernel
theorem dX0_paper_145 : decode cX0_paper 145 = .ok (.putfield 149, 3) := by decide +kernel
theorem dX0_paper_148 : decode cX0_paper 148 = .ok (.aload_n 0, 1) := by decide +kernel
theorem dX0_paper_149 : decode cX0_paper 149 = .ok (.getfield 149, 3) := by decide +kernel
theorem dX0_paper_152 : decode cX0_paper 152 = .ok (.iconst 1, 1) := by decide +kernel
theorem dX0_paper_153 : decode cX0_paper 153 = .ok (.isub, 1) := by decide +kernel
theorem dX0_paper_154 : decode cX0_paper 154 = .ok (.ireturn, 1) := by decide +kernel
theorem dX0_isMark_0 : decode cX0_isMark 0 = .ok (.iload_n 0, 1) := by decide +kernel
theorem dX0_isMark_1 : decode cX0_isMark 1 = .ok (.bipush (-9), 2) := by decide +kernel
theorem dX0_isMark_3 : decode cX0_isMark 3 = .ok (.if_icmp .eq 12, 3) := by decide +kernel
theorem dX0_isMark_6 : decode cX0_isMark 6 = .ok (.iload_n 0, 1) := by decide +kernel
theorem dX0_isMark_7 : decode cX0_isMark 7 = .ok (.iconst 0, 1) := by decide +kernel
theorem dX0_isMark_8 : decode cX0_isMark 8 = .ok (.iconst 3, 1) := by decide +kernel
theorem dX0_isMark_9 : decode cX0_isMark 9 = .ok (.invokestatic 1, 3) := by decide +kernel
theorem dX0_isMark_12 : decode cX0_isMark 12 = .ok (.ifCond .eq 7, 3) := by decide +kernel
theorem dX0_isMark_15 : decode cX0_isMark 15 = .ok (.iconst 1, 1) := by decide +kernel
theorem dX0_isMark_16 : decode cX0_isMark 16 = .ok (.goto 4, 3) := by decide +kernel
theorem dX0_isMark_19 : decode cX0_isMark 19 = .ok (.iconst 0, 1) := by decide +kernel
theorem dX0_isMark_20 : decode cX0_isMark 20 = .ok (.ireturn, 1) := by decide +kernel
theorem dX0_areIn_0 : decode cX0_areIn 0 = .ok (.iload_n 0, 1) := by decide +kernel
theorem dX0_areIn_1 : decode cX0_areIn 1 = .ok (.iconst 0, 1) := by decide +kernel
theorem dX0_areIn_2 : decode cX0_areIn 2 = .ok (.iload_n 1, 1) := by decide +kernel
theorem dX0_areIn_3 : decode cX0_areIn 3 = .ok (.invokestatic 1, 3) := by decide +kernel
theorem dX0_areIn_6 : decode cX0_areIn 6 = .ok (.ifCond .eq 12, 3) := by decide +kernel
theorem dX0_areIn_9 : decode cX0_areIn 9 = .ok (.iload_n 1, 1) := by decide +kernel
theorem dX0_areIn_10 : decode cX0_areIn 10 = .ok (.iload_n 2, 1) := by decide +kernel
theorem dX0_areIn_11 : decode cX0_areIn 11 = .ok (.if_icmp .gt 7, 3) := by decide +kernel
theorem dX0_areIn_14 : decode cX0_areIn 14 = .ok (.iconst 1, 1) := by decide +kernel
theorem dX0_areIn_15 : decode cX0_areIn 15 = .ok (.goto 4, 3) := by decide +kernel
theorem dX0_areIn_18 : decode cX0_areIn 18 = .ok (.iconst 0, 1) := by decide +kernel
theorem dX0_areIn_19 : decode cX0_areIn 19 = .ok (.ireturn, 1) := by decide +kernel
theorem dX0_cover_0 : decode cX0_cover 0 = .ok (.aload_n 0, 1) := by decide +kernel
theorem dX0_cover_1 : decode cX0_cover 1 = .ok (.iload_n 1, 1) := by decide +kernel
theorem dX0_cover_2 : decode cX0_cover 2 = .ok (.invokevirtual 161, 3) := by decide +kernel
theorem dX0_cover_5 : decode cX0_cover 5 = .ok (.ifCond .eq 11, 3) := by decide +kernel
theorem dX0_cover_8 : decode cX0_cover 8 = .ok (.aload_n 0, 1) := by decide +kernel
theorem dX0_cover_9 : decode cX0_cover 9 = .ok (.iload_n 2, 1) := by decide +kernel
theorem dX0_cover_10 : decode cX0_cover 10 = .ok (.invokevirtual 82, 3) := by decide +kernel
theorem dX0_cover_13 : decode cX0_cover 13 = .ok (.ifCond .ne 5, 3) := by decide +kernel
theorem dX0_cover_16 : decode cX0_cover 16 = .ok (.iconst (-1), 1) := by decide +kernel
theorem dX0_cover_17 : decode cX0_cover 17 = .ok (.ireturn, 1) := by decide +kernel
theorem dX0_cover_18 : decode cX0_cover 18 = .ok (.iload_n 3, 1) := by decide +kernel
theorem dX0_cover_19 : decode cX0_cover 19 = .ok (.invokestatic 164, 3) := by decide +kernel
theorem dX0_cover_22 : decode cX0_cover 22 = .ok (.ifCond .eq 22, 3) := by decide +kernel
theorem dX0_cover_25 : decode cX0_cover 25 = .ok (.aload_n 0, 1) := by decide +kernel
theorem dX0_cover_26 : decode cX0_cover 26 = .ok (.getfield 36, 3) := by decide +kernel
theorem dX0_cover_29 : decode cX0_cover 29 = .ok (.iload_n 1, 1) := by decide +kernel
theorem dX0_cover_30 : decode cX0_cover 30 = .ok (.aaload, 1) := by decide +kernel
theorem dX0_cover_31 : decode cX0_cover 31 = .ok (.aload_n 0, 1) := by decide +kernel
theorem dX0_cover_32 : decode cX0_cover 32 = .ok (.getfield 24, 3) := by decide +kernel
theorem dX0_cover_35 : decode cX0_cover 35 = .ok (.iload_n 2, 1) := by decide +kernel
theorem dX0_cover_36 : decode cX0_cover 36 = .ok (.aaload, 1) := by decide +kernel
theorem dX0_cover_37 : decode cX0_cover 37 = .ok (.iload_n 3, 1) := by decide +kernel
theorem dX0_cover_38 : decode cX0_cover 38 = .ok (.invokevirtual 167, 3) := by decide +kernel
theorem dX0_cover_41 : decode cX0_cover 41 = .ok (.goto 5, 3) := by decide +kernel
theorem dX0_cover_44 : decode cX0_cover 44 = .ok (.bipush (-2), 2) := by decide +kernel
theorem dX0_cover_46 : decode cX0_cover 46 = .ok (.ireturn, 1) := by decide +kernel
theorem dX0_isPaper_0 : decode cX0_isPaper 0 = .ok (.iload_n 1, 1) := by decide +kernel
theorem dX0_isPaper_1 : decode cX0_isPaper 1 = .ok (.iconst 0, 1) := by decide +kernel
theorem dX0_isPaper_2 : decode cX0_isPaper 2 = .ok (.aload_n 0, 1) := by decide +kernel
theorem dX0_isPaper_3 : decode cX0_isPaper 3 = .ok (.getfield 149, 3) := by decide +kernel
theorem dX0_isPaper_6 : decode cX0_isPaper 6 = .ok (.iconst 1, 1) := by decide +kernel
theorem dX0_isPaper_7 : decode cX0_isPaper 7 = .ok (.isub, 1) := by decide +kernel
theorem dX0_isPaper_8 : decode cX0_isPaper 8 = .ok (.invokestatic 1, 3) := by decide +kernel
theorem dX0_isPaper_11 : decode cX0_isPaper 11 = .ok (.ireturn, 1) := by decide +kernel
theorem dX0_isTide_0 : decode cX0_isTide 0 = .ok (.iload_n 0, 1) := by decide +kernel
theorem dX0_isTide_1 : decode cX0_isTide 1 = .ok (.iconst 0, 1) := by decide +kernel
theorem dX0_isTide_2 : decode cX0_isTide 2 = .ok (.sipush 899, 3) := by decide +kernel
theorem dX0_isTide_5 : decode cX0_isTide 5 = .ok (.invokestatic 1, 3) := by decide +kernel
theorem dX0_isTide_8 : decode cX0_isTide 8 = .ok (.ireturn, 1) := by decide +kernel
theorem dX0_same_0 : decode cX0_same 0 = .ok (.aload_n 0, 1) := by decide +kernel
theorem dX0_same_1 : decode cX0_same 1 = .ok (.iload_n 1, 1) := by decide +kernel
theorem dX0_same_2 : decode cX0_same 2 = .ok (.invokevirtual 161, 3) := by decide +kernel
theorem dX0_same_5 : decode cX0_same 5 = .ok (.ifCond .ne 5, 3) := by decide +kernel
theorem dX0_same_8 : decode cX0_same 8 = .ok (.iconst (-1), 1) := by decide +kernel
theorem dX0_same_9 : decode cX0_same 9 = .ok (.ireturn, 1) := by decide +kernel
theorem dX0_same_10 : decode cX0_same 10 = .ok (.iload_n 2, 1) := by decide +kernel
theorem dX0_same_11 : decode cX0_same 11 = .ok (.invokestatic 164, 3) := by decide +kernel
theorem dX0_same_14 : decode cX0_same 14 = .ok (.ifCond .ne 6, 3) := by decide +kernel
theorem dX0_same_17 : decode cX0_same 17 = .ok (.bipush (-2), 2) := by decide +kernel
theorem dX0_same_19 : decode cX0_same 19 = .ok (.ireturn, 1) := by decide +kernel
theorem dX0_same_20 : decode cX0_same 20 = .ok (.iconst 0, 1) := by decide +kernel
theorem dX0_same_21 : decode cX0_same 21 = .ok (.istore_n 3, 1) := by decide +kernel
theorem dX0_same_22 : decode cX0_same 22 = .ok (.iconst 0, 1) := by decide +kernel
theorem dX0_same_23 : decode cX0_same 23 = .ok (.istore 4, 2) := by decide +kernel
theorem dX0_same_25 : decode cX0_same 25 = .ok (.iload 4, 2) := by decide +kernel
theorem dX0_same_27 : decode cX0_same 27 = .ok (.aload_n 0, 1) := by decide +kernel
theorem dX0_same_28 : decode cX0_same 28 = .ok (.getfield 68, 3) := by decide +kernel
theorem dX0_same_31 : decode cX0_same 31 = .ok (.if_icmp .ge 37, 3) := by decide +kernel
theorem dX0_same_34 : decode cX0_same 34 = .ok (.iload_n 3, 1) := by decide +kernel
theorem dX0_same_35 : decode cX0_same 35 = .ok (.aload_n 0, 1) := by decide +kernel
theorem dX0_same_36 : decode cX0_same 36 = .ok (.getfield 36, 3) := by decide +kernel
theorem dX0_same_39 : decode cX0_same 39 = .ok (.iload_n 1, 1) := by decide +kernel
theorem dX0_same_40 : decode cX0_same 40 = .ok (.aaload, 1) := by decide +kernel
theorem dX0_same_41 : decode cX0_same 41 = .ok (.aload_n 0, 1) := by decide +kernel
theorem dX0_same_42 : decode cX0_same 42 = .ok (.getfield 24, 3) := by decide +kernel
theorem dX0_same_45 : decode cX0_same 45 = .ok (.iload 4, 2) := by decide +kernel
theorem dX0_same_47 : decode cX0_same 47 = .ok (.aaload, 1) := by decide +kernel
theorem dX0_same_48 : decode cX0_same 48 = .ok (.iload_n 2, 1) := by decide +kernel
theorem dX0_same_49 : decode cX0_same 49 = .ok (.invokevirtual 167, 3) := by decide +kernel
theorem dX0_same_52 : decode cX0_same 52 = .ok (.ifCond .le 7, 3) := by decide +kernel
theorem dX0_same_55 : decode cX0_same 55 = .ok (.iconst 1, 1) := by decide +kernel
theorem dX0_same_56 : decode cX0_same 56 = .ok (.goto 4, 3) := by decide +kernel
theorem dX0_same_59 : decode cX0_same 59 = .ok (.iconst 0, 1) := by decide +kernel
theorem dX0_same_60 : decode cX0_same 60 = .ok (.iadd, 1) := by decide +kernel
theorem dX0_same_61 : decode cX0_same 61 = .ok (.istore_n 3, 1) := by decide +kernel
theorem dX0_same_62 : decode cX0_same 62 = .ok (.iinc 4 1, 3) := by decide +kernel
theorem dX0_same_65 : decode cX0_same 65 = .ok (.goto (-40), 3) := by decide +kernel
theorem dX0_same_68 : decode cX0_same 68 = .ok (.iload_n 3, 1) := by decide +kernel
theorem dX0_same_69 : decode cX0_same 69 = .ok (.ireturn, 1) := by decide +kernel
theorem dX0_shown_0 : decode cX0_shown 0 = .ok (.aload_n 0, 1) := by decide +kernel
theorem dX0_shown_1 : decode cX0_shown 1 = .ok (.iload_n 1, 1) := by decide +kernel
theorem dX0_shown_2 : decode cX0_shown 2 = .ok (.invokevirtual 161, 3) := by decide +kernel
theorem dX0_shown_5 : decode cX0_shown 5 = .ok (.ifCond .ne 5, 3) := by decide +kernel
theorem dX0_shown_8 : decode cX0_shown 8 = .ok (.iconst (-1), 1) := by decide +kernel
theorem dX0_shown_9 : decode cX0_shown 9 = .ok (.ireturn, 1) := by decide +kernel
theorem dX0_shown_10 : decode cX0_shown 10 = .ok (.iload_n 2, 1) := by decide +kernel
theorem dX0_shown_11 : decode cX0_shown 11 = .ok (.invokestatic 164, 3) := by decide +kernel
theorem dX0_shown_14 : decode cX0_shown 14 = .ok (.ifCond .ne 6, 3) := by decide +kernel
theorem dX0_shown_17 : decode cX0_shown 17 = .ok (.bipush (-2), 2) := by decide +kernel
theorem dX0_shown_19 : decode cX0_shown 19 = .ok (.ireturn, 1) := by decide +kernel
theorem dX0_shown_20 : decode cX0_shown 20 = .ok (.bipush 40, 2) := by decide +kernel
theorem dX0_shown_22 : decode cX0_shown 22 = .ok (.newarray .boolean, 2) := by decide +kernel
theorem dX0_shown_24 : decode cX0_shown 24 = .ok (.astore_n 3, 1) := by decide +kernel
theorem dX0_shown_25 : decode cX0_shown 25 = .ok (.iconst 0, 1) := by decide +kernel
theorem dX0_shown_26 : decode cX0_shown 26 = .ok (.istore 4, 2) := by decide +kernel
theorem dX0_shown_28 : decode cX0_shown 28 = .ok (.iconst 0, 1) := by decide +kernel
theorem dX0_shown_29 : decode cX0_shown 29 = .ok (.istore 5, 2) := by decide +kernel
theorem dX0_shown_31 : decode cX0_shown 31 = .ok (.iload 5, 2) := by decide +kernel
theorem dX0_shown_33 : decode cX0_shown 33 = .ok (.aload_n 0, 1) := by decide +kernel
theorem dX0_shown_34 : decode cX0_shown 34 = .ok (.getfield 170, 3) := by decide +kernel
theorem dX0_shown_37 : decode cX0_shown 37 = .ok (.if_icmp .ge 66, 3) := by decide +kernel
theorem dX0_shown_40 : decode cX0_shown 40 = .ok (.aload_n 0, 1) := by decide +kernel
theorem dX0_shown_41 : decode cX0_shown 41 = .ok (.getfield 48, 3) := by decide +kernel
theorem dX0_shown_44 : decode cX0_shown 44 = .ok (.iload 5, 2) := by decide +kernel
theorem dX0_shown_46 : decode cX0_shown 46 = .ok (.aaload, 1) := by decide +kernel
theorem dX0_shown_47 : decode cX0_shown 47 = .ok (.astore 6, 2) := by decide +kernel
theorem dX0_shown_49 : decode cX0_shown 49 = .ok (.aload 6, 2) := by decide +kernel
theorem dX0_shown_51 : decode cX0_shown 51 = .ok (.getfield 173, 3) := by decide +kernel
theorem dX0_shown_54 : decode cX0_shown 54 = .ok (.iload_n 1, 1) := by decide +kernel
theorem dX0_shown_55 : decode cX0_shown 55 = .ok (.if_icmp .ne 42, 3) := by decide +kernel
theorem dX0_shown_58 : decode cX0_shown 58 = .ok (.aload 6, 2) := by decide +kernel
theorem dX0_shown_60 : decode cX0_shown 60 = .ok (.getfield 176, 3) := by decide +kernel
theorem dX0_shown_63 : decode cX0_shown 63 = .ok (.iload_n 2, 1) := by decide +kernel
theorem dX0_shown_64 : decode cX0_shown 64 = .ok (.bipush 14, 2) := by decide +kernel
theorem dX0_shown_66 : decode cX0_shown 66 = .ok (.isub, 1) := by decide +kernel
theorem dX0_shown_67 : decode cX0_shown 67 = .ok (.iconst 1, 1) := by decide +kernel
theorem dX0_shown_68 : decode cX0_shown 68 = .ok (.iadd, 1) := by decide +kernel
theorem dX0_shown_69 : decode cX0_shown 69 = .ok (.iload_n 2, 1) := by decide +kernel
theorem dX0_shown_70 : decode cX0_shown 70 = .ok (.invokestatic 1, 3) := by decide +kernel
theorem dX0_shown_73 : decode cX0_shown 73 = .ok (.ifCond .eq 24, 3) := by decide +kernel
theorem dX0_shown_76 : decode cX0_shown 76 = .ok (.aload_n 3, 1) := by decide +kernel
theorem dX0_shown_77 : decode cX0_shown 77 = .ok (.aload 6, 2) := by decide +kernel
theorem dX0_shown_79 : decode cX0_shown 79 = .ok (.getfield 177, 3) := by decide +kernel
theorem dX0_shown_82 : decode cX0_shown 82 = .ok (.baload, 1) := by decide +kernel
theorem dX0_shown_83 : decode cX0_shown 83 = .ok (.ifCond .ne 14, 3) := by decide +kernel
theorem dX0_shown_86 : decode cX0_shown 86 = .ok (.aload_n 3, 1) := by decide +kernel
theorem dX0_shown_87 : decode cX0_shown 87 = .ok (.aload 6, 2) := by decide +kernel
theorem dX0_shown_89 : decode cX0_shown 89 = .ok (.getfield 177, 3) := by decide +kernel
theorem dX0_shown_92 : decode cX0_shown 92 = .ok (.iconst 1, 1) := by decide +kernel
theorem dX0_shown_93 : decode cX0_shown 93 = .ok (.bastore, 1) := by decide +kernel
theorem dX0_shown_94 : decode cX0_shown 94 = .ok (.iinc 4 1, 3) := by decide +kernel
theorem dX0_shown_97 : decode cX0_shown 97 = .ok (.iinc 5 1, 3) := by decide +kernel
theorem dX0_shown_100 : decode cX0_shown 100 = .ok (.goto (-69), 3) := by decide +kernel
theorem dX0_shown_103 : decode cX0_shown 103 = .ok (.iload 4, 2) := by decide +kernel
theorem dX0_shown_105 : decode cX0_shown 105 = .ok (.ireturn, 1) := by decide +kernel
theorem dX0_act_0 : decode cX0_act 0 = .ok (.iload_n 1, 1) := by decide +kernel
theorem dX0_act_1 : decode cX0_act 1 = .ok (.invokestatic 164, 3) := by decide +kernel
theorem dX0_act_4 : decode cX0_act 4 = .ok (.ifCond .ne 6, 3) := by decide +kernel
theorem dX0_act_7 : decode cX0_act 7 = .ok (.bipush (-2), 2) := by decide +kernel
theorem dX0_act_9 : decode cX0_act 9 = .ok (.ireturn, 1) := by decide +kernel
theorem dX0_act_10 : decode cX0_act 10 = .ok (.aload_n 0, 1) := by decide +kernel
theorem dX0_act_11 : decode cX0_act 11 = .ok (.getfield 184, 3) := by decide +kernel
theorem dX0_act_14 : decode cX0_act 14 = .ok (.bipush 8, 2) := by decide +kernel
theorem dX0_act_16 : decode cX0_act 16 = .ok (.if_icmp .ne 6, 3) := by decide +kernel
theorem dX0_act_19 : decode cX0_act 19 = .ok (.bipush (-4), 2) := by decide +kernel
theorem dX0_act_21 : decode cX0_act 21 = .ok (.ireturn, 1) := by decide +kernel
theorem dX0_act_22 : decode cX0_act 22 = .ok (.aload_n 0, 1) := by decide +kernel
theorem dX0_act_23 : decode cX0_act 23 = .ok (.getfield 42, 3) := by decide +kernel
theorem dX0_act_26 : decode cX0_act 26 = .ok (.aload_n 0, 1) := by decide +kernel
theorem dX0_act_27 : decode cX0_act 27 = .ok (.getfield 184, 3) := by decide +kernel
theorem dX0_act_30 : decode cX0_act 30 = .ok (.new 40, 3) := by decide +kernel
theorem dX0_act_33 : decode cX0_act 33 = .ok (.dup, 1) := by decide +kernel
theorem dX0_act_34 : decode cX0_act 34 = .ok (.aload_n 0, 1) := by decide +kernel
theorem dX0_act_35 : decode cX0_act 35 = .ok (.iload_n 1, 1) := by decide +kernel
theorem dX0_act_36 : decode cX0_act 36 = .ok (.invokespecial 187, 3) := by decide +kernel
theorem dX0_act_39 : decode cX0_act 39 = .ok (.aastore, 1) := by decide +kernel
theorem dX0_act_40 : decode cX0_act 40 = .ok (.aload_n 0, 1) := by decide +kernel
theorem dX0_act_41 : decode cX0_act 41 = .ok (.dup, 1) := by decide +kernel
theorem dX0_act_42 : decode cX0_act 42 = .ok (.getfield 184, 3) := by decide +kernel
theorem dX0_act_45 : decode cX0_act 45 = .ok (.iconst 1, 1) := by decide +kernel
theorem dX0_act_46 : decode cX0_act 46 = .ok (.iadd, 1) := by decide +kernel
theorem dX0_act_47 : decode cX0_act 47 = .ok (.putfield 184, 3) := by decide +kernel
theorem dX0_act_50 : decode cX0_act 50 = .ok (.aload_n 0, 1) := by decide +kernel
theorem dX0_act_51 : decode cX0_act 51 = .ok (.getfield 184, 3) := by decide +kernel
theorem dX0_act_54 : decode cX0_act 54 = .ok (.iconst 1, 1) := by decide +kernel
theorem dX0_act_55 : decode cX0_act 55 = .ok (.isub, 1) := by decide +kernel
theorem dX0_act_56 : decode cX0_act 56 = .ok (.ireturn, 1) := by decide +kernel
theorem dX0_sign_0 : decode cX0_sign 0 = .ok (.aload_n 0, 1) := by decide +kernel
theorem dX0_sign_1 : decode cX0_sign 1 = .ok (.iload_n 1, 1) := by decide +kernel
theorem dX0_sign_2 : decode cX0_sign 2 = .ok (.invokevirtual 190, 3) := by decide +kernel
theorem dX0_sign_5 : decode cX0_sign 5 = .ok (.ifCond .ne 5, 3) := by decide +kernel
theorem dX0_sign_8 : decode cX0_sign 8 = .ok (.iconst (-1), 1) := by decide +kernel
theorem dX0_sign_9 : decode cX0_sign 9 = .ok (.ireturn, 1) := by decide +kernel
theorem dX0_sign_10 : decode cX0_sign 10 = .ok (.iload_n 2, 1) := by decide +kernel
theorem dX0_sign_11 : decode cX0_sign 11 = .ok (.bipush 33, 2) := by decide +kernel
theorem dX0_sign_13 : decode cX0_sign 13 = .ok (.bipush 126, 2) := by decide +kernel
theorem dX0_sign_15 : decode cX0_sign 15 = .ok (.invokestatic 1, 3) := by decide +kernel
theorem dX0_sign_18 : decode cX0_sign 18 = .ok (.ifCond .ne 6, 3) := by decide +kernel
theorem dX0_sign_21 : decode cX0_sign 21 = .ok (.bipush (-2), 2) := by decide +kernel
theorem dX0_sign_23 : decode cX0_sign 23 = .ok (.ireturn, 1) := by decide +kernel
theorem dX0_sign_24 : decode cX0_sign 24 = .ok (.aload_n 0, 1) := by decide +kernel
theorem dX0_sign_25 : decode cX0_sign 25 = .ok (.getfield 42, 3) := by decide +kernel
theorem dX0_sign_28 : decode cX0_sign 28 = .ok (.iload_n 1, 1) := by decide +kernel
theorem dX0_sign_29 : decode cX0_sign 29 = .ok (.aaload, 1) := by decide +kernel
theorem dX0_sign_30 : decode cX0_sign 30 = .ok (.astore_n 3, 1) := by decide +kernel
theorem dX0_sign_31 : decode cX0_sign 31 = .ok (.aload_n 3, 1) := by decide +kernel
theorem dX0_sign_32 : decode cX0_sign 32 = .ok (.getfield 193, 3) := by decide +kernel
theorem dX0_sign_35 : decode cX0_sign 35 = .ok (.bipush 60, 2) := by decide +kernel
theorem dX0_sign_37 : decode cX0_sign 37 = .ok (.if_icmp .ne 6, 3) := by decide +kernel
theorem dX0_sign_40 : decode cX0_sign 40 = .ok (.bipush (-4), 2) := by decide +kernel
theorem dX0_sign_42 : decode cX0_sign 42 = .ok (.ireturn, 1) := by decide +kernel
theorem dX0_sign_43 : decode cX0_sign 43 = .ok (.aload_n 3, 1) := by decide +kernel
theorem dX0_sign_44 : decode cX0_sign 44 = .ok (.getfield 196, 3) := by decide +kernel
theorem dX0_sign_47 : decode cX0_sign 47 = .ok (.aload_n 3, 1) := by decide +kernel
theorem dX0_sign_48 : decode cX0_sign 48 = .ok (.getfield 193, 3) := by decide +kernel
theorem dX0_sign_51 : decode cX0_sign 51 = .ok (.iload_n 2, 1) := by decide +kernel
theorem dX0_sign_52 : decode cX0_sign 52 = .ok (.iastore, 1) := by decide +kernel
theorem dX0_sign_53 : decode cX0_sign 53 = .ok (.aload_n 3, 1) := by decide +kernel
theorem dX0_sign_54 : decode cX0_sign 54 = .ok (.dup, 1) := by decide +kernel
theorem dX0_sign_55 : decode cX0_sign 55 = .ok (.getfield 193, 3) := by decide +kernel
theorem dX0_sign_58 : decode cX0_sign 58 = .ok (.iconst 1, 1) := by decide +kernel
theorem dX0_sign_59 : decode cX0_sign 59 = .ok (.iadd, 1) := by decide +kernel
theorem dX0_sign_60 : decode cX0_sign 60 = .ok (.putfield 193, 3) := by decide +kernel
theorem dX0_sign_63 : decode cX0_sign 63 = .ok (.aload_n 3, 1) := by decide +kernel
theorem dX0_sign_64 : decode cX0_sign 64 = .ok (.getfield 193, 3) := by decide +kernel
theorem dX0_sign_67 : decode cX0_sign 67 = .ok (.ireturn, 1) := by decide +kernel
theorem dX0_isAct_0 : decode cX0_isAct 0 = .ok (.iload_n 1, 1) := by decide +kernel
theorem dX0_isAct_1 : decode cX0_isAct 1 = .ok (.iconst 0, 1) := by decide +kernel
theorem dX0_isAct_2 : decode cX0_isAct 2 = .ok (.aload_n 0, 1) := by decide +kernel
theorem dX0_isAct_3 : decode cX0_isAct 3 = .ok (.getfield 184, 3) := by decide +kernel
theorem dX0_isAct_6 : decode cX0_isAct 6 = .ok (.iconst 1, 1) := by decide +kernel
theorem dX0_isAct_7 : decode cX0_isAct 7 = .ok (.isub, 1) := by decide +kernel
theorem dX0_isAct_8 : decode cX0_isAct 8 = .ok (.invokestatic 1, 3) := by decide +kernel
theorem dX0_isAct_11 : decode cX0_isAct 11 = .ok (.ireturn, 1) := by decide +kernel
theorem dX0_fault_0 : decode cX0_fault 0 = .ok (.aload_n 0, 1) := by decide +kernel
theorem dX0_fault_1 : decode cX0_fault 1 = .ok (.iload_n 1, 1) := by decide +kernel
theorem dX0_fault_2 : decode cX0_fault 2 = .ok (.invokevirtual 190, 3) := by decide +kernel
theorem dX0_fault_5 : decode cX0_fault 5 = .ok (.ifCond .ne 5, 3) := by decide +kernel
theorem dX0_fault_8 : decode cX0_fault 8 = .ok (.iconst (-1), 1) := by decide +kernel
theorem dX0_fault_9 : decode cX0_fault 9 = .ok (.ireturn, 1) := by decide +kernel
theorem dX0_fault_10 : decode cX0_fault 10 = .ok (.aload_n 0, 1) := by decide +kernel
theorem dX0_fault_11 : decode cX0_fault 11 = .ok (.getfield 42, 3) := by decide +kernel
theorem dX0_fault_14 : decode cX0_fault 14 = .ok (.iload_n 1, 1) := by decide +kernel
theorem dX0_fault_15 : decode cX0_fault 15 = .ok (.aaload, 1) := by decide +kernel
theorem dX0_fault_16 : decode cX0_fault 16 = .ok (.invokevirtual 199, 3) := by decide +kernel
theorem dX0_fault_19 : decode cX0_fault 19 = .ok (.astore_n 2, 1) := by decide +kernel
theorem dX0_fault_20 : decode cX0_fault 20 = .ok (.aload_n 2, 1) := by decide +kernel
theorem dX0_fault_21 : decode cX0_fault 21 = .ok (.ifnonnull 15, 3) := by decide +kernel
theorem dX0_fault_24 : decode cX0_fault 24 = .ok (.aload_n 0, 1) := by decide +kernel
theorem dX0_fault_25 : decode cX0_fault 25 = .ok (.getfield 42, 3) := by decide +kernel
theorem dX0_fault_28 : decode cX0_fault 28 = .ok (.iload_n 1, 1) := by decide +kernel
theorem dX0_fault_29 : decode cX0_fault 29 = .ok (.aaload, 1) := by decide +kernel
theorem dX0_fault_30 : decode cX0_fault 30 = .ok (.getfield 203, 3) := by decide +kernel
theorem dX0_fault_33 : decode cX0_fault 33 = .ok (.goto 5, 3) := by decide +kernel
theorem dX0_fault_36 : decode cX0_fault 36 = .ok (.bipush (-9), 2) := by decide +kernel
theorem dX0_fault_38 : decode cX0_fault 38 = .ok (.ireturn, 1) := by decide +kernel
theorem dX0_force_0 : decode cX0_force 0 = .ok (.iload_n 1, 1) := by decide +kernel
theorem dX0_force_1 : decode cX0_force 1 = .ok (.invokestatic 164, 3) := by decide +kernel
theorem dX0_force_4 : decode cX0_force 4 = .ok (.ifCond .eq 11, 3) := by decide +kernel
theorem dX0_force_7 : decode cX0_force 7 = .ok (.aload_n 0, 1) := by decide +kernel
theorem dX0_force_8 : decode cX0_force 8 = .ok (.iload_n 1, 1) := by decide +kernel
theorem dX0_force_9 : decode cX0_force 9 = .ok (.invokevirtual 209, 3) := by decide +kernel
theorem dX0_force_12 : decode cX0_force 12 = .ok (.goto 5, 3) := by decide +kernel
theorem dX0_force_15 : decode cX0_force 15 = .ok (.bipush (-2), 2) := by decide +kernel
theorem dX0_force_17 : decode cX0_force 17 = .ok (.ireturn, 1) := by decide +kernel
theorem dX0_forceOn_0 : decode cX0_forceOn 0 = .ok (.bipush (-9), 2) := by decide +kernel
theorem dX0_forceOn_2 : decode cX0_forceOn 2 = .ok (.istore_n 2, 1) := by decide +kernel
theorem dX0_forceOn_3 : decode cX0_forceOn 3 = .ok (.iconst 0, 1) := by decide +kernel
theorem dX0_forceOn_4 : decode cX0_forceOn 4 = .ok (.istore_n 3, 1) := by decide +kernel
theorem dX0_forceOn_5 : decode cX0_forceOn 5 = .ok (.iload_n 3, 1) := by decide +kernel
theorem dX0_forceOn_6 : decode cX0_forceOn 6 = .ok (.aload_n 0, 1) := by decide +kernel
theorem dX0_forceOn_7 : decode cX0_forceOn 7 = .ok (.getfield 184, 3) := by decide +kernel
theorem dX0_forceOn_10 : decode cX0_forceOn 10 = .ok (.if_icmp .ge 79, 3) := by decide +kernel
theorem dX0_forceOn_13 : decode cX0_forceOn 13 = .ok (.aload_n 0, 1) := by decide +kernel
theorem dX0_forceOn_14 : decode cX0_forceOn 14 = .ok (.getfield 42, 3) := by decide +kernel
theorem dX0_forceOn_17 : decode cX0_forceOn 17 = .ok (.iload_n 3, 1) := by decide +kernel
theorem dX0_forceOn_18 : decode cX0_forceOn 18 = .ok (.aaload, 1) := by decide +kernel
theorem dX0_forceOn_19 : decode cX0_forceOn 19 = .ok (.getfield 206, 3) := by decide +kernel
theorem dX0_forceOn_22 : decode cX0_forceOn 22 = .ok (.iload_n 1, 1) := by decide +kernel
theorem dX0_forceOn_23 : decode cX0_forceOn 23 = .ok (.if_icmp .gt 34, 3) := by decide +kernel
theorem dX0_forceOn_26 : decode cX0_forceOn 26 = .ok (.iload_n 2, 1) := by decide +kernel
theorem dX0_forceOn_27 : decode cX0_forceOn 27 = .ok (.bipush (-9), 2) := by decide +kernel
theorem dX0_forceOn_29 : decode cX0_forceOn 29 = .ok (.if_icmp .eq 24, 3) := by decide +kernel
theorem dX0_forceOn_32 : decode cX0_forceOn 32 = .ok (.aload_n 0, 1) := by decide +kernel
theorem dX0_forceOn_33 : decode cX0_forceOn 33 = .ok (.getfield 42, 3) := by decide +kernel
theorem dX0_forceOn_36 : decode cX0_forceOn 36 = .ok (.iload_n 3, 1) := by decide +kernel
theorem dX0_forceOn_37 : decode cX0_forceOn 37 = .ok (.aaload, 1) := by decide +kernel
theorem dX0_forceOn_38 : decode cX0_forceOn 38 = .ok (.getfield 206, 3) := by decide +kernel
theorem dX0_forceOn_41 : decode cX0_forceOn 41 = .ok (.aload_n 0, 1) := by decide +kernel
theorem dX0_forceOn_42 : decode cX0_forceOn 42 = .ok (.getfield 42, 3) := by decide +kernel
theorem dX0_forceOn_45 : decode cX0_forceOn 45 = .ok (.iload_n 2, 1) := by decide +kernel
theorem dX0_forceOn_46 : decode cX0_forceOn 46 = .ok (.aaload, 1) := by decide +kernel
theorem dX0_forceOn_47 : decode cX0_forceOn 47 = .ok (.getfield 206, 3) := by decide +kernel
theorem dX0_forceOn_50 : decode cX0_forceOn 50 = .ok (.if_icmp .lt 7, 3) := by decide +kernel
theorem dX0_forceOn_53 : decode cX0_forceOn 53 = .ok (.iconst 1, 1) := by decide +kernel
theorem dX0_forceOn_54 : decode cX0_forceOn 54 = .ok (.goto 4, 3) := by decide +kernel
theorem dX0_forceOn_57 : decode cX0_forceOn 57 = .ok (.iconst 0, 1) := by decide +kernel
theorem dX0_forceOn_58 : decode cX0_forceOn 58 = .ok (.istore 4, 2) := by decide +kernel
theorem dX0_forceOn_60 : decode cX0_forceOn 60 = .ok (.iload 4, 2) := by decide +kernel
theorem dX0_forceOn_62 : decode cX0_forceOn 62 = .ok (.ifCond .eq 19, 3) := by decide +kernel
theorem dX0_forceOn_65 : decode cX0_forceOn 65 = .ok (.aload_n 0, 1) := by decide +kernel
theorem dX0_forceOn_66 : decode cX0_forceOn 66 = .ok (.getfield 42, 3) := by decide +kernel
theorem dX0_forceOn_69 : decode cX0_forceOn 69 = .ok (.iload_n 3, 1) := by decide +kernel
theorem dX0_forceOn_70 : decode cX0_forceOn 70 = .ok (.aaload, 1) := by decide +kernel
theorem dX0_forceOn_71 : decode cX0_forceOn 71 = .ok (.invokevirtual 199, 3) := by decide +kernel
theorem dX0_forceOn_74 : decode cX0_forceOn 74 = .ok (.ifnull 7, 3) := by decide +kernel
theorem dX0_forceOn_77 : decode cX0_forceOn 77 = .ok (.iload_n 3, 1) := by decide +kernel
theorem dX0_forceOn_78 : decode cX0_forceOn 78 = .ok (.goto 4, 3) := by decide +kernel
theorem dX0_forceOn_81 : decode cX0_forceOn 81 = .ok (.iload_n 2, 1) := by decide +kernel
theorem dX0_forceOn_82 : decode cX0_forceOn 82 = .ok (.istore_n 2, 1) := by decide +kernel
theorem dX0_forceOn_83 : decode cX0_forceOn 83 = .ok (.iinc 3 1, 3) := by decide +kernel
theorem dX0_forceOn_86 : decode cX0_forceOn 86 = .ok (.goto (-81), 3) := by decide +kernel
theorem dX0_forceOn_89 : decode cX0_forceOn 89 = .ok (.iload_n 2, 1) := by decide +kernel
theorem dX0_forceOn_90 : decode cX0_forceOn 90 = .ok (.ireturn, 1) := by decide +kernel
theorem dX0_may_0 : decode cX0_may 0 = .ok (.aload_n 0, 1) := by decide +kernel
theorem dX0_may_1 : decode cX0_may 1 = .ok (.iload_n 1, 1) := by decide +kernel
theorem dX0_may_2 : decode cX0_may 2 = .ok (.invokevirtual 82, 3) := by decide +kernel
theorem dX0_may_5 : decode cX0_may 5 = .ok (.ifCond .eq 17, 3) := by decide +kernel
theorem dX0_may_8 : decode cX0_may 8 = .ok (.iload_n 2, 1) := by decide +kernel
theorem dX0_may_9 : decode cX0_may 9 = .ok (.bipush (-9), 2) := by decide +kernel
theorem dX0_may_11 : decode cX0_may 11 = .ok (.if_icmp .eq 13, 3) := by decide +kernel
theorem dX0_may_14 : decode cX0_may 14 = .ok (.aload_n 0, 1) := by decide +kernel
theorem dX0_may_15 : decode cX0_may 15 = .ok (.iload_n 2, 1) := by decide +kernel
theorem dX0_may_16 : decode cX0_may 16 = .ok (.invokevirtual 161, 3) := by decide +kernel
theorem dX0_may_19 : decode cX0_may 19 = .ok (.ifCond .ne 5, 3) := by decide +kernel
theorem dX0_may_22 : decode cX0_may 22 = .ok (.iconst (-1), 1) := by decide +kernel
theorem dX0_may_23 : decode cX0_may 23 = .ok (.ireturn, 1) := by decide +kernel
theorem dX0_may_24 : decode cX0_may 24 = .ok (.aload_n 0, 1) := by decide +kernel
theorem dX0_may_25 : decode cX0_may 25 = .ok (.aload_n 0, 1) := by decide +kernel
theorem dX0_may_26 : decode cX0_may 26 = .ok (.invokevirtual 223, 3) := by decide +kernel
theorem dX0_may_29 : decode cX0_may 29 = .ok (.aload_n 0, 1) := by decide +kernel
theorem dX0_may_30 : decode cX0_may 30 = .ok (.getfield 24, 3) := by decide +kernel
theorem dX0_may_33 : decode cX0_may 33 = .ok (.iload_n 1, 1) := by decide +kernel
theorem dX0_may_34 : decode cX0_may 34 = .ok (.aaload, 1) := by decide +kernel
theorem dX0_may_35 : decode cX0_may 35 = .ok (.iload_n 2, 1) := by decide +kernel
theorem dX0_may_36 : decode cX0_may 36 = .ok (.invokevirtual 226, 3) := by decide +kernel
theorem dX0_may_39 : decode cX0_may 39 = .ok (.ifCond .eq 7, 3) := by decide +kernel
theorem dX0_may_42 : decode cX0_may 42 = .ok (.iconst 1, 1) := by decide +kernel
theorem dX0_may_43 : decode cX0_may 43 = .ok (.goto 4, 3) := by decide +kernel
theorem dX0_may_46 : decode cX0_may 46 = .ok (.iconst 0, 1) := by decide +kernel
theorem dX0_may_47 : decode cX0_may 47 = .ok (.ireturn, 1) := by decide +kernel
theorem dX0_law_0 : decode cX0_law 0 = .ok (.aload_n 0, 1) := by decide +kernel
theorem dX0_law_1 : decode cX0_law 1 = .ok (.aload_n 0, 1) := by decide +kernel
theorem dX0_law_2 : decode cX0_law 2 = .ok (.getfield 92, 3) := by decide +kernel
theorem dX0_law_5 : decode cX0_law 5 = .ok (.invokevirtual 209, 3) := by decide +kernel
theorem dX0_law_8 : decode cX0_law 8 = .ok (.istore_n 1, 1) := by decide +kernel
theorem dX0_law_9 : decode cX0_law 9 = .ok (.iload_n 1, 1) := by decide +kernel
theorem dX0_law_10 : decode cX0_law 10 = .ok (.bipush (-9), 2) := by decide +kernel
theorem dX0_law_12 : decode cX0_law 12 = .ok (.if_icmp .ne 7, 3) := by decide +kernel
theorem dX0_law_15 : decode cX0_law 15 = .ok (.aconst_null, 1) := by decide +kernel
theorem dX0_law_16 : decode cX0_law 16 = .ok (.goto 12, 3) := by decide +kernel
theorem dX0_law_19 : decode cX0_law 19 = .ok (.aload_n 0, 1) := by decide +kernel
theorem dX0_law_20 : decode cX0_law 20 = .ok (.getfield 42, 3) := by decide +kernel
theorem dX0_law_23 : decode cX0_law 23 = .ok (.iload_n 1, 1) := by decide +kernel
theorem dX0_law_24 : decode cX0_law 24 = .ok (.aaload, 1) := by decide +kernel
theorem dX0_law_25 : decode cX0_law 25 = .ok (.invokevirtual 199, 3) := by decide +kernel
theorem dX0_law_28 : decode cX0_law 28 = .ok (.areturn, 1) := by decide +kernel
theorem dX0_mayShown_0 : decode cX0_mayShown 0 = .ok (.aload_n 1, 1) := by decide +kernel
theorem dX0_mayShown_1 : decode cX0_mayShown 1 = .ok (.aload_n 2, 1) := by decide +kernel
theorem dX0_mayShown_2 : decode cX0_mayShown 2 = .ok (.iload_n 3, 1) := by decide +kernel
theorem dX0_mayShown_3 : decode cX0_mayShown 3 = .ok (.bipush (-9), 2) := by decide +kernel
theorem dX0_mayShown_5 : decode cX0_mayShown 5 = .ok (.if_icmp .eq 24, 3) := by decide +kernel
theorem dX0_mayShown_8 : decode cX0_mayShown 8 = .ok (.aload_n 0, 1) := by decide +kernel
theorem dX0_mayShown_9 : decode cX0_mayShown 9 = .ok (.getfield 36, 3) := by decide +kernel
theorem dX0_mayShown_12 : decode cX0_mayShown 12 = .ok (.iload_n 3, 1) := by decide +kernel
theorem dX0_mayShown_13 : decode cX0_mayShown 13 = .ok (.aaload, 1) := by decide +kernel
theorem dX0_mayShown_14 : decode cX0_mayShown 14 = .ok (.aload_n 2, 1) := by decide +kernel
theorem dX0_mayShown_15 : decode cX0_mayShown 15 = .ok (.aload_n 0, 1) := by decide +kernel
theorem dX0_mayShown_16 : decode cX0_mayShown 16 = .ok (.getfield 92, 3) := by decide +kernel
theorem dX0_mayShown_19 : decode cX0_mayShown 19 = .ok (.invokevirtual 167, 3) := by decide +kernel
theorem dX0_mayShown_22 : decode cX0_mayShown 22 = .ok (.ifCond .le 7, 3) := by decide +kernel
theorem dX0_mayShown_25 : decode cX0_mayShown 25 = .ok (.iconst 1, 1) := by decide +kernel
theorem dX0_mayShown_26 : decode cX0_mayShown 26 = .ok (.goto 4, 3) := by decide +kernel
theorem dX0_mayShown_29 : decode cX0_mayShown 29 = .ok (.iconst 0, 1) := by decide +kernel
theorem dX0_mayShown_30 : decode cX0_mayShown 30 = .ok (.invokestatic 219, 3) := by decide +kernel
theorem dX0_mayShown_33 : decode cX0_mayShown 33 = .ok (.ireturn, 1) := by decide +kernel
theorem dX0_mayBe_0 : decode cX0_mayBe 0 = .ok (.aload_n 0, 1) := by decide +kernel
theorem dX0_mayBe_1 : decode cX0_mayBe 1 = .ok (.ifnull 16, 3) := by decide +kernel
theorem dX0_mayBe_4 : decode cX0_mayBe 4 = .ok (.aload_n 0, 1) := by decide +kernel
theorem dX0_mayBe_5 : decode cX0_mayBe 5 = .ok (.aload_n 1, 1) := by decide +kernel
theorem dX0_mayBe_6 : decode cX0_mayBe 6 = .ok (.iload_n 2, 1) := by decide +kernel
theorem dX0_mayBe_7 : decode cX0_mayBe 7 = .ok (.invokevirtual 213, 3) := by decide +kernel
theorem dX0_mayBe_10 : decode cX0_mayBe 10 = .ok (.ifCond .eq 7, 3) := by decide +kernel
theorem dX0_mayBe_13 : decode cX0_mayBe 13 = .ok (.iconst 1, 1) := by decide +kernel
theorem dX0_mayBe_14 : decode cX0_mayBe 14 = .ok (.goto 4, 3) := by decide +kernel
theorem dX0_mayBe_17 : decode cX0_mayBe 17 = .ok (.iconst 0, 1) := by decide +kernel
theorem dX0_mayBe_18 : decode cX0_mayBe 18 = .ok (.ireturn, 1) := by decide +kernel
theorem dX0_mayTruly_0 : decode cX0_mayTruly 0 = .ok (.aload_n 0, 1) := by decide +kernel
theorem dX0_mayTruly_1 : decode cX0_mayTruly 1 = .ok (.iload_n 1, 1) := by decide +kernel
theorem dX0_mayTruly_2 : decode cX0_mayTruly 2 = .ok (.invokevirtual 82, 3) := by decide +kernel
theorem dX0_mayTruly_5 : decode cX0_mayTruly 5 = .ok (.ifCond .ne 5, 3) := by decide +kernel
theorem dX0_mayTruly_8 : decode cX0_mayTruly 8 = .ok (.iconst (-1), 1) := by decide +kernel
theorem dX0_mayTruly_9 : decode cX0_mayTruly 9 = .ok (.ireturn, 1) := by decide +kernel
theorem dX0_mayTruly_10 : decode cX0_mayTruly 10 = .ok (.aload_n 0, 1) := by decide +kernel
theorem dX0_mayTruly_11 : decode cX0_mayTruly 11 = .ok (.invokevirtual 223, 3) := by decide +kernel
theorem dX0_mayTruly_14 : decode cX0_mayTruly 14 = .ok (.aload_n 0, 1) := by decide +kernel
theorem dX0_mayTruly_15 : decode cX0_mayTruly 15 = .ok (.getfield 24, 3) := by decide +kernel
theorem dX0_mayTruly_18 : decode cX0_mayTruly 18 = .ok (.iload_n 1, 1) := by decide +kernel
theorem dX0_mayTruly_19 : decode cX0_mayTruly 19 = .ok (.aaload, 1) := by decide +kernel
theorem dX0_mayTruly_20 : decode cX0_mayTruly 20 = .ok (.aload_n 0, 1) := by decide +kernel
theorem dX0_mayTruly_21 : decode cX0_mayTruly 21 = .ok (.aload_n 0, 1) := by decide +kernel
theorem dX0_mayTruly_22 : decode cX0_mayTruly 22 = .ok (.getfield 24, 3) := by decide +kernel
theorem dX0_mayTruly_25 : decode cX0_mayTruly 25 = .ok (.iload_n 1, 1) := by decide +kernel
theorem dX0_mayTruly_26 : decode cX0_mayTruly 26 = .ok (.aaload, 1) := by decide +kernel
theorem dX0_mayTruly_27 : decode cX0_mayTruly 27 = .ok (.invokevirtual 230, 3) := by decide +kernel
theorem dX0_mayTruly_30 : decode cX0_mayTruly 30 = .ok (.invokestatic 219, 3) := by decide +kernel
theorem dX0_mayTruly_33 : decode cX0_mayTruly 33 = .ok (.ifCond .eq 7, 3) := by decide +kernel
theorem dX0_mayTruly_36 : decode cX0_mayTruly 36 = .ok (.iconst 1, 1) := by decide +kernel
theorem dX0_mayTruly_37 : decode cX0_mayTruly 37 = .ok (.goto 4, 3) := by decide +kernel
theorem dX0_mayTruly_40 : decode cX0_mayTruly 40 = .ok (.iconst 0, 1) := by decide +kernel
theorem dX0_mayTruly_41 : decode cX0_mayTruly 41 = .ok (.ireturn, 1) := by decide +kernel
theorem dX0_isCoveredTruly_0 : decode cX0_isCoveredTruly 0 = .ok (.iconst 0, 1) := by decide +kernel
theorem dX0_isCoveredTruly_1 : decode cX0_isCoveredTruly 1 = .ok (.istore_n 2, 1) := by decide +kernel
theorem dX0_isCoveredTruly_2 : decode cX0_isCoveredTruly 2 = .ok (.iconst 0, 1) := by decide +kernel
theorem dX0_isCoveredTruly_3 : decode cX0_isCoveredTruly 3 = .ok (.istore_n 3, 1) := by decide +kernel
theorem dX0_isCoveredTruly_4 : decode cX0_isCoveredTruly 4 = .ok (.iload_n 3, 1) := by decide +kernel
theorem dX0_isCoveredTruly_5 : decode cX0_isCoveredTruly 5 = .ok (.aload_n 0, 1) := by decide +kernel
theorem dX0_isCoveredTruly_6 : decode cX0_isCoveredTruly 6 = .ok (.getfield 149, 3) := by decide +kernel
theorem dX0_isCoveredTruly_9 : decode cX0_isCoveredTruly 9 = .ok (.if_icmp .ge 47, 3) := by decide +kernel
theorem dX0_isCoveredTruly_12 : decode cX0_isCoveredTruly 12 = .ok (.iload_n 2, 1) := by decide +kernel
theorem dX0_isCoveredTruly_13 : decode cX0_isCoveredTruly 13 = .ok (.aload_n 0, 1) := by decide +kernel
theorem dX0_isCoveredTruly_14 : decode cX0_isCoveredTruly 14 = .ok (.getfield 36, 3) := by decide +kernel
theorem dX0_isCoveredTruly_17 : decode cX0_isCoveredTruly 17 = .ok (.iload_n 3, 1) := by decide +kernel
theorem dX0_isCoveredTruly_18 : decode cX0_isCoveredTruly 18 = .ok (.aaload, 1) := by decide +kernel
theorem dX0_isCoveredTruly_19 : decode cX0_isCoveredTruly 19 = .ok (.getfield 180, 3) := by decide +kernel
theorem dX0_isCoveredTruly_22 : decode cX0_isCoveredTruly 22 = .ok (.aload_n 1, 1) := by decide +kernel
theorem dX0_isCoveredTruly_23 : decode cX0_isCoveredTruly 23 = .ok (.if_acmp .ne 24, 3) := by decide +kernel
theorem dX0_isCoveredTruly_26 : decode cX0_isCoveredTruly 26 = .ok (.aload_n 0, 1) := by decide +kernel
theorem dX0_isCoveredTruly_27 : decode cX0_isCoveredTruly 27 = .ok (.getfield 36, 3) := by decide +kernel
theorem dX0_isCoveredTruly_30 : decode cX0_isCoveredTruly 30 = .ok (.iload_n 3, 1) := by decide +kernel
theorem dX0_isCoveredTruly_31 : decode cX0_isCoveredTruly 31 = .ok (.aaload, 1) := by decide +kernel
theorem dX0_isCoveredTruly_32 : decode cX0_isCoveredTruly 32 = .ok (.aload_n 1, 1) := by decide +kernel
theorem dX0_isCoveredTruly_33 : decode cX0_isCoveredTruly 33 = .ok (.aload_n 0, 1) := by decide +kernel
theorem dX0_isCoveredTruly_34 : decode cX0_isCoveredTruly 34 = .ok (.getfield 92, 3) := by decide +kernel
theorem dX0_isCoveredTruly_37 : decode cX0_isCoveredTruly 37 = .ok (.invokevirtual 167, 3) := by decide +kernel
theorem dX0_isCoveredTruly_40 : decode cX0_isCoveredTruly 40 = .ok (.ifCond .le 7, 3) := by decide +kernel
theorem dX0_isCoveredTruly_43 : decode cX0_isCoveredTruly 43 = .ok (.iconst 1, 1) := by decide +kernel
theorem dX0_isCoveredTruly_44 : decode cX0_isCoveredTruly 44 = .ok (.goto 4, 3) := by decide +kernel
theorem dX0_isCoveredTruly_47 : decode cX0_isCoveredTruly 47 = .ok (.iconst 0, 1) := by decide +kernel
theorem dX0_isCoveredTruly_48 : decode cX0_isCoveredTruly 48 = .ok (.ior, 1) := by decide +kernel
theorem dX0_isCoveredTruly_49 : decode cX0_isCoveredTruly 49 = .ok (.istore_n 2, 1) := by decide +kernel
theorem dX0_isCoveredTruly_50 : decode cX0_isCoveredTruly 50 = .ok (.iinc 3 1, 3) := by decide +kernel
theorem dX0_isCoveredTruly_53 : decode cX0_isCoveredTruly 53 = .ok (.goto (-49), 3) := by decide +kernel
theorem dX0_isCoveredTruly_56 : decode cX0_isCoveredTruly 56 = .ok (.iload_n 2, 1) := by decide +kernel
theorem dX0_isCoveredTruly_57 : decode cX0_isCoveredTruly 57 = .ok (.ireturn, 1) := by decide +kernel
theorem dX0_take_0 : decode cX0_take 0 = .ok (.aload_n 0, 1) := by decide +kernel
theorem dX0_take_1 : decode cX0_take 1 = .ok (.iload_n 1, 1) := by decide +kernel
theorem dX0_take_2 : decode cX0_take 2 = .ok (.invokevirtual 82, 3) := by decide +kernel
theorem dX0_take_5 : decode cX0_take 5 = .ok (.ifCond .eq 17, 3) := by decide +kernel
theorem dX0_take_8 : decode cX0_take 8 = .ok (.iload_n 2, 1) := by decide +kernel
theorem dX0_take_9 : decode cX0_take 9 = .ok (.bipush (-9), 2) := by decide +kernel
theorem dX0_take_11 : decode cX0_take 11 = .ok (.if_icmp .eq 13, 3) := by decide +kernel
theorem dX0_take_14 : decode cX0_take 14 = .ok (.aload_n 0, 1) := by decide +kernel
theorem dX0_take_15 : decode cX0_take 15 = .ok (.iload_n 2, 1) := by decide +kernel
theorem dX0_take_16 : decode cX0_take 16 = .ok (.invokevirtual 161, 3) := by decide +kernel
theorem dX0_take_19 : decode cX0_take 19 = .ok (.ifCond .ne 5, 3) := by decide +kernel
theorem dX0_take_22 : decode cX0_take 22 = .ok (.iconst (-1), 1) := by decide +kernel
theorem dX0_take_23 : decode cX0_take 23 = .ok (.ireturn, 1) := by decide +kernel
theorem dX0_take_24 : decode cX0_take 24 = .ok (.aload_n 0, 1) := by decide +kernel
theorem dX0_take_25 : decode cX0_take 25 = .ok (.getfield 24, 3) := by decide +kernel
theorem dX0_take_28 : decode cX0_take 28 = .ok (.iload_n 1, 1) := by decide +kernel
theorem dX0_take_29 : decode cX0_take 29 = .ok (.aaload, 1) := by decide +kernel
theorem dX0_take_30 : decode cX0_take 30 = .ok (.astore_n 3, 1) := by decide +kernel
theorem dX0_take_31 : decode cX0_take 31 = .ok (.aload_n 3, 1) := by decide +kernel
theorem dX0_take_32 : decode cX0_take 32 = .ok (.invokevirtual 104, 3) := by decide +kernel
theorem dX0_take_35 : decode cX0_take 35 = .ok (.bipush 10, 2) := by decide +kernel
theorem dX0_take_37 : decode cX0_take 37 = .ok (.if_icmp .lt 18, 3) := by decide +kernel
theorem dX0_take_40 : decode cX0_take 40 = .ok (.aload_n 0, 1) := by decide +kernel
theorem dX0_take_41 : decode cX0_take 41 = .ok (.aload_n 3, 1) := by decide +kernel
theorem dX0_take_42 : decode cX0_take 42 = .ok (.invokevirtual 104, 3) := by decide +kernel
theorem dX0_take_45 : decode cX0_take 45 = .ok (.iconst 1, 1) := by decide +kernel
theorem dX0_take_46 : decode cX0_take 46 = .ok (.invokevirtual 240, 3) := by decide +kernel
theorem dX0_take_49 : decode cX0_take 49 = .ok (.ifCond .ne 6, 3) := by decide +kernel
theorem dX0_take_52 : decode cX0_take 52 = .ok (.bipush (-3), 2) := by decide +kernel
theorem dX0_take_54 : decode cX0_take 54 = .ok (.ireturn, 1) := by decide +kernel
theorem dX0_take_55 : decode cX0_take 55 = .ok (.aload_n 0, 1) := by decide +kernel
theorem dX0_take_56 : decode cX0_take 56 = .ok (.getfield 170, 3) := by decide +kernel
theorem dX0_take_59 : decode cX0_take 59 = .ok (.bipush 60, 2) := by decide +kernel
theorem dX0_take_61 : decode cX0_take 61 = .ok (.if_icmp .ne 6, 3) := by decide +kernel
theorem dX0_take_64 : decode cX0_take 64 = .ok (.bipush (-4), 2) := by decide +kernel
theorem dX0_take_66 : decode cX0_take 66 = .ok (.ireturn, 1) := by decide +kernel
theorem dX0_take_67 : decode cX0_take 67 = .ok (.aload_n 0, 1) := by decide +kernel
theorem dX0_take_68 : decode cX0_take 68 = .ok (.invokevirtual 223, 3) := by decide +kernel
theorem dX0_take_71 : decode cX0_take 71 = .ok (.astore 4, 2) := by decide +kernel
theorem dX0_take_73 : decode cX0_take 73 = .ok (.new 46, 3) := by decide +kernel
theorem dX0_take_76 : decode cX0_take 76 = .ok (.dup, 1) := by decide +kernel
theorem dX0_take_77 : decode cX0_take 77 = .ok (.aload_n 0, 1) := by decide +kernel
theorem dX0_take_78 : decode cX0_take 78 = .ok (.getfield 92, 3) := by decide +kernel
theorem dX0_take_81 : decode cX0_take 81 = .ok (.iload_n 1, 1) := by decide +kernel
theorem dX0_take_82 : decode cX0_take 82 = .ok (.iload_n 2, 1) := by decide +kernel
theorem dX0_take_83 : decode cX0_take 83 = .ok (.aload_n 3, 1) := by decide +kernel
theorem dX0_take_84 : decode cX0_take 84 = .ok (.invokevirtual 104, 3) := by decide +kernel
theorem dX0_take_87 : decode cX0_take 87 = .ok (.aload_n 0, 1) := by decide +kernel
theorem dX0_take_88 : decode cX0_take 88 = .ok (.aload 4, 2) := by decide +kernel
theorem dX0_take_90 : decode cX0_take 90 = .ok (.aload_n 3, 1) := by decide +kernel
theorem dX0_take_91 : decode cX0_take 91 = .ok (.iload_n 2, 1) := by decide +kernel
theorem dX0_take_92 : decode cX0_take 92 = .ok (.invokevirtual 226, 3) := by decide +kernel
theorem dX0_take_95 : decode cX0_take 95 = .ok (.aload 4, 2) := by decide +kernel
theorem dX0_take_97 : decode cX0_take 97 = .ok (.aload_n 3, 1) := by decide +kernel
theorem dX0_take_98 : decode cX0_take 98 = .ok (.aload_n 0, 1) := by decide +kernel
theorem dX0_take_99 : decode cX0_take 99 = .ok (.aload_n 3, 1) := by decide +kernel
theorem dX0_take_100 : decode cX0_take 100 = .ok (.invokevirtual 230, 3) := by decide +kernel
theorem dX0_take_103 : decode cX0_take 103 = .ok (.invokestatic 219, 3) := by decide +kernel
theorem dX0_take_106 : decode cX0_take 106 = .ok (.invokespecial 244, 3) := by decide +kernel
theorem dX0_take_109 : decode cX0_take 109 = .ok (.astore 5, 2) := by decide +kernel
theorem dX0_take_111 : decode cX0_take 111 = .ok (.aload_n 0, 1) := by decide +kernel
theorem dX0_take_112 : decode cX0_take 112 = .ok (.getfield 48, 3) := by decide +kernel
theorem dX0_take_115 : decode cX0_take 115 = .ok (.aload_n 0, 1) := by decide +kernel
theorem dX0_take_116 : decode cX0_take 116 = .ok (.getfield 170, 3) := by decide +kernel
theorem dX0_take_119 : decode cX0_take 119 = .ok (.aload 5, 2) := by decide +kernel
theorem dX0_take_121 : decode cX0_take 121 = .ok (.aastore, 1) := by decide +kernel
theorem dX0_take_122 : decode cX0_take 122 = .ok (.aload_n 0, 1) := by decide +kernel
theorem dX0_take_123 : decode cX0_take 123 = .ok (.dup, 1) := by decide +kernel
theorem dX0_take_124 : decode cX0_take 124 = .ok (.getfield 170, 3) := by decide +kernel
theorem dX0_take_127 : decode cX0_take 127 = .ok (.iconst 1, 1) := by decide +kernel
theorem dX0_take_128 : decode cX0_take 128 = .ok (.iadd, 1) := by decide +kernel
theorem dX0_take_129 : decode cX0_take 129 = .ok (.putfield 170, 3) := by decide +kernel
theorem dX0_take_132 : decode cX0_take 132 = .ok (.aload_n 3, 1) := by decide +kernel
theorem dX0_take_133 : decode cX0_take 133 = .ok (.aload 5, 2) := by decide +kernel
theorem dX0_take_135 : decode cX0_take 135 = .ok (.putfield 247, 3) := by decide +kernel
theorem dX0_take_138 : decode cX0_take 138 = .ok (.aload_n 3, 1) := by decide +kernel
theorem dX0_take_139 : decode cX0_take 139 = .ok (.aload_n 0, 1) := by decide +kernel
theorem dX0_take_140 : decode cX0_take 140 = .ok (.getfield 92, 3) := by decide +kernel
theorem dX0_take_143 : decode cX0_take 143 = .ok (.bipush 20, 2) := by decide +kernel
theorem dX0_take_145 : decode cX0_take 145 = .ok (.invokevirtual 121, 3) := by decide +kernel
theorem dX0_take_148 : decode cX0_take 148 = .ok (.aload_n 0, 1) := by decide +kernel
theorem dX0_take_149 : decode cX0_take 149 = .ok (.getfield 170, 3) := by decide +kernel
theorem dX0_take_152 : decode cX0_take 152 = .ok (.iconst 1, 1) := by decide +kernel
theorem dX0_take_153 : decode cX0_take 153 = .ok (.isub, 1) := by decide +kernel
theorem dX0_take_154 : decode cX0_take 154 = .ok (.ireturn, 1) := by decide +kernel
theorem dX0_isHomeShip_0 : decode cX0_isHomeShip 0 = .ok (.iload_n 1, 1) := by decide +kernel
theorem dX0_isHomeShip_1 : decode cX0_isHomeShip 1 = .ok (.bipush 10, 2) := by decide +kernel
theorem dX0_isHomeShip_3 : decode cX0_isHomeShip 3 = .ok (.isub, 1) := by decide +kernel
theorem dX0_isHomeShip_4 : decode cX0_isHomeShip 4 = .ok (.istore_n 3, 1) := by decide +kernel
theorem dX0_isHomeShip_5 : decode cX0_isHomeShip 5 = .ok (.iload_n 3, 1) := by decide +kernel
theorem dX0_isHomeShip_6 : decode cX0_isHomeShip 6 = .ok (.iconst 0, 1) := by decide +kernel
theorem dX0_isHomeShip_7 : decode cX0_isHomeShip 7 = .ok (.aload_n 0, 1) := by decide +kernel
theorem dX0_isHomeShip_8 : decode cX0_isHomeShip 8 = .ok (.getfield 111, 3) := by decide +kernel
theorem dX0_isHomeShip_11 : decode cX0_isHomeShip 11 = .ok (.iconst 1, 1) := by decide +kernel
theorem dX0_isHomeShip_12 : decode cX0_isHomeShip 12 = .ok (.isub, 1) := by decide +kernel
theorem dX0_isHomeShip_13 : decode cX0_isHomeShip 13 = .ok (.invokestatic 1, 3) := by decide +kernel
theorem dX0_isHomeShip_16 : decode cX0_isHomeShip 16 = .ok (.ifCond .eq 38, 3) := by decide +kernel
theorem dX0_isHomeShip_19 : decode cX0_isHomeShip 19 = .ok (.aload_n 0, 1) := by decide +kernel
theorem dX0_isHomeShip_20 : decode cX0_isHomeShip 20 = .ok (.getfield 54, 3) := by decide +kernel
theorem dX0_isHomeShip_23 : decode cX0_isHomeShip 23 = .ok (.iload_n 3, 1) := by decide +kernel
theorem dX0_isHomeShip_24 : decode cX0_isHomeShip 24 = .ok (.aaload, 1) := by decide +kernel
theorem dX0_isHomeShip_25 : decode cX0_isHomeShip 25 = .ok (.getfield 234, 3) := by decide +kernel
theorem dX0_isHomeShip_28 : decode cX0_isHomeShip 28 = .ok (.ifCond .eq 26, 3) := by decide +kernel
theorem dX0_isHomeShip_31 : decode cX0_isHomeShip 31 = .ok (.iload_n 2, 1) := by decide +kernel
theorem dX0_isHomeShip_32 : decode cX0_isHomeShip 32 = .ok (.bipush (-9), 2) := by decide +kernel
theorem dX0_isHomeShip_34 : decode cX0_isHomeShip 34 = .ok (.if_icmp .eq 16, 3) := by decide +kernel
theorem dX0_isHomeShip_37 : decode cX0_isHomeShip 37 = .ok (.aload_n 0, 1) := by decide +kernel
theorem dX0_isHomeShip_38 : decode cX0_isHomeShip 38 = .ok (.getfield 54, 3) := by decide +kernel
theorem dX0_isHomeShip_41 : decode cX0_isHomeShip 41 = .ok (.iload_n 3, 1) := by decide +kernel
theorem dX0_isHomeShip_42 : decode cX0_isHomeShip 42 = .ok (.aaload, 1) := by decide +kernel
theorem dX0_isHomeShip_43 : decode cX0_isHomeShip 43 = .ok (.getfield 237, 3) := by decide +kernel
theorem dX0_isHomeShip_46 : decode cX0_isHomeShip 46 = .ok (.iload_n 2, 1) := by decide +kernel
theorem dX0_isHomeShip_47 : decode cX0_isHomeShip 47 = .ok (.if_icmp .ne 7, 3) := by decide +kernel
theorem dX0_isHomeShip_50 : decode cX0_isHomeShip 50 = .ok (.iconst 1, 1) := by decide +kernel
theorem dX0_isHomeShip_51 : decode cX0_isHomeShip 51 = .ok (.goto 4, 3) := by decide +kernel
theorem dX0_isHomeShip_54 : decode cX0_isHomeShip 54 = .ok (.iconst 0, 1) := by decide +kernel
theorem dX0_isHomeShip_55 : decode cX0_isHomeShip 55 = .ok (.ireturn, 1) := by decide +kernel
theorem dX0_taking_0 : decode cX0_taking 0 = .ok (.iload_n 1, 1) := by decide +kernel
theorem dX0_taking_1 : decode cX0_taking 1 = .ok (.iconst 0, 1) := by decide +kernel
theorem dX0_taking_2 : decode cX0_taking 2 = .ok (.aload_n 0, 1) := by decide +kernel
theorem dX0_taking_3 : decode cX0_taking 3 = .ok (.getfield 170, 3) := by decide +kernel
theorem dX0_taking_6 : decode cX0_taking 6 = .ok (.iconst 1, 1) := by decide +kernel
theorem dX0_taking_7 : decode cX0_taking 7 = .ok (.isub, 1) := by decide +kernel
theorem dX0_taking_8 : decode cX0_taking 8 = .ok (.invokestatic 1, 3) := by decide +kernel
theorem dX0_taking_11 : decode cX0_taking 11 = .ok (.ifCond .ne 5, 3) := by decide +kernel
theorem dX0_taking_14 : decode cX0_taking 14 = .ok (.iconst (-1), 1) := by decide +kernel
theorem dX0_taking_15 : decode cX0_taking 15 = .ok (.ireturn, 1) := by decide +kernel
theorem dX0_taking_16 : decode cX0_taking 16 = .ok (.aload_n 0, 1) := by decide +kernel
theorem dX0_taking_17 : decode cX0_taking 17 = .ok (.getfield 48, 3) := by decide +kernel
theorem dX0_taking_20 : decode cX0_taking 20 = .ok (.iload_n 1, 1) := by decide +kernel
theorem dX0_taking_21 : decode cX0_taking 21 = .ok (.aaload, 1) := by decide +kernel
theorem dX0_taking_22 : decode cX0_taking 22 = .ok (.astore_n 3, 1) := by decide +kernel
theorem dX0_taking_23 : decode cX0_taking 23 = .ok (.iload_n 2, 1) := by decide +kernel
theorem dX0_taking_24 : decode cX0_taking 24 = .ok (.tableswitch 86 0 5 #[40, 45, 50, 55, 60, 73], 40) := by decide +kernel
theorem dX0_taking_64 : decode cX0_taking 64 = .ok (.aload_n 3, 1) := by decide +kernel
theorem dX0_taking_65 : decode cX0_taking 65 = .ok (.getfield 176, 3) := by decide +kernel
theorem dX0_taking_68 : decode cX0_taking 68 = .ok (.ireturn, 1) := by decide +kernel
theorem dX0_taking_69 : decode cX0_taking 69 = .ok (.aload_n 3, 1) := by decide +kernel
theorem dX0_taking_70 : decode cX0_taking 70 = .ok (.getfield 177, 3) := by decide +kernel
theorem dX0_taking_73 : decode cX0_taking 73 = .ok (.ireturn, 1) := by decide +kernel
theorem dX0_taking_74 : decode cX0_taking 74 = .ok (.aload_n 3, 1) := by decide +kernel
theorem dX0_taking_75 : decode cX0_taking 75 = .ok (.getfield 173, 3) := by decide +kernel
theorem dX0_taking_78 : decode cX0_taking 78 = .ok (.ireturn, 1) := by decide +kernel
theorem dX0_taking_79 : decode cX0_taking 79 = .ok (.aload_n 3, 1) := by decide +kernel
theorem dX0_taking_80 : decode cX0_taking 80 = .ok (.getfield 251, 3) := by decide +kernel
theorem dX0_taking_83 : decode cX0_taking 83 = .ok (.ireturn, 1) := by decide +kernel
theorem dX0_taking_84 : decode cX0_taking 84 = .ok (.aload_n 3, 1) := by decide +kernel
theorem dX0_taking_85 : decode cX0_taking 85 = .ok (.getfield 252, 3) := by decide +kernel
theorem dX0_taking_88 : decode cX0_taking 88 = .ok (.ifCond .eq 7, 3) := by decide +kernel
theorem dX0_taking_91 : decode cX0_taking 91 = .ok (.iconst 1, 1) := by decide +kernel
theorem dX0_taking_92 : decode cX0_taking 92 = .ok (.goto 4, 3) := by decide +kernel
theorem dX0_taking_95 : decode cX0_taking 95 = .ok (.iconst 0, 1) := by decide +kernel
theorem dX0_taking_96 : decode cX0_taking 96 = .ok (.ireturn, 1) := by decide +kernel
theorem dX0_taking_97 : decode cX0_taking 97 = .ok (.aload_n 3, 1) := by decide +kernel
theorem dX0_taking_98 : decode cX0_taking 98 = .ok (.getfield 255, 3) := by decide +kernel
theorem dX0_taking_101 : decode cX0_taking 101 = .ok (.ifCond .eq 7, 3) := by decide +kernel
theorem dX0_taking_104 : decode cX0_taking 104 = .ok (.iconst 1, 1) := by decide +kernel
theorem dX0_taking_105 : decode cX0_taking 105 = .ok (.goto 4, 3) := by decide +kernel
theorem dX0_taking_108 : decode cX0_taking 108 = .ok (.iconst 0, 1) := by decide +kernel
theorem dX0_taking_109 : decode cX0_taking 109 = .ok (.ireturn, 1) := by decide +kernel
theorem dX0_taking_110 : decode cX0_taking 110 = .ok (.bipush (-2), 2) := by decide +kernel
theorem dX0_taking_112 : decode cX0_taking 112 = .ok (.ireturn, 1) := by decide +kernel
theorem dX0_wronged_0 : decode cX0_wronged 0 = .ok (.iconst 0, 1) := by decide +kernel
theorem dX0_wronged_1 : decode cX0_wronged 1 = .ok (.istore_n 1, 1) := by decide +kernel
theorem dX0_wronged_2 : decode cX0_wronged 2 = .ok (.iconst 0, 1) := by decide +kernel
theorem dX0_wronged_3 : decode cX0_wronged 3 = .ok (.istore_n 2, 1) := by decide +kernel
theorem dX0_wronged_4 : decode cX0_wronged 4 = .ok (.iload_n 2, 1) := by decide +kernel
theorem dX0_wronged_5 : decode cX0_wronged 5 = .ok (.aload_n 0, 1) := by decide +kernel
theorem dX0_wronged_6 : decode cX0_wronged 6 = .ok (.getfield 68, 3) := by decide +kernel
theorem dX0_wronged_9 : decode cX0_wronged 9 = .ok (.if_icmp .ge 30, 3) := by decide +kernel
theorem dX0_wronged_12 : decode cX0_wronged 12 = .ok (.iload_n 1, 1) := by decide +kernel
theorem dX0_wronged_13 : decode cX0_wronged 13 = .ok (.aload_n 0, 1) := by decide +kernel
theorem dX0_wronged_14 : decode cX0_wronged 14 = .ok (.aload_n 0, 1) := by decide +kernel
theorem dX0_wronged_15 : decode cX0_wronged 15 = .ok (.getfield 24, 3) := by decide +kernel
theorem dX0_wronged_18 : decode cX0_wronged 18 = .ok (.iload_n 2, 1) := by decide +kernel
theorem dX0_wronged_19 : decode cX0_wronged 19 = .ok (.aaload, 1) := by decide +kernel
theorem dX0_wronged_20 : decode cX0_wronged 20 = .ok (.invokevirtual 258, 3) := by decide +kernel
theorem dX0_wronged_23 : decode cX0_wronged 23 = .ok (.ifCond .eq 7, 3) := by decide +kernel
theorem dX0_wronged_26 : decode cX0_wronged 26 = .ok (.iconst 1, 1) := by decide +kernel
theorem dX0_wronged_27 : decode cX0_wronged 27 = .ok (.goto 4, 3) := by decide +kernel
theorem dX0_wronged_30 : decode cX0_wronged 30 = .ok (.iconst 0, 1) := by decide +kernel
theorem dX0_wronged_31 : decode cX0_wronged 31 = .ok (.iadd, 1) := by decide +kernel
theorem dX0_wronged_32 : decode cX0_wronged 32 = .ok (.istore_n 1, 1) := by decide +kernel
theorem dX0_wronged_33 : decode cX0_wronged 33 = .ok (.iinc 2 1, 3) := by decide +kernel
theorem dX0_wronged_36 : decode cX0_wronged 36 = .ok (.goto (-32), 3) := by decide +kernel
theorem dX0_wronged_39 : decode cX0_wronged 39 = .ok (.iload_n 1, 1) := by decide +kernel
theorem dX0_wronged_40 : decode cX0_wronged 40 = .ok (.ireturn, 1) := by decide +kernel
theorem dX0_isWronged_0 : decode cX0_isWronged 0 = .ok (.aload_n 1, 1) := by decide +kernel
theorem dX0_isWronged_1 : decode cX0_isWronged 1 = .ok (.invokevirtual 104, 3) := by decide +kernel
theorem dX0_isWronged_4 : decode cX0_isWronged 4 = .ok (.bipush 10, 2) := by decide +kernel
theorem dX0_isWronged_6 : decode cX0_isWronged 6 = .ok (.isub, 1) := by decide +kernel
theorem dX0_isWronged_7 : decode cX0_isWronged 7 = .ok (.istore_n 2, 1) := by decide +kernel
theorem dX0_isWronged_8 : decode cX0_isWronged 8 = .ok (.aload_n 1, 1) := by decide +kernel
theorem dX0_isWronged_9 : decode cX0_isWronged 9 = .ok (.invokevirtual 104, 3) := by decide +kernel
theorem dX0_isWronged_12 : decode cX0_isWronged 12 = .ok (.bipush 20, 2) := by decide +kernel
theorem dX0_isWronged_14 : decode cX0_isWronged 14 = .ok (.if_icmp .eq 38, 3) := by decide +kernel
theorem dX0_isWronged_17 : decode cX0_isWronged 17 = .ok (.aload_n 1, 1) := by decide +kernel
theorem dX0_isWronged_18 : decode cX0_isWronged 18 = .ok (.invokevirtual 104, 3) := by decide +kernel
theorem dX0_isWronged_21 : decode cX0_isWronged 21 = .ok (.bipush 21, 2) := by decide +kernel
