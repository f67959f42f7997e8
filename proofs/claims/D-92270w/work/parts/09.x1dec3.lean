set_option maxRecDepth 100000
theorem dX1_noShip_9 : decode cX1_noShip 9 = .ok (.i2l, 1) := by decide +kernel
theorem dX1_noShip_10 : decode cX1_noShip 10 = .ok (.invokestatic 103, 3) := by decide +kernel
theorem dX1_noShip_13 : decode cX1_noShip 13 = .ok (.ifCond .ne 7, 3) := by decide +kernel
theorem dX1_noShip_16 : decode cX1_noShip 16 = .ok (.iconst 1, 1) := by decide +kernel
theorem dX1_noShip_17 : decode cX1_noShip 17 = .ok (.goto 4, 3) := by decide +kernel
theorem dX1_noShip_20 : decode cX1_noShip 20 = .ok (.iconst 0, 1) := by decide +kernel
theorem dX1_noShip_21 : decode cX1_noShip 21 = .ok (.ireturn, 1) := by decide +kernel
theorem dX1_skilled_0 : decode cX1_skilled 0 = .ok (.iconst 0, 1) := by decide +kernel
theorem dX1_skilled_1 : decode cX1_skilled 1 = .ok (.istore_n 2, 1) := by decide +kernel
theorem dX1_skilled_2 : decode cX1_skilled 2 = .ok (.iconst 0, 1) := by decide +kernel
theorem dX1_skilled_3 : decode cX1_skilled 3 = .ok (.istore_n 3, 1) := by decide +kernel
theorem dX1_skilled_4 : decode cX1_skilled 4 = .ok (.iload_n 3, 1) := by decide +kernel
theorem dX1_skilled_5 : decode cX1_skilled 5 = .ok (.aload_n 0, 1) := by decide +kernel
theorem dX1_skilled_6 : decode cX1_skilled 6 = .ok (.getfield 107, 3) := by decide +kernel
theorem dX1_skilled_9 : decode cX1_skilled 9 = .ok (.if_icmp .ge 41, 3) := by decide +kernel
theorem dX1_skilled_12 : decode cX1_skilled 12 = .ok (.iload_n 2, 1) := by decide +kernel
theorem dX1_skilled_13 : decode cX1_skilled 13 = .ok (.aload_n 0, 1) := by decide +kernel
theorem dX1_skilled_14 : decode cX1_skilled 14 = .ok (.iload_n 3, 1) := by decide +kernel
theorem dX1_skilled_15 : decode cX1_skilled 15 = .ok (.invokevirtual 154, 3) := by decide +kernel
theorem dX1_skilled_18 : decode cX1_skilled 18 = .ok (.iload_n 1, 1) := by decide +kernel
theorem dX1_skilled_19 : decode cX1_skilled 19 = .ok (.if_icmp .ne 22, 3) := by decide +kernel
theorem dX1_skilled_22 : decode cX1_skilled 22 = .ok (.aload_n 0, 1) := by decide +kernel
theorem dX1_skilled_23 : decode cX1_skilled 23 = .ok (.getfield 21, 3) := by decide +kernel
theorem dX1_skilled_26 : decode cX1_skilled 26 = .ok (.bipush 8, 2) := by decide +kernel
theorem dX1_skilled_28 : decode cX1_skilled 28 = .ok (.iload_n 3, 1) := by decide +kernel
theorem dX1_skilled_29 : decode cX1_skilled 29 = .ok (.imul, 1) := by decide +kernel
theorem dX1_skilled_30 : decode cX1_skilled 30 = .ok (.iconst 5, 1) := by decide +kernel
theorem dX1_skilled_31 : decode cX1_skilled 31 = .ok (.iadd, 1) := by decide +kernel
theorem dX1_skilled_32 : decode cX1_skilled 32 = .ok (.iaload, 1) := by decide +kernel
theorem dX1_skilled_33 : decode cX1_skilled 33 = .ok (.iconst 2, 1) := by decide +kernel
theorem dX1_skilled_34 : decode cX1_skilled 34 = .ok (.if_icmp .le 7, 3) := by decide +kernel
theorem dX1_skilled_37 : decode cX1_skilled 37 = .ok (.iconst 1, 1) := by decide +kernel
theorem dX1_skilled_38 : decode cX1_skilled 38 = .ok (.goto 4, 3) := by decide +kernel
theorem dX1_skilled_41 : decode cX1_skilled 41 = .ok (.iconst 0, 1) := by decide +kernel
theorem dX1_skilled_42 : decode cX1_skilled 42 = .ok (.iadd, 1) := by decide +kernel
theorem dX1_skilled_43 : decode cX1_skilled 43 = .ok (.istore_n 2, 1) := by decide +kernel
theorem dX1_skilled_44 : decode cX1_skilled 44 = .ok (.iinc 3 1, 3) := by decide +kernel
theorem dX1_skilled_47 : decode cX1_skilled 47 = .ok (.goto (-43), 3) := by decide +kernel
theorem dX1_skilled_50 : decode cX1_skilled 50 = .ok (.iload_n 2, 1) := by decide +kernel
theorem dX1_skilled_51 : decode cX1_skilled 51 = .ok (.ireturn, 1) := by decide +kernel
theorem dX1_spare_0 : decode cX1_spare 0 = .ok (.aload_n 0, 1) := by decide +kernel
theorem dX1_spare_1 : decode cX1_spare 1 = .ok (.iconst 0, 1) := by decide +kernel
theorem dX1_spare_2 : decode cX1_spare 2 = .ok (.putfield 100, 3) := by decide +kernel
theorem dX1_spare_5 : decode cX1_spare 5 = .ok (.aload_n 0, 1) := by decide +kernel
theorem dX1_spare_6 : decode cX1_spare 6 = .ok (.iload_n 1, 1) := by decide +kernel
theorem dX1_spare_7 : decode cX1_spare 7 = .ok (.invokevirtual 259, 3) := by decide +kernel
theorem dX1_spare_10 : decode cX1_spare 10 = .ok (.ifCond .eq 5, 3) := by decide +kernel
theorem dX1_spare_13 : decode cX1_spare 13 = .ok (.iconst (-1), 1) := by decide +kernel
theorem dX1_spare_14 : decode cX1_spare 14 = .ok (.ireturn, 1) := by decide +kernel
theorem dX1_spare_15 : decode cX1_spare 15 = .ok (.iload_n 2, 1) := by decide +kernel
theorem dX1_spare_16 : decode cX1_spare 16 = .ok (.invokestatic 265, 3) := by decide +kernel
theorem dX1_spare_19 : decode cX1_spare 19 = .ok (.ifCond .eq 6, 3) := by decide +kernel
theorem dX1_spare_22 : decode cX1_spare 22 = .ok (.bipush (-2), 2) := by decide +kernel
theorem dX1_spare_24 : decode cX1_spare 24 = .ok (.ireturn, 1) := by decide +kernel
theorem dX1_spare_25 : decode cX1_spare 25 = .ok (.aload_n 0, 1) := by decide +kernel
theorem dX1_spare_26 : decode cX1_spare 26 = .ok (.getfield 31, 3) := by decide +kernel
theorem dX1_spare_29 : decode cX1_spare 29 = .ok (.iload_n 1, 1) := by decide +kernel
theorem dX1_spare_30 : decode cX1_spare 30 = .ok (.iaload, 1) := by decide +kernel
theorem dX1_spare_31 : decode cX1_spare 31 = .ok (.ifCond .ne 8, 3) := by decide +kernel
theorem dX1_spare_34 : decode cX1_spare 34 = .ok (.bipush (-3), 2) := by decide +kernel
theorem dX1_spare_36 : decode cX1_spare 36 = .ok (.goto 9, 3) := by decide +kernel
theorem dX1_spare_39 : decode cX1_spare 39 = .ok (.aload_n 0, 1) := by decide +kernel
theorem dX1_spare_40 : decode cX1_spare 40 = .ok (.iload_n 1, 1) := by decide +kernel
theorem dX1_spare_41 : decode cX1_spare 41 = .ok (.iload_n 2, 1) := by decide +kernel
theorem dX1_spare_42 : decode cX1_spare 42 = .ok (.invokevirtual 268, 3) := by decide +kernel
theorem dX1_spare_45 : decode cX1_spare 45 = .ok (.ireturn, 1) := by decide +kernel
theorem dX1_badWeather_0 : decode cX1_badWeather 0 = .ok (.iload_n 0, 1) := by decide +kernel
theorem dX1_badWeather_1 : decode cX1_badWeather 1 = .ok (.i2l, 1) := by decide +kernel
theorem dX1_badWeather_2 : decode cX1_badWeather 2 = .ok (.lconst 0, 1) := by decide +kernel
theorem dX1_badWeather_3 : decode cX1_badWeather 3 = .ok (.ldc2_w 131, 3) := by decide +kernel
theorem dX1_badWeather_6 : decode cX1_badWeather 6 = .ok (.invokestatic 103, 3) := by decide +kernel
theorem dX1_badWeather_9 : decode cX1_badWeather 9 = .ok (.ifCond .ne 7, 3) := by decide +kernel
theorem dX1_badWeather_12 : decode cX1_badWeather 12 = .ok (.iconst 1, 1) := by decide +kernel
theorem dX1_badWeather_13 : decode cX1_badWeather 13 = .ok (.goto 4, 3) := by decide +kernel
theorem dX1_badWeather_16 : decode cX1_badWeather 16 = .ok (.iconst 0, 1) := by decide +kernel
theorem dX1_badWeather_17 : decode cX1_badWeather 17 = .ok (.ireturn, 1) := by decide +kernel
theorem dX1_spared_0 : decode cX1_spared 0 = .ok (.aload_n 0, 1) := by decide +kernel
theorem dX1_spared_1 : decode cX1_spared 1 = .ok (.bipush 10, 2) := by decide +kernel
theorem dX1_spared_3 : decode cX1_spared 3 = .ok (.iload_n 1, 1) := by decide +kernel
theorem dX1_spared_4 : decode cX1_spared 4 = .ok (.iadd, 1) := by decide +kernel
theorem dX1_spared_5 : decode cX1_spared 5 = .ok (.invokevirtual 162, 3) := by decide +kernel
theorem dX1_spared_8 : decode cX1_spared 8 = .ok (.aload_n 0, 1) := by decide +kernel
theorem dX1_spared_9 : decode cX1_spared 9 = .ok (.getfield 40, 3) := by decide +kernel
theorem dX1_spared_12 : decode cX1_spared 12 = .ok (.iload_n 1, 1) := by decide +kernel
theorem dX1_spared_13 : decode cX1_spared 13 = .ok (.iaload, 1) := by decide +kernel
theorem dX1_spared_14 : decode cX1_spared 14 = .ok (.isub, 1) := by decide +kernel
theorem dX1_spared_15 : decode cX1_spared 15 = .ok (.iload_n 2, 1) := by decide +kernel
theorem dX1_spared_16 : decode cX1_spared 16 = .ok (.isub, 1) := by decide +kernel
theorem dX1_spared_17 : decode cX1_spared 17 = .ok (.istore_n 3, 1) := by decide +kernel
theorem dX1_spared_18 : decode cX1_spared 18 = .ok (.iload_n 3, 1) := by decide +kernel
theorem dX1_spared_19 : decode cX1_spared 19 = .ok (.ifCond .le 7, 3) := by decide +kernel
theorem dX1_spared_22 : decode cX1_spared 22 = .ok (.iload_n 3, 1) := by decide +kernel
theorem dX1_spared_23 : decode cX1_spared 23 = .ok (.goto 4, 3) := by decide +kernel
theorem dX1_spared_26 : decode cX1_spared 26 = .ok (.iconst 0, 1) := by decide +kernel
theorem dX1_spared_27 : decode cX1_spared 27 = .ok (.ireturn, 1) := by decide +kernel
theorem dX1_board_0 : decode cX1_board 0 = .ok (.aload_n 0, 1) := by decide +kernel
theorem dX1_board_1 : decode cX1_board 1 = .ok (.iconst 0, 1) := by decide +kernel
theorem dX1_board_2 : decode cX1_board 2 = .ok (.putfield 100, 3) := by decide +kernel
theorem dX1_board_5 : decode cX1_board 5 = .ok (.aload_n 0, 1) := by decide +kernel
theorem dX1_board_6 : decode cX1_board 6 = .ok (.iload_n 1, 1) := by decide +kernel
theorem dX1_board_7 : decode cX1_board 7 = .ok (.invokevirtual 144, 3) := by decide +kernel
theorem dX1_board_10 : decode cX1_board 10 = .ok (.ifCond .ne 11, 3) := by decide +kernel
theorem dX1_board_13 : decode cX1_board 13 = .ok (.aload_n 0, 1) := by decide +kernel
theorem dX1_board_14 : decode cX1_board 14 = .ok (.iload_n 2, 1) := by decide +kernel
theorem dX1_board_15 : decode cX1_board 15 = .ok (.invokevirtual 259, 3) := by decide +kernel
theorem dX1_board_18 : decode cX1_board 18 = .ok (.ifCond .eq 5, 3) := by decide +kernel
theorem dX1_board_21 : decode cX1_board 21 = .ok (.iconst (-1), 1) := by decide +kernel
theorem dX1_board_22 : decode cX1_board 22 = .ok (.ireturn, 1) := by decide +kernel
theorem dX1_board_23 : decode cX1_board 23 = .ok (.aload_n 0, 1) := by decide +kernel
theorem dX1_board_24 : decode cX1_board 24 = .ok (.iload_n 1, 1) := by decide +kernel
theorem dX1_board_25 : decode cX1_board 25 = .ok (.invokevirtual 154, 3) := by decide +kernel
theorem dX1_board_28 : decode cX1_board 28 = .ok (.invokestatic 171, 3) := by decide +kernel
theorem dX1_board_31 : decode cX1_board 31 = .ok (.ifCond .eq 12, 3) := by decide +kernel
theorem dX1_board_34 : decode cX1_board 34 = .ok (.aload_n 0, 1) := by decide +kernel
theorem dX1_board_35 : decode cX1_board 35 = .ok (.getfield 43, 3) := by decide +kernel
theorem dX1_board_38 : decode cX1_board 38 = .ok (.iload_n 2, 1) := by decide +kernel
theorem dX1_board_39 : decode cX1_board 39 = .ok (.baload, 1) := by decide +kernel
theorem dX1_board_40 : decode cX1_board 40 = .ok (.ifCond .eq 6, 3) := by decide +kernel
theorem dX1_board_43 : decode cX1_board 43 = .ok (.bipush (-3), 2) := by decide +kernel
theorem dX1_board_45 : decode cX1_board 45 = .ok (.ireturn, 1) := by decide +kernel
theorem dX1_board_46 : decode cX1_board 46 = .ok (.aload_n 0, 1) := by decide +kernel
theorem dX1_board_47 : decode cX1_board 47 = .ok (.bipush 10, 2) := by decide +kernel
theorem dX1_board_49 : decode cX1_board 49 = .ok (.iload_n 2, 1) := by decide +kernel
theorem dX1_board_50 : decode cX1_board 50 = .ok (.iadd, 1) := by decide +kernel
theorem dX1_board_51 : decode cX1_board 51 = .ok (.invokevirtual 162, 3) := by decide +kernel
theorem dX1_board_54 : decode cX1_board 54 = .ok (.iconst 2, 1) := by decide +kernel
theorem dX1_board_55 : decode cX1_board 55 = .ok (.aload_n 0, 1) := by decide +kernel
theorem dX1_board_56 : decode cX1_board 56 = .ok (.getfield 34, 3) := by decide +kernel
theorem dX1_board_59 : decode cX1_board 59 = .ok (.iload_n 2, 1) := by decide +kernel
theorem dX1_board_60 : decode cX1_board 60 = .ok (.iaload, 1) := by decide +kernel
theorem dX1_board_61 : decode cX1_board 61 = .ok (.imul, 1) := by decide +kernel
theorem dX1_board_62 : decode cX1_board 62 = .ok (.if_icmp .lt 6, 3) := by decide +kernel
theorem dX1_board_65 : decode cX1_board 65 = .ok (.bipush (-4), 2) := by decide +kernel
theorem dX1_board_67 : decode cX1_board 67 = .ok (.ireturn, 1) := by decide +kernel
theorem dX1_board_68 : decode cX1_board 68 = .ok (.aload_n 0, 1) := by decide +kernel
theorem dX1_board_69 : decode cX1_board 69 = .ok (.iload_n 1, 1) := by decide +kernel
theorem dX1_board_70 : decode cX1_board 70 = .ok (.bipush 10, 2) := by decide +kernel
theorem dX1_board_72 : decode cX1_board 72 = .ok (.iload_n 2, 1) := by decide +kernel
theorem dX1_board_73 : decode cX1_board 73 = .ok (.iadd, 1) := by decide +kernel
theorem dX1_board_74 : decode cX1_board 74 = .ok (.invokevirtual 177, 3) := by decide +kernel
theorem dX1_board_77 : decode cX1_board 77 = .ok (.aload_n 0, 1) := by decide +kernel
theorem dX1_board_78 : decode cX1_board 78 = .ok (.bipush 10, 2) := by decide +kernel
theorem dX1_board_80 : decode cX1_board 80 = .ok (.iload_n 2, 1) := by decide +kernel
theorem dX1_board_81 : decode cX1_board 81 = .ok (.iadd, 1) := by decide +kernel
theorem dX1_board_82 : decode cX1_board 82 = .ok (.invokevirtual 162, 3) := by decide +kernel
theorem dX1_board_85 : decode cX1_board 85 = .ok (.ireturn, 1) := by decide +kernel
theorem dX1_turn_0 : decode cX1_turn 0 = .ok (.aload_n 0, 1) := by decide +kernel
theorem dX1_turn_1 : decode cX1_turn 1 = .ok (.iconst 0, 1) := by decide +kernel
theorem dX1_turn_2 : decode cX1_turn 2 = .ok (.putfield 100, 3) := by decide +kernel
theorem dX1_turn_5 : decode cX1_turn 5 = .ok (.aload_n 0, 1) := by decide +kernel
theorem dX1_turn_6 : decode cX1_turn 6 = .ok (.iload_n 1, 1) := by decide +kernel
theorem dX1_turn_7 : decode cX1_turn 7 = .ok (.invokevirtual 144, 3) := by decide +kernel
theorem dX1_turn_10 : decode cX1_turn 10 = .ok (.ifCond .ne 11, 3) := by decide +kernel
theorem dX1_turn_13 : decode cX1_turn 13 = .ok (.aload_n 0, 1) := by decide +kernel
theorem dX1_turn_14 : decode cX1_turn 14 = .ok (.iload_n 2, 1) := by decide +kernel
theorem dX1_turn_15 : decode cX1_turn 15 = .ok (.invokevirtual 259, 3) := by decide +kernel
theorem dX1_turn_18 : decode cX1_turn 18 = .ok (.ifCond .eq 5, 3) := by decide +kernel
theorem dX1_turn_21 : decode cX1_turn 21 = .ok (.iconst (-1), 1) := by decide +kernel
theorem dX1_turn_22 : decode cX1_turn 22 = .ok (.ireturn, 1) := by decide +kernel
theorem dX1_turn_23 : decode cX1_turn 23 = .ok (.aload_n 0, 1) := by decide +kernel
theorem dX1_turn_24 : decode cX1_turn 24 = .ok (.iload_n 1, 1) := by decide +kernel
theorem dX1_turn_25 : decode cX1_turn 25 = .ok (.invokevirtual 154, 3) := by decide +kernel
theorem dX1_turn_28 : decode cX1_turn 28 = .ok (.istore_n 3, 1) := by decide +kernel
theorem dX1_turn_29 : decode cX1_turn 29 = .ok (.iload_n 3, 1) := by decide +kernel
theorem dX1_turn_30 : decode cX1_turn 30 = .ok (.bipush 20, 2) := by decide +kernel
theorem dX1_turn_32 : decode cX1_turn 32 = .ok (.if_icmp .eq 11, 3) := by decide +kernel
theorem dX1_turn_35 : decode cX1_turn 35 = .ok (.aload_n 0, 1) := by decide +kernel
theorem dX1_turn_36 : decode cX1_turn 36 = .ok (.iload_n 3, 1) := by decide +kernel
theorem dX1_turn_37 : decode cX1_turn 37 = .ok (.invokevirtual 236, 3) := by decide +kernel
theorem dX1_turn_40 : decode cX1_turn 40 = .ok (.ifCond .eq 20, 3) := by decide +kernel
theorem dX1_turn_43 : decode cX1_turn 43 = .ok (.iload_n 3, 1) := by decide +kernel
theorem dX1_turn_44 : decode cX1_turn 44 = .ok (.bipush 10, 2) := by decide +kernel
theorem dX1_turn_46 : decode cX1_turn 46 = .ok (.iload_n 2, 1) := by decide +kernel
theorem dX1_turn_47 : decode cX1_turn 47 = .ok (.iadd, 1) := by decide +kernel
theorem dX1_turn_48 : decode cX1_turn 48 = .ok (.if_icmp .eq 12, 3) := by decide +kernel
theorem dX1_turn_51 : decode cX1_turn 51 = .ok (.aload_n 0, 1) := by decide +kernel
theorem dX1_turn_52 : decode cX1_turn 52 = .ok (.getfield 43, 3) := by decide +kernel
theorem dX1_turn_55 : decode cX1_turn 55 = .ok (.iload_n 2, 1) := by decide +kernel
theorem dX1_turn_56 : decode cX1_turn 56 = .ok (.baload, 1) := by decide +kernel
theorem dX1_turn_57 : decode cX1_turn 57 = .ok (.ifCond .eq 6, 3) := by decide +kernel
theorem dX1_turn_60 : decode cX1_turn 60 = .ok (.bipush (-3), 2) := by decide +kernel
theorem dX1_turn_62 : decode cX1_turn 62 = .ok (.ireturn, 1) := by decide +kernel
theorem dX1_turn_63 : decode cX1_turn 63 = .ok (.aload_n 0, 1) := by decide +kernel
theorem dX1_turn_64 : decode cX1_turn 64 = .ok (.bipush 10, 2) := by decide +kernel
theorem dX1_turn_66 : decode cX1_turn 66 = .ok (.iload_n 2, 1) := by decide +kernel
theorem dX1_turn_67 : decode cX1_turn 67 = .ok (.iadd, 1) := by decide +kernel
theorem dX1_turn_68 : decode cX1_turn 68 = .ok (.invokevirtual 162, 3) := by decide +kernel
theorem dX1_turn_71 : decode cX1_turn 71 = .ok (.iconst 2, 1) := by decide +kernel
theorem dX1_turn_72 : decode cX1_turn 72 = .ok (.aload_n 0, 1) := by decide +kernel
theorem dX1_turn_73 : decode cX1_turn 73 = .ok (.getfield 34, 3) := by decide +kernel
theorem dX1_turn_76 : decode cX1_turn 76 = .ok (.iload_n 2, 1) := by decide +kernel
theorem dX1_turn_77 : decode cX1_turn 77 = .ok (.iaload, 1) := by decide +kernel
theorem dX1_turn_78 : decode cX1_turn 78 = .ok (.imul, 1) := by decide +kernel
theorem dX1_turn_79 : decode cX1_turn 79 = .ok (.if_icmp .lt 6, 3) := by decide +kernel
theorem dX1_turn_82 : decode cX1_turn 82 = .ok (.bipush (-4), 2) := by decide +kernel
theorem dX1_turn_84 : decode cX1_turn 84 = .ok (.ireturn, 1) := by decide +kernel
theorem dX1_turn_85 : decode cX1_turn 85 = .ok (.aload_n 0, 1) := by decide +kernel
theorem dX1_turn_86 : decode cX1_turn 86 = .ok (.iload_n 1, 1) := by decide +kernel
theorem dX1_turn_87 : decode cX1_turn 87 = .ok (.bipush 10, 2) := by decide +kernel
theorem dX1_turn_89 : decode cX1_turn 89 = .ok (.iload_n 2, 1) := by decide +kernel
theorem dX1_turn_90 : decode cX1_turn 90 = .ok (.iadd, 1) := by decide +kernel
theorem dX1_turn_91 : decode cX1_turn 91 = .ok (.invokevirtual 177, 3) := by decide +kernel
theorem dX1_turn_94 : decode cX1_turn 94 = .ok (.iload_n 3, 1) := by decide +kernel
theorem dX1_turn_95 : decode cX1_turn 95 = .ok (.ireturn, 1) := by decide +kernel
theorem dX1_notAshore_0 : decode cX1_notAshore 0 = .ok (.aload_n 0, 1) := by decide +kernel
theorem dX1_notAshore_1 : decode cX1_notAshore 1 = .ok (.iconst 0, 1) := by decide +kernel
theorem dX1_notAshore_2 : decode cX1_notAshore 2 = .ok (.putfield 100, 3) := by decide +kernel
theorem dX1_notAshore_5 : decode cX1_notAshore 5 = .ok (.aload_n 0, 1) := by decide +kernel
theorem dX1_notAshore_6 : decode cX1_notAshore 6 = .ok (.iload_n 1, 1) := by decide +kernel
theorem dX1_notAshore_7 : decode cX1_notAshore 7 = .ok (.invokevirtual 144, 3) := by decide +kernel
theorem dX1_notAshore_10 : decode cX1_notAshore 10 = .ok (.ifCond .eq 5, 3) := by decide +kernel
theorem dX1_notAshore_13 : decode cX1_notAshore 13 = .ok (.iconst (-1), 1) := by decide +kernel
theorem dX1_notAshore_14 : decode cX1_notAshore 14 = .ok (.ireturn, 1) := by decide +kernel
theorem dX1_notAshore_15 : decode cX1_notAshore 15 = .ok (.iload_n 2, 1) := by decide +kernel
theorem dX1_notAshore_16 : decode cX1_notAshore 16 = .ok (.i2l, 1) := by decide +kernel
theorem dX1_notAshore_17 : decode cX1_notAshore 17 = .ok (.lconst 0, 1) := by decide +kernel
theorem dX1_notAshore_18 : decode cX1_notAshore 18 = .ok (.aload_n 0, 1) := by decide +kernel
theorem dX1_notAshore_19 : decode cX1_notAshore 19 = .ok (.getfield 141, 3) := by decide +kernel
theorem dX1_notAshore_22 : decode cX1_notAshore 22 = .ok (.i2l, 1) := by decide +kernel
theorem dX1_notAshore_23 : decode cX1_notAshore 23 = .ok (.invokestatic 103, 3) := by decide +kernel
theorem dX1_notAshore_26 : decode cX1_notAshore 26 = .ok (.ifCond .ne 6, 3) := by decide +kernel
theorem dX1_notAshore_29 : decode cX1_notAshore 29 = .ok (.bipush (-2), 2) := by decide +kernel
theorem dX1_notAshore_31 : decode cX1_notAshore 31 = .ok (.ireturn, 1) := by decide +kernel
theorem dX1_notAshore_32 : decode cX1_notAshore 32 = .ok (.iload_n 2, 1) := by decide +kernel
theorem dX1_notAshore_33 : decode cX1_notAshore 33 = .ok (.istore_n 3, 1) := by decide +kernel
theorem dX1_notAshore_34 : decode cX1_notAshore 34 = .ok (.iload_n 3, 1) := by decide +kernel
theorem dX1_notAshore_35 : decode cX1_notAshore 35 = .ok (.ifCond .lt 42, 3) := by decide +kernel
theorem dX1_notAshore_38 : decode cX1_notAshore 38 = .ok (.aload_n 0, 1) := by decide +kernel
theorem dX1_notAshore_39 : decode cX1_notAshore 39 = .ok (.getfield 28, 3) := by decide +kernel
theorem dX1_notAshore_42 : decode cX1_notAshore 42 = .ok (.bipush 40, 2) := by decide +kernel
theorem dX1_notAshore_44 : decode cX1_notAshore 44 = .ok (.iload_n 3, 1) := by decide +kernel
theorem dX1_notAshore_45 : decode cX1_notAshore 45 = .ok (.imul, 1) := by decide +kernel
theorem dX1_notAshore_46 : decode cX1_notAshore 46 = .ok (.iload_n 1, 1) := by decide +kernel
theorem dX1_notAshore_47 : decode cX1_notAshore 47 = .ok (.iadd, 1) := by decide +kernel
theorem dX1_notAshore_48 : decode cX1_notAshore 48 = .ok (.iaload, 1) := by decide +kernel
theorem dX1_notAshore_49 : decode cX1_notAshore 49 = .ok (.invokestatic 171, 3) := by decide +kernel
theorem dX1_notAshore_52 : decode cX1_notAshore 52 = .ok (.ifCond .ne 25, 3) := by decide +kernel
theorem dX1_notAshore_55 : decode cX1_notAshore 55 = .ok (.aload_n 0, 1) := by decide +kernel
theorem dX1_notAshore_56 : decode cX1_notAshore 56 = .ok (.getfield 28, 3) := by decide +kernel
theorem dX1_notAshore_59 : decode cX1_notAshore 59 = .ok (.bipush 40, 2) := by decide +kernel
theorem dX1_notAshore_61 : decode cX1_notAshore 61 = .ok (.iload_n 3, 1) := by decide +kernel
theorem dX1_notAshore_62 : decode cX1_notAshore 62 = .ok (.imul, 1) := by decide +kernel
theorem dX1_notAshore_63 : decode cX1_notAshore 63 = .ok (.iload_n 1, 1) := by decide +kernel
theorem dX1_notAshore_64 : decode cX1_notAshore 64 = .ok (.iadd, 1) := by decide +kernel
theorem dX1_notAshore_65 : decode cX1_notAshore 65 = .ok (.iaload, 1) := by decide +kernel
theorem dX1_notAshore_66 : decode cX1_notAshore 66 = .ok (.bipush 22, 2) := by decide +kernel
theorem dX1_notAshore_68 : decode cX1_notAshore 68 = .ok (.if_icmp .eq 9, 3) := by decide +kernel
theorem dX1_notAshore_71 : decode cX1_notAshore 71 = .ok (.iinc 3 (-1), 3) := by decide +kernel
theorem dX1_notAshore_74 : decode cX1_notAshore 74 = .ok (.goto (-40), 3) := by decide +kernel
theorem dX1_notAshore_77 : decode cX1_notAshore 77 = .ok (.iload_n 2, 1) := by decide +kernel
theorem dX1_notAshore_78 : decode cX1_notAshore 78 = .ok (.iload_n 3, 1) := by decide +kernel
theorem dX1_notAshore_79 : decode cX1_notAshore 79 = .ok (.isub, 1) := by decide +kernel
theorem dX1_notAshore_80 : decode cX1_notAshore 80 = .ok (.ireturn, 1) := by decide +kernel
theorem dX1_taken_0 : decode cX1_taken 0 = .ok (.aload_n 0, 1) := by decide +kernel
theorem dX1_taken_1 : decode cX1_taken 1 = .ok (.iconst 0, 1) := by decide +kernel
theorem dX1_taken_2 : decode cX1_taken 2 = .ok (.putfield 100, 3) := by decide +kernel
theorem dX1_taken_5 : decode cX1_taken 5 = .ok (.iload_n 2, 1) := by decide +kernel
theorem dX1_taken_6 : decode cX1_taken 6 = .ok (.invokestatic 265, 3) := by decide +kernel
theorem dX1_taken_9 : decode cX1_taken 9 = .ok (.ifCond .ne 21, 3) := by decide +kernel
theorem dX1_taken_12 : decode cX1_taken 12 = .ok (.iload_n 1, 1) := by decide +kernel
theorem dX1_taken_13 : decode cX1_taken 13 = .ok (.i2l, 1) := by decide +kernel
theorem dX1_taken_14 : decode cX1_taken 14 = .ok (.lconst 0, 1) := by decide +kernel
theorem dX1_taken_15 : decode cX1_taken 15 = .ok (.iconst 1, 1) := by decide +kernel
theorem dX1_taken_16 : decode cX1_taken 16 = .ok (.aload_n 0, 1) := by decide +kernel
theorem dX1_taken_17 : decode cX1_taken 17 = .ok (.getfield 110, 3) := by decide +kernel
theorem dX1_taken_20 : decode cX1_taken 20 = .ok (.ishl, 1) := by decide +kernel
theorem dX1_taken_21 : decode cX1_taken 21 = .ok (.iconst 1, 1) := by decide +kernel
theorem dX1_taken_22 : decode cX1_taken 22 = .ok (.isub, 1) := by decide +kernel
theorem dX1_taken_23 : decode cX1_taken 23 = .ok (.i2l, 1) := by decide +kernel
theorem dX1_taken_24 : decode cX1_taken 24 = .ok (.invokestatic 103, 3) := by decide +kernel
theorem dX1_taken_27 : decode cX1_taken 27 = .ok (.ifCond .ne 6, 3) := by decide +kernel
theorem dX1_taken_30 : decode cX1_taken 30 = .ok (.bipush (-2), 2) := by decide +kernel
theorem dX1_taken_32 : decode cX1_taken 32 = .ok (.ireturn, 1) := by decide +kernel
theorem dX1_taken_33 : decode cX1_taken 33 = .ok (.iconst 0, 1) := by decide +kernel
theorem dX1_taken_34 : decode cX1_taken 34 = .ok (.istore_n 3, 1) := by decide +kernel
theorem dX1_taken_35 : decode cX1_taken 35 = .ok (.iload_n 3, 1) := by decide +kernel
theorem dX1_taken_36 : decode cX1_taken 36 = .ok (.aload_n 0, 1) := by decide +kernel
theorem dX1_taken_37 : decode cX1_taken 37 = .ok (.getfield 110, 3) := by decide +kernel
theorem dX1_taken_40 : decode cX1_taken 40 = .ok (.if_icmp .ge 29, 3) := by decide +kernel
theorem dX1_taken_43 : decode cX1_taken 43 = .ok (.iload_n 1, 1) := by decide +kernel
theorem dX1_taken_44 : decode cX1_taken 44 = .ok (.iload_n 3, 1) := by decide +kernel
theorem dX1_taken_45 : decode cX1_taken 45 = .ok (.ishr, 1) := by decide +kernel
theorem dX1_taken_46 : decode cX1_taken 46 = .ok (.iconst 1, 1) := by decide +kernel
theorem dX1_taken_47 : decode cX1_taken 47 = .ok (.iand, 1) := by decide +kernel
theorem dX1_taken_48 : decode cX1_taken 48 = .ok (.iconst 1, 1) := by decide +kernel
theorem dX1_taken_49 : decode cX1_taken 49 = .ok (.if_icmp .ne 14, 3) := by decide +kernel
theorem dX1_taken_52 : decode cX1_taken 52 = .ok (.aload_n 0, 1) := by decide +kernel
theorem dX1_taken_53 : decode cX1_taken 53 = .ok (.iload_n 3, 1) := by decide +kernel
theorem dX1_taken_54 : decode cX1_taken 54 = .ok (.invokevirtual 271, 3) := by decide +kernel
theorem dX1_taken_57 : decode cX1_taken 57 = .ok (.ifCond .ne 6, 3) := by decide +kernel
theorem dX1_taken_60 : decode cX1_taken 60 = .ok (.bipush (-2), 2) := by decide +kernel
theorem dX1_taken_62 : decode cX1_taken 62 = .ok (.ireturn, 1) := by decide +kernel
theorem dX1_taken_63 : decode cX1_taken 63 = .ok (.iinc 3 1, 3) := by decide +kernel
theorem dX1_taken_66 : decode cX1_taken 66 = .ok (.goto (-31), 3) := by decide +kernel
theorem dX1_taken_69 : decode cX1_taken 69 = .ok (.aload_n 0, 1) := by decide +kernel
theorem dX1_taken_70 : decode cX1_taken 70 = .ok (.iload_n 1, 1) := by decide +kernel
theorem dX1_taken_71 : decode cX1_taken 71 = .ok (.iload_n 2, 1) := by decide +kernel
theorem dX1_taken_72 : decode cX1_taken 72 = .ok (.invokevirtual 274, 3) := by decide +kernel
theorem dX1_taken_75 : decode cX1_taken 75 = .ok (.ireturn, 1) := by decide +kernel
theorem dX1_mayGo_0 : decode cX1_mayGo 0 = .ok (.aload_n 0, 1) := by decide +kernel
theorem dX1_mayGo_1 : decode cX1_mayGo 1 = .ok (.getfield 31, 3) := by decide +kernel
theorem dX1_mayGo_4 : decode cX1_mayGo 4 = .ok (.iload_n 1, 1) := by decide +kernel
theorem dX1_mayGo_5 : decode cX1_mayGo 5 = .ok (.iaload, 1) := by decide +kernel
theorem dX1_mayGo_6 : decode cX1_mayGo 6 = .ok (.ifCond .ne 16, 3) := by decide +kernel
theorem dX1_mayGo_9 : decode cX1_mayGo 9 = .ok (.aload_n 0, 1) := by decide +kernel
theorem dX1_mayGo_10 : decode cX1_mayGo 10 = .ok (.getfield 43, 3) := by decide +kernel
theorem dX1_mayGo_13 : decode cX1_mayGo 13 = .ok (.iload_n 1, 1) := by decide +kernel
theorem dX1_mayGo_14 : decode cX1_mayGo 14 = .ok (.baload, 1) := by decide +kernel
theorem dX1_mayGo_15 : decode cX1_mayGo 15 = .ok (.ifCond .ne 7, 3) := by decide +kernel
theorem dX1_mayGo_18 : decode cX1_mayGo 18 = .ok (.iconst 1, 1) := by decide +kernel
theorem dX1_mayGo_19 : decode cX1_mayGo 19 = .ok (.goto 4, 3) := by decide +kernel
theorem dX1_mayGo_22 : decode cX1_mayGo 22 = .ok (.iconst 0, 1) := by decide +kernel
theorem dX1_mayGo_23 : decode cX1_mayGo 23 = .ok (.ireturn, 1) := by decide +kernel
theorem dX1_fewest_0 : decode cX1_fewest 0 = .ok (.aload_n 0, 1) := by decide +kernel
theorem dX1_fewest_1 : decode cX1_fewest 1 = .ok (.bipush 20, 2) := by decide +kernel
theorem dX1_fewest_3 : decode cX1_fewest 3 = .ok (.invokevirtual 162, 3) := by decide +kernel
theorem dX1_fewest_6 : decode cX1_fewest 6 = .ok (.ineg, 1) := by decide +kernel
theorem dX1_fewest_7 : decode cX1_fewest 7 = .ok (.istore_n 3, 1) := by decide +kernel
theorem dX1_fewest_8 : decode cX1_fewest 8 = .ok (.aload_n 0, 1) := by decide +kernel
theorem dX1_fewest_9 : decode cX1_fewest 9 = .ok (.bipush 20, 2) := by decide +kernel
theorem dX1_fewest_11 : decode cX1_fewest 11 = .ok (.invokevirtual 262, 3) := by decide +kernel
theorem dX1_fewest_14 : decode cX1_fewest 14 = .ok (.ineg, 1) := by decide +kernel
theorem dX1_fewest_15 : decode cX1_fewest 15 = .ok (.istore 4, 2) := by decide +kernel
theorem dX1_fewest_17 : decode cX1_fewest 17 = .ok (.iconst 0, 1) := by decide +kernel
theorem dX1_fewest_18 : decode cX1_fewest 18 = .ok (.istore 5, 2) := by decide +kernel
theorem dX1_fewest_20 : decode cX1_fewest 20 = .ok (.iconst 0, 1) := by decide +kernel
theorem dX1_fewest_21 : decode cX1_fewest 21 = .ok (.istore 6, 2) := by decide +kernel
theorem dX1_fewest_23 : decode cX1_fewest 23 = .ok (.iconst 0, 1) := by decide +kernel
theorem dX1_fewest_24 : decode cX1_fewest 24 = .ok (.istore 7, 2) := by decide +kernel
theorem dX1_fewest_26 : decode cX1_fewest 26 = .ok (.iload 7, 2) := by decide +kernel
theorem dX1_fewest_28 : decode cX1_fewest 28 = .ok (.aload_n 0, 1) := by decide +kernel
theorem dX1_fewest_29 : decode cX1_fewest 29 = .ok (.getfield 110, 3) := by decide +kernel
theorem dX1_fewest_32 : decode cX1_fewest 32 = .ok (.if_icmp .ge 164, 3) := by decide +kernel
theorem dX1_fewest_35 : decode cX1_fewest 35 = .ok (.aload_n 0, 1) := by decide +kernel
theorem dX1_fewest_36 : decode cX1_fewest 36 = .ok (.iload 7, 2) := by decide +kernel
theorem dX1_fewest_38 : decode cX1_fewest 38 = .ok (.invokevirtual 271, 3) := by decide +kernel
theorem dX1_fewest_41 : decode cX1_fewest 41 = .ok (.ifCond .eq 82, 3) := by decide +kernel
theorem dX1_fewest_44 : decode cX1_fewest 44 = .ok (.iload_n 3, 1) := by decide +kernel
theorem dX1_fewest_45 : decode cX1_fewest 45 = .ok (.aload_n 0, 1) := by decide +kernel
theorem dX1_fewest_46 : decode cX1_fewest 46 = .ok (.bipush 10, 2) := by decide +kernel
theorem dX1_fewest_48 : decode cX1_fewest 48 = .ok (.iload 7, 2) := by decide +kernel
theorem dX1_fewest_50 : decode cX1_fewest 50 = .ok (.iadd, 1) := by decide +kernel
theorem dX1_fewest_51 : decode cX1_fewest 51 = .ok (.invokevirtual 162, 3) := by decide +kernel
theorem dX1_fewest_54 : decode cX1_fewest 54 = .ok (.isub, 1) := by decide +kernel
theorem dX1_fewest_55 : decode cX1_fewest 55 = .ok (.istore_n 3, 1) := by decide +kernel
theorem dX1_fewest_56 : decode cX1_fewest 56 = .ok (.iload 4, 2) := by decide +kernel
theorem dX1_fewest_58 : decode cX1_fewest 58 = .ok (.aload_n 0, 1) := by decide +kernel
theorem dX1_fewest_59 : decode cX1_fewest 59 = .ok (.bipush 10, 2) := by decide +kernel
theorem dX1_fewest_61 : decode cX1_fewest 61 = .ok (.iload 7, 2) := by decide +kernel
theorem dX1_fewest_63 : decode cX1_fewest 63 = .ok (.iadd, 1) := by decide +kernel
theorem dX1_fewest_64 : decode cX1_fewest 64 = .ok (.invokevirtual 262, 3) := by decide +kernel
theorem dX1_fewest_67 : decode cX1_fewest 67 = .ok (.isub, 1) := by decide +kernel
theorem dX1_fewest_68 : decode cX1_fewest 68 = .ok (.istore 4, 2) := by decide +kernel
theorem dX1_fewest_70 : decode cX1_fewest 70 = .ok (.iload_n 3, 1) := by decide +kernel
theorem dX1_fewest_71 : decode cX1_fewest 71 = .ok (.iload_n 1, 1) := by decide +kernel
theorem dX1_fewest_72 : decode cX1_fewest 72 = .ok (.iload 7, 2) := by decide +kernel
theorem dX1_fewest_74 : decode cX1_fewest 74 = .ok (.ishr, 1) := by decide +kernel
theorem dX1_fewest_75 : decode cX1_fewest 75 = .ok (.iconst 1, 1) := by decide +kernel
theorem dX1_fewest_76 : decode cX1_fewest 76 = .ok (.iand, 1) := by decide +kernel
theorem dX1_fewest_77 : decode cX1_fewest 77 = .ok (.iconst 1, 1) := by decide +kernel
theorem dX1_fewest_78 : decode cX1_fewest 78 = .ok (.if_icmp .ne 13, 3) := by decide +kernel
theorem dX1_fewest_81 : decode cX1_fewest 81 = .ok (.aload_n 0, 1) := by decide +kernel
theorem dX1_fewest_82 : decode cX1_fewest 82 = .ok (.getfield 34, 3) := by decide +kernel
theorem dX1_fewest_85 : decode cX1_fewest 85 = .ok (.iload 7, 2) := by decide +kernel
theorem dX1_fewest_87 : decode cX1_fewest 87 = .ok (.iaload, 1) := by decide +kernel
theorem dX1_fewest_88 : decode cX1_fewest 88 = .ok (.goto 4, 3) := by decide +kernel
theorem dX1_fewest_91 : decode cX1_fewest 91 = .ok (.iconst 0, 1) := by decide +kernel
theorem dX1_fewest_92 : decode cX1_fewest 92 = .ok (.iadd, 1) := by decide +kernel
theorem dX1_fewest_93 : decode cX1_fewest 93 = .ok (.istore_n 3, 1) := by decide +kernel
theorem dX1_fewest_94 : decode cX1_fewest 94 = .ok (.iload 4, 2) := by decide +kernel
theorem dX1_fewest_96 : decode cX1_fewest 96 = .ok (.iload_n 1, 1) := by decide +kernel
theorem dX1_fewest_97 : decode cX1_fewest 97 = .ok (.iload 7, 2) := by decide +kernel
theorem dX1_fewest_99 : decode cX1_fewest 99 = .ok (.ishr, 1) := by decide +kernel
theorem dX1_fewest_100 : decode cX1_fewest 100 = .ok (.iconst 1, 1) := by decide +kernel
theorem dX1_fewest_101 : decode cX1_fewest 101 = .ok (.iand, 1) := by decide +kernel
theorem dX1_fewest_102 : decode cX1_fewest 102 = .ok (.iconst 1, 1) := by decide +kernel
theorem dX1_fewest_103 : decode cX1_fewest 103 = .ok (.if_icmp .ne 13, 3) := by decide +kernel
theorem dX1_fewest_106 : decode cX1_fewest 106 = .ok (.aload_n 0, 1) := by decide +kernel
theorem dX1_fewest_107 : decode cX1_fewest 107 = .ok (.getfield 37, 3) := by decide +kernel
theorem dX1_fewest_110 : decode cX1_fewest 110 = .ok (.iload 7, 2) := by decide +kernel
theorem dX1_fewest_112 : decode cX1_fewest 112 = .ok (.iaload, 1) := by decide +kernel
theorem dX1_fewest_113 : decode cX1_fewest 113 = .ok (.goto 4, 3) := by decide +kernel
theorem dX1_fewest_116 : decode cX1_fewest 116 = .ok (.iconst 0, 1) := by decide +kernel
theorem dX1_fewest_117 : decode cX1_fewest 117 = .ok (.iadd, 1) := by decide +kernel
theorem dX1_fewest_118 : decode cX1_fewest 118 = .ok (.istore 4, 2) := by decide +kernel
theorem dX1_fewest_120 : decode cX1_fewest 120 = .ok (.goto 70, 3) := by decide +kernel
theorem dX1_fewest_123 : decode cX1_fewest 123 = .ok (.aload_n 0, 1) := by decide +kernel
theorem dX1_fewest_124 : decode cX1_fewest 124 = .ok (.getfield 31, 3) := by decide +kernel
theorem dX1_fewest_127 : decode cX1_fewest 127 = .ok (.iload 7, 2) := by decide +kernel
theorem dX1_fewest_129 : decode cX1_fewest 129 = .ok (.iaload, 1) := by decide +kernel
theorem dX1_fewest_130 : decode cX1_fewest 130 = .ok (.iconst 1, 1) := by decide +kernel
theorem dX1_fewest_131 : decode cX1_fewest 131 = .ok (.if_icmp .ne 59, 3) := by decide +kernel
theorem dX1_fewest_134 : decode cX1_fewest 134 = .ok (.aload_n 0, 1) := by decide +kernel
theorem dX1_fewest_135 : decode cX1_fewest 135 = .ok (.getfield 43, 3) := by decide +kernel
theorem dX1_fewest_138 : decode cX1_fewest 138 = .ok (.iload 7, 2) := by decide +kernel
theorem dX1_fewest_140 : decode cX1_fewest 140 = .ok (.baload, 1) := by decide +kernel
theorem dX1_fewest_141 : decode cX1_fewest 141 = .ok (.ifCond .ne 49, 3) := by decide +kernel
theorem dX1_fewest_144 : decode cX1_fewest 144 = .ok (.aload_n 0, 1) := by decide +kernel
theorem dX1_fewest_145 : decode cX1_fewest 145 = .ok (.iload 7, 2) := by decide +kernel
theorem dX1_fewest_147 : decode cX1_fewest 147 = .ok (.iload_n 2, 1) := by decide +kernel
theorem dX1_fewest_148 : decode cX1_fewest 148 = .ok (.invokevirtual 268, 3) := by decide +kernel
theorem dX1_fewest_151 : decode cX1_fewest 151 = .ok (.istore 8, 2) := by decide +kernel
theorem dX1_fewest_153 : decode cX1_fewest 153 = .ok (.aload_n 0, 1) := by decide +kernel
theorem dX1_fewest_154 : decode cX1_fewest 154 = .ok (.bipush 10, 2) := by decide +kernel
theorem dX1_fewest_156 : decode cX1_fewest 156 = .ok (.iload 7, 2) := by decide +kernel
theorem dX1_fewest_158 : decode cX1_fewest 158 = .ok (.iadd, 1) := by decide +kernel
theorem dX1_fewest_159 : decode cX1_fewest 159 = .ok (.invokevirtual 262, 3) := by decide +kernel
theorem dX1_fewest_162 : decode cX1_fewest 162 = .ok (.istore 9, 2) := by decide +kernel
theorem dX1_fewest_164 : decode cX1_fewest 164 = .ok (.iload 5, 2) := by decide +kernel
theorem dX1_fewest_166 : decode cX1_fewest 166 = .ok (.iload 8, 2) := by decide +kernel
theorem dX1_fewest_168 : decode cX1_fewest 168 = .ok (.iadd, 1) := by decide +kernel
theorem dX1_fewest_169 : decode cX1_fewest 169 = .ok (.istore 5, 2) := by decide +kernel
theorem dX1_fewest_171 : decode cX1_fewest 171 = .ok (.iload 6, 2) := by decide +kernel
theorem dX1_fewest_173 : decode cX1_fewest 173 = .ok (.iload 8, 2) := by decide +kernel
theorem dX1_fewest_175 : decode cX1_fewest 175 = .ok (.iload 9, 2) := by decide +kernel
theorem dX1_fewest_177 : decode cX1_fewest 177 = .ok (.if_icmp .ge 8, 3) := by decide +kernel
theorem dX1_fewest_180 : decode cX1_fewest 180 = .ok (.iload 8, 2) := by decide +kernel
theorem dX1_fewest_182 : decode cX1_fewest 182 = .ok (.goto 5, 3) := by decide +kernel
theorem dX1_fewest_185 : decode cX1_fewest 185 = .ok (.iload 9, 2) := by decide +kernel
theorem dX1_fewest_187 : decode cX1_fewest 187 = .ok (.iadd, 1) := by decide +kernel
theorem dX1_fewest_188 : decode cX1_fewest 188 = .ok (.istore 6, 2) := by decide +kernel
theorem dX1_fewest_190 : decode cX1_fewest 190 = .ok (.iinc 7 1, 3) := by decide +kernel
theorem dX1_fewest_193 : decode cX1_fewest 193 = .ok (.goto (-167), 3) := by decide +kernel
theorem dX1_fewest_196 : decode cX1_fewest 196 = .ok (.iload_n 3, 1) := by decide +kernel
theorem dX1_fewest_197 : decode cX1_fewest 197 = .ok (.iload 4, 2) := by decide +kernel
theorem dX1_fewest_199 : decode cX1_fewest 199 = .ok (.if_icmp .le 7, 3) := by decide +kernel
theorem dX1_fewest_202 : decode cX1_fewest 202 = .ok (.iload_n 3, 1) := by decide +kernel
theorem dX1_fewest_203 : decode cX1_fewest 203 = .ok (.goto 5, 3) := by decide +kernel
theorem dX1_fewest_206 : decode cX1_fewest 206 = .ok (.iload 4, 2) := by decide +kernel
theorem dX1_fewest_208 : decode cX1_fewest 208 = .ok (.istore 7, 2) := by decide +kernel
theorem dX1_fewest_210 : decode cX1_fewest 210 = .ok (.iload 7, 2) := by decide +kernel
theorem dX1_fewest_212 : decode cX1_fewest 212 = .ok (.ifCond .le 8, 3) := by decide +kernel
theorem dX1_fewest_215 : decode cX1_fewest 215 = .ok (.iload 7, 2) := by decide +kernel
theorem dX1_fewest_217 : decode cX1_fewest 217 = .ok (.goto 4, 3) := by decide +kernel
theorem dX1_fewest_220 : decode cX1_fewest 220 = .ok (.iconst 0, 1) := by decide +kernel
theorem dX1_fewest_221 : decode cX1_fewest 221 = .ok (.istore 7, 2) := by decide +kernel
theorem dX1_fewest_223 : decode cX1_fewest 223 = .ok (.iload 7, 2) := by decide +kernel
theorem dX1_fewest_225 : decode cX1_fewest 225 = .ok (.iload 5, 2) := by decide +kernel
theorem dX1_fewest_227 : decode cX1_fewest 227 = .ok (.if_icmp .gt 15, 3) := by decide +kernel
theorem dX1_fewest_230 : decode cX1_fewest 230 = .ok (.iload 4, 2) := by decide +kernel
theorem dX1_fewest_232 : decode cX1_fewest 232 = .ok (.iload 6, 2) := by decide +kernel
theorem dX1_fewest_234 : decode cX1_fewest 234 = .ok (.if_icmp .gt 8, 3) := by decide +kernel
theorem dX1_fewest_237 : decode cX1_fewest 237 = .ok (.iload 7, 2) := by decide +kernel
theorem dX1_fewest_239 : decode cX1_fewest 239 = .ok (.goto 5, 3) := by decide +kernel
theorem dX1_fewest_242 : decode cX1_fewest 242 = .ok (.bipush (-9), 2) := by decide +kernel
theorem dX1_fewest_244 : decode cX1_fewest 244 = .ok (.ireturn, 1) := by decide +kernel
theorem dX1_fleet_0 : decode cX1_fleet 0 = .ok (.aload_n 0, 1) := by decide +kernel
theorem dX1_fleet_1 : decode cX1_fleet 1 = .ok (.iconst 0, 1) := by decide +kernel
theorem dX1_fleet_2 : decode cX1_fleet 2 = .ok (.putfield 100, 3) := by decide +kernel
theorem dX1_fleet_5 : decode cX1_fleet 5 = .ok (.iload_n 1, 1) := by decide +kernel
theorem dX1_fleet_6 : decode cX1_fleet 6 = .ok (.invokestatic 265, 3) := by decide +kernel
theorem dX1_fleet_9 : decode cX1_fleet 9 = .ok (.ifCond .eq 6, 3) := by decide +kernel
theorem dX1_fleet_12 : decode cX1_fleet 12 = .ok (.bipush (-2), 2) := by decide +kernel
theorem dX1_fleet_14 : decode cX1_fleet 14 = .ok (.ireturn, 1) := by decide +kernel
theorem dX1_fleet_15 : decode cX1_fleet 15 = .ok (.iconst 0, 1) := by decide +kernel
theorem dX1_fleet_16 : decode cX1_fleet 16 = .ok (.istore_n 2, 1) := by decide +kernel
theorem dX1_fleet_17 : decode cX1_fleet 17 = .ok (.iconst 0, 1) := by decide +kernel
theorem dX1_fleet_18 : decode cX1_fleet 18 = .ok (.istore_n 3, 1) := by decide +kernel
theorem dX1_fleet_19 : decode cX1_fleet 19 = .ok (.iload_n 3, 1) := by decide +kernel
theorem dX1_fleet_20 : decode cX1_fleet 20 = .ok (.aload_n 0, 1) := by decide +kernel
theorem dX1_fleet_21 : decode cX1_fleet 21 = .ok (.getfield 110, 3) := by decide +kernel
theorem dX1_fleet_24 : decode cX1_fleet 24 = .ok (.if_icmp .ge 27, 3) := by decide +kernel
theorem dX1_fleet_27 : decode cX1_fleet 27 = .ok (.iload_n 2, 1) := by decide +kernel
theorem dX1_fleet_28 : decode cX1_fleet 28 = .ok (.aload_n 0, 1) := by decide +kernel
theorem dX1_fleet_29 : decode cX1_fleet 29 = .ok (.iload_n 3, 1) := by decide +kernel
theorem dX1_fleet_30 : decode cX1_fleet 30 = .ok (.invokevirtual 271, 3) := by decide +kernel
theorem dX1_fleet_33 : decode cX1_fleet 33 = .ok (.ifCond .eq 9, 3) := by decide +kernel
theorem dX1_fleet_36 : decode cX1_fleet 36 = .ok (.iconst 1, 1) := by decide +kernel
theorem dX1_fleet_37 : decode cX1_fleet 37 = .ok (.iload_n 3, 1) := by decide +kernel
theorem dX1_fleet_38 : decode cX1_fleet 38 = .ok (.ishl, 1) := by decide +kernel
theorem dX1_fleet_39 : decode cX1_fleet 39 = .ok (.goto 4, 3) := by decide +kernel
theorem dX1_fleet_42 : decode cX1_fleet 42 = .ok (.iconst 0, 1) := by decide +kernel
theorem dX1_fleet_43 : decode cX1_fleet 43 = .ok (.ior, 1) := by decide +kernel
theorem dX1_fleet_44 : decode cX1_fleet 44 = .ok (.istore_n 2, 1) := by decide +kernel
theorem dX1_fleet_45 : decode cX1_fleet 45 = .ok (.iinc 3 1, 3) := by decide +kernel
theorem dX1_fleet_48 : decode cX1_fleet 48 = .ok (.goto (-29), 3) := by decide +kernel
theorem dX1_fleet_51 : decode cX1_fleet 51 = .ok (.iconst 0, 1) := by decide +kernel
theorem dX1_fleet_52 : decode cX1_fleet 52 = .ok (.istore_n 3, 1) := by decide +kernel
theorem dX1_fleet_53 : decode cX1_fleet 53 = .ok (.iconst 0, 1) := by decide +kernel
theorem dX1_fleet_54 : decode cX1_fleet 54 = .ok (.istore 4, 2) := by decide +kernel
theorem dX1_fleet_56 : decode cX1_fleet 56 = .ok (.iconst 0, 1) := by decide +kernel
theorem dX1_fleet_57 : decode cX1_fleet 57 = .ok (.istore 5, 2) := by decide +kernel
theorem dX1_fleet_59 : decode cX1_fleet 59 = .ok (.iconst 1, 1) := by decide +kernel
theorem dX1_fleet_60 : decode cX1_fleet 60 = .ok (.istore 6, 2) := by decide +kernel
theorem dX1_fleet_62 : decode cX1_fleet 62 = .ok (.iload 6, 2) := by decide +kernel
theorem dX1_fleet_64 : decode cX1_fleet 64 = .ok (.iconst 1, 1) := by decide +kernel
theorem dX1_fleet_65 : decode cX1_fleet 65 = .ok (.aload_n 0, 1) := by decide +kernel
theorem dX1_fleet_66 : decode cX1_fleet 66 = .ok (.getfield 110, 3) := by decide +kernel
theorem dX1_fleet_69 : decode cX1_fleet 69 = .ok (.ishl, 1) := by decide +kernel
theorem dX1_fleet_70 : decode cX1_fleet 70 = .ok (.if_icmp .ge 104, 3) := by decide +kernel
theorem dX1_fleet_73 : decode cX1_fleet 73 = .ok (.iconst 0, 1) := by decide +kernel
theorem dX1_fleet_74 : decode cX1_fleet 74 = .ok (.istore 7, 2) := by decide +kernel
theorem dX1_fleet_76 : decode cX1_fleet 76 = .ok (.iconst 0, 1) := by decide +kernel
theorem dX1_fleet_77 : decode cX1_fleet 77 = .ok (.istore 8, 2) := by decide +kernel
theorem dX1_fleet_79 : decode cX1_fleet 79 = .ok (.iload 8, 2) := by decide +kernel
theorem dX1_fleet_81 : decode cX1_fleet 81 = .ok (.aload_n 0, 1) := by decide +kernel
theorem dX1_fleet_82 : decode cX1_fleet 82 = .ok (.getfield 110, 3) := by decide +kernel
theorem dX1_fleet_85 : decode cX1_fleet 85 = .ok (.if_icmp .ge 21, 3) := by decide +kernel
theorem dX1_fleet_88 : decode cX1_fleet 88 = .ok (.iload 7, 2) := by decide +kernel
theorem dX1_fleet_90 : decode cX1_fleet 90 = .ok (.iload 6, 2) := by decide +kernel
theorem dX1_fleet_92 : decode cX1_fleet 92 = .ok (.iload 8, 2) := by decide +kernel
theorem dX1_fleet_94 : decode cX1_fleet 94 = .ok (.ishr, 1) := by decide +kernel
theorem dX1_fleet_95 : decode cX1_fleet 95 = .ok (.iconst 1, 1) := by decide +kernel
theorem dX1_fleet_96 : decode cX1_fleet 96 = .ok (.iand, 1) := by decide +kernel
theorem dX1_fleet_97 : decode cX1_fleet 97 = .ok (.iadd, 1) := by decide +kernel
theorem dX1_fleet_98 : decode cX1_fleet 98 = .ok (.istore 7, 2) := by decide +kernel
theorem dX1_fleet_100 : decode cX1_fleet 100 = .ok (.iinc 8 1, 3) := by decide +kernel
theorem dX1_fleet_103 : decode cX1_fleet 103 = .ok (.goto (-24), 3) := by decide +kernel
theorem dX1_fleet_106 : decode cX1_fleet 106 = .ok (.iload 6, 2) := by decide +kernel
theorem dX1_fleet_108 : decode cX1_fleet 108 = .ok (.iload_n 2, 1) := by decide +kernel
theorem dX1_fleet_109 : decode cX1_fleet 109 = .ok (.iconst (-1), 1) := by decide +kernel
theorem dX1_fleet_110 : decode cX1_fleet 110 = .ok (.ixor, 1) := by decide +kernel
theorem dX1_fleet_111 : decode cX1_fleet 111 = .ok (.iand, 1) := by decide +kernel
theorem dX1_fleet_112 : decode cX1_fleet 112 = .ok (.ifCond .ne 20, 3) := by decide +kernel
theorem dX1_fleet_115 : decode cX1_fleet 115 = .ok (.iload 7, 2) := by decide +kernel
theorem dX1_fleet_117 : decode cX1_fleet 117 = .ok (.iload 4, 2) := by decide +kernel
theorem dX1_fleet_119 : decode cX1_fleet 119 = .ok (.if_icmp .lt 13, 3) := by decide +kernel
theorem dX1_fleet_122 : decode cX1_fleet 122 = .ok (.aload_n 0, 1) := by decide +kernel
theorem dX1_fleet_123 : decode cX1_fleet 123 = .ok (.iload 6, 2) := by decide +kernel
theorem dX1_fleet_125 : decode cX1_fleet 125 = .ok (.iload_n 1, 1) := by decide +kernel
theorem dX1_fleet_126 : decode cX1_fleet 126 = .ok (.invokevirtual 274, 3) := by decide +kernel
theorem dX1_fleet_129 : decode cX1_fleet 129 = .ok (.goto 5, 3) := by decide +kernel
theorem dX1_fleet_132 : decode cX1_fleet 132 = .ok (.bipush (-9), 2) := by decide +kernel
theorem dX1_fleet_134 : decode cX1_fleet 134 = .ok (.istore 8, 2) := by decide +kernel
theorem dX1_fleet_136 : decode cX1_fleet 136 = .ok (.iload 8, 2) := by decide +kernel
theorem dX1_fleet_138 : decode cX1_fleet 138 = .ok (.bipush (-9), 2) := by decide +kernel
theorem dX1_fleet_140 : decode cX1_fleet 140 = .ok (.if_icmp .eq 28, 3) := by decide +kernel
theorem dX1_fleet_143 : decode cX1_fleet 143 = .ok (.iload 7, 2) := by decide +kernel
theorem dX1_fleet_145 : decode cX1_fleet 145 = .ok (.iload 4, 2) := by decide +kernel
theorem dX1_fleet_147 : decode cX1_fleet 147 = .ok (.if_icmp .gt 10, 3) := by decide +kernel
theorem dX1_fleet_150 : decode cX1_fleet 150 = .ok (.iload 8, 2) := by decide +kernel
theorem dX1_fleet_152 : decode cX1_fleet 152 = .ok (.iload 5, 2) := by decide +kernel
theorem dX1_fleet_154 : decode cX1_fleet 154 = .ok (.if_icmp .ge 14, 3) := by decide +kernel
theorem dX1_fleet_157 : decode cX1_fleet 157 = .ok (.iload 6, 2) := by decide +kernel
theorem dX1_fleet_159 : decode cX1_fleet 159 = .ok (.istore_n 3, 1) := by decide +kernel
theorem dX1_fleet_160 : decode cX1_fleet 160 = .ok (.iload 7, 2) := by decide +kernel
theorem dX1_fleet_162 : decode cX1_fleet 162 = .ok (.istore 4, 2) := by decide +kernel
theorem dX1_fleet_164 : decode cX1_fleet 164 = .ok (.iload 8, 2) := by decide +kernel
theorem dX1_fleet_166 : decode cX1_fleet 166 = .ok (.istore 5, 2) := by decide +kernel
theorem dX1_fleet_168 : decode cX1_fleet 168 = .ok (.iinc 6 1, 3) := by decide +kernel
theorem dX1_fleet_171 : decode cX1_fleet 171 = .ok (.goto (-109), 3) := by decide +kernel
theorem dX1_fleet_174 : decode cX1_fleet 174 = .ok (.iload_n 3, 1) := by decide +kernel
theorem dX1_fleet_175 : decode cX1_fleet 175 = .ok (.ireturn, 1) := by decide +kernel
theorem dX1_sail_0 : decode cX1_sail 0 = .ok (.aload_n 0, 1) := by decide +kernel
theorem dX1_sail_1 : decode cX1_sail 1 = .ok (.iconst 0, 1) := by decide +kernel
theorem dX1_sail_2 : decode cX1_sail 2 = .ok (.putfield 100, 3) := by decide +kernel
theorem dX1_sail_5 : decode cX1_sail 5 = .ok (.aload_n 0, 1) := by decide +kernel
theorem dX1_sail_6 : decode cX1_sail 6 = .ok (.iload_n 1, 1) := by decide +kernel
theorem dX1_sail_7 : decode cX1_sail 7 = .ok (.invokevirtual 259, 3) := by decide +kernel
theorem dX1_sail_10 : decode cX1_sail 10 = .ok (.ifCond .eq 5, 3) := by decide +kernel
theorem dX1_sail_13 : decode cX1_sail 13 = .ok (.iconst (-1), 1) := by decide +kernel
theorem dX1_sail_14 : decode cX1_sail 14 = .ok (.ireturn, 1) := by decide +kernel
theorem dX1_sail_15 : decode cX1_sail 15 = .ok (.aload_n 0, 1) := by decide +kernel
theorem dX1_sail_16 : decode cX1_sail 16 = .ok (.getfield 43, 3) := by decide +kernel
theorem dX1_sail_19 : decode cX1_sail 19 = .ok (.iload_n 1, 1) := by decide +kernel
theorem dX1_sail_20 : decode cX1_sail 20 = .ok (.baload, 1) := by decide +kernel
theorem dX1_sail_21 : decode cX1_sail 21 = .ok (.ifCond .ne 37, 3) := by decide +kernel
theorem dX1_sail_24 : decode cX1_sail 24 = .ok (.aload_n 0, 1) := by decide +kernel
theorem dX1_sail_25 : decode cX1_sail 25 = .ok (.bipush 10, 2) := by decide +kernel
theorem dX1_sail_27 : decode cX1_sail 27 = .ok (.iload_n 1, 1) := by decide +kernel
theorem dX1_sail_28 : decode cX1_sail 28 = .ok (.iadd, 1) := by decide +kernel
theorem dX1_sail_29 : decode cX1_sail 29 = .ok (.invokevirtual 162, 3) := by decide +kernel
theorem dX1_sail_32 : decode cX1_sail 32 = .ok (.aload_n 0, 1) := by decide +kernel
theorem dX1_sail_33 : decode cX1_sail 33 = .ok (.getfield 34, 3) := by decide +kernel
theorem dX1_sail_36 : decode cX1_sail 36 = .ok (.iload_n 1, 1) := by decide +kernel
theorem dX1_sail_37 : decode cX1_sail 37 = .ok (.iaload, 1) := by decide +kernel
theorem dX1_sail_38 : decode cX1_sail 38 = .ok (.if_icmp .lt 20, 3) := by decide +kernel
theorem dX1_sail_41 : decode cX1_sail 41 = .ok (.aload_n 0, 1) := by decide +kernel
theorem dX1_sail_42 : decode cX1_sail 42 = .ok (.bipush 10, 2) := by decide +kernel
theorem dX1_sail_44 : decode cX1_sail 44 = .ok (.iload_n 1, 1) := by decide +kernel
theorem dX1_sail_45 : decode cX1_sail 45 = .ok (.iadd, 1) := by decide +kernel
theorem dX1_sail_46 : decode cX1_sail 46 = .ok (.invokevirtual 262, 3) := by decide +kernel
theorem dX1_sail_49 : decode cX1_sail 49 = .ok (.aload_n 0, 1) := by decide +kernel
theorem dX1_sail_50 : decode cX1_sail 50 = .ok (.getfield 37, 3) := by decide +kernel
theorem dX1_sail_53 : decode cX1_sail 53 = .ok (.iload_n 1, 1) := by decide +kernel
theorem dX1_sail_54 : decode cX1_sail 54 = .ok (.iaload, 1) := by decide +kernel
theorem dX1_sail_55 : decode cX1_sail 55 = .ok (.if_icmp .ge 6, 3) := by decide +kernel
theorem dX1_sail_58 : decode cX1_sail 58 = .ok (.bipush (-3), 2) := by decide +kernel
theorem dX1_sail_60 : decode cX1_sail 60 = .ok (.ireturn, 1) := by decide +kernel
theorem dX1_sail_61 : decode cX1_sail 61 = .ok (.aload_n 0, 1) := by decide +kernel
theorem dX1_sail_62 : decode cX1_sail 62 = .ok (.getfield 43, 3) := by decide +kernel
theorem dX1_sail_65 : decode cX1_sail 65 = .ok (.iload_n 1, 1) := by decide +kernel
theorem dX1_sail_66 : decode cX1_sail 66 = .ok (.iconst 1, 1) := by decide +kernel
theorem dX1_sail_67 : decode cX1_sail 67 = .ok (.bastore, 1) := by decide +kernel
theorem dX1_sail_68 : decode cX1_sail 68 = .ok (.aload_n 0, 1) := by decide +kernel
theorem dX1_sail_69 : decode cX1_sail 69 = .ok (.bipush 10, 2) := by decide +kernel
theorem dX1_sail_71 : decode cX1_sail 71 = .ok (.iload_n 1, 1) := by decide +kernel
theorem dX1_sail_72 : decode cX1_sail 72 = .ok (.iadd, 1) := by decide +kernel
theorem dX1_sail_73 : decode cX1_sail 73 = .ok (.invokevirtual 162, 3) := by decide +kernel
theorem dX1_sail_76 : decode cX1_sail 76 = .ok (.ireturn, 1) := by decide +kernel
theorem dX1_comeHome_0 : decode cX1_comeHome 0 = .ok (.aload_n 0, 1) := by decide +kernel
theorem dX1_comeHome_1 : decode cX1_comeHome 1 = .ok (.iconst 0, 1) := by decide +kernel
theorem dX1_comeHome_2 : decode cX1_comeHome 2 = .ok (.putfield 100, 3) := by decide +kernel
theorem dX1_comeHome_5 : decode cX1_comeHome 5 = .ok (.aload_n 0, 1) := by decide +kernel
theorem dX1_comeHome_6 : decode cX1_comeHome 6 = .ok (.iload_n 1, 1) := by decide +kernel
theorem dX1_comeHome_7 : decode cX1_comeHome 7 = .ok (.invokevirtual 259, 3) := by decide +kernel
theorem dX1_comeHome_10 : decode cX1_comeHome 10 = .ok (.ifCond .eq 5, 3) := by decide +kernel
theorem dX1_comeHome_13 : decode cX1_comeHome 13 = .ok (.iconst (-1), 1) := by decide +kernel
theorem dX1_comeHome_14 : decode cX1_comeHome 14 = .ok (.ireturn, 1) := by decide +kernel
theorem dX1_comeHome_15 : decode cX1_comeHome 15 = .ok (.aload_n 0, 1) := by decide +kernel
theorem dX1_comeHome_16 : decode cX1_comeHome 16 = .ok (.getfield 43, 3) := by decide +kernel
theorem dX1_comeHome_19 : decode cX1_comeHome 19 = .ok (.iload_n 1, 1) := by decide +kernel
theorem dX1_comeHome_20 : decode cX1_comeHome 20 = .ok (.baload, 1) := by decide +kernel
theorem dX1_comeHome_21 : decode cX1_comeHome 21 = .ok (.ifCond .ne 6, 3) := by decide +kernel
theorem dX1_comeHome_24 : decode cX1_comeHome 24 = .ok (.bipush (-3), 2) := by decide +kernel
theorem dX1_comeHome_26 : decode cX1_comeHome 26 = .ok (.ireturn, 1) := by decide +kernel
theorem dX1_comeHome_27 : decode cX1_comeHome 27 = .ok (.aload_n 0, 1) := by decide +kernel
theorem dX1_comeHome_28 : decode cX1_comeHome 28 = .ok (.getfield 43, 3) := by decide +kernel
theorem dX1_comeHome_31 : decode cX1_comeHome 31 = .ok (.iload_n 1, 1) := by decide +kernel
theorem dX1_comeHome_32 : decode cX1_comeHome 32 = .ok (.iconst 0, 1) := by decide +kernel
theorem dX1_comeHome_33 : decode cX1_comeHome 33 = .ok (.bastore, 1) := by decide +kernel
theorem dX1_comeHome_34 : decode cX1_comeHome 34 = .ok (.aload_n 0, 1) := by decide +kernel
theorem dX1_comeHome_35 : decode cX1_comeHome 35 = .ok (.bipush 10, 2) := by decide +kernel
theorem dX1_comeHome_37 : decode cX1_comeHome 37 = .ok (.iload_n 1, 1) := by decide +kernel
theorem dX1_comeHome_38 : decode cX1_comeHome 38 = .ok (.iadd, 1) := by decide +kernel
theorem dX1_comeHome_39 : decode cX1_comeHome 39 = .ok (.invokevirtual 162, 3) := by decide +kernel
theorem dX1_comeHome_42 : decode cX1_comeHome 42 = .ok (.ireturn, 1) := by decide +kernel
theorem dX1_ticket_0 : decode cX1_ticket 0 = .ok (.aload_n 0, 1) := by decide +kernel
theorem dX1_ticket_1 : decode cX1_ticket 1 = .ok (.iconst 0, 1) := by decide +kernel
theorem dX1_ticket_2 : decode cX1_ticket 2 = .ok (.putfield 100, 3) := by decide +kernel
theorem dX1_ticket_5 : decode cX1_ticket 5 = .ok (.aload_n 0, 1) := by decide +kernel
theorem dX1_ticket_6 : decode cX1_ticket 6 = .ok (.iload_n 1, 1) := by decide +kernel
theorem dX1_ticket_7 : decode cX1_ticket 7 = .ok (.invokevirtual 144, 3) := by decide +kernel
theorem dX1_ticket_10 : decode cX1_ticket 10 = .ok (.ifCond .eq 5, 3) := by decide +kernel
theorem dX1_ticket_13 : decode cX1_ticket 13 = .ok (.iconst (-1), 1) := by decide +kernel
theorem dX1_ticket_14 : decode cX1_ticket 14 = .ok (.ireturn, 1) := by decide +kernel
theorem dX1_ticket_15 : decode cX1_ticket 15 = .ok (.iload_n 2, 1) := by decide +kernel
theorem dX1_ticket_16 : decode cX1_ticket 16 = .ok (.i2l, 1) := by decide +kernel
theorem dX1_ticket_17 : decode cX1_ticket 17 = .ok (.lconst 1, 1) := by decide +kernel
theorem dX1_ticket_18 : decode cX1_ticket 18 = .ok (.ldc2_w 282, 3) := by decide +kernel
theorem dX1_ticket_21 : decode cX1_ticket 21 = .ok (.invokestatic 103, 3) := by decide +kernel
theorem dX1_ticket_24 : decode cX1_ticket 24 = .ok (.ifCond .eq 15, 3) := by decide +kernel
theorem dX1_ticket_27 : decode cX1_ticket 27 = .ok (.iload_n 3, 1) := by decide +kernel
theorem dX1_ticket_28 : decode cX1_ticket 28 = .ok (.i2l, 1) := by decide +kernel
theorem dX1_ticket_29 : decode cX1_ticket 29 = .ok (.lconst 1, 1) := by decide +kernel
theorem dX1_ticket_30 : decode cX1_ticket 30 = .ok (.ldc2_w 133, 3) := by decide +kernel
theorem dX1_ticket_33 : decode cX1_ticket 33 = .ok (.invokestatic 103, 3) := by decide +kernel
theorem dX1_ticket_36 : decode cX1_ticket 36 = .ok (.ifCond .ne 6, 3) := by decide +kernel
theorem dX1_ticket_39 : decode cX1_ticket 39 = .ok (.bipush (-2), 2) := by decide +kernel
theorem dX1_ticket_41 : decode cX1_ticket 41 = .ok (.ireturn, 1) := by decide +kernel
theorem dX1_ticket_42 : decode cX1_ticket 42 = .ok (.aload_n 0, 1) := by decide +kernel
theorem dX1_ticket_43 : decode cX1_ticket 43 = .ok (.getfield 277, 3) := by decide +kernel
theorem dX1_ticket_46 : decode cX1_ticket 46 = .ok (.bipush 40, 2) := by decide +kernel
theorem dX1_ticket_48 : decode cX1_ticket 48 = .ok (.if_icmp .ne 6, 3) := by decide +kernel
theorem dX1_ticket_51 : decode cX1_ticket 51 = .ok (.bipush (-4), 2) := by decide +kernel
theorem dX1_ticket_53 : decode cX1_ticket 53 = .ok (.ireturn, 1) := by decide +kernel
theorem dX1_ticket_54 : decode cX1_ticket 54 = .ok (.aload_n 0, 1) := by decide +kernel
theorem dX1_ticket_55 : decode cX1_ticket 55 = .ok (.getfield 79, 3) := by decide +kernel
theorem dX1_ticket_58 : decode cX1_ticket 58 = .ok (.aload_n 0, 1) := by decide +kernel
theorem dX1_ticket_59 : decode cX1_ticket 59 = .ok (.getfield 277, 3) := by decide +kernel
theorem dX1_ticket_62 : decode cX1_ticket 62 = .ok (.iload_n 1, 1) := by decide +kernel
theorem dX1_ticket_63 : decode cX1_ticket 63 = .ok (.iastore, 1) := by decide +kernel
theorem dX1_ticket_64 : decode cX1_ticket 64 = .ok (.aload_n 0, 1) := by decide +kernel
theorem dX1_ticket_65 : decode cX1_ticket 65 = .ok (.getfield 82, 3) := by decide +kernel
theorem dX1_ticket_68 : decode cX1_ticket 68 = .ok (.aload_n 0, 1) := by decide +kernel
theorem dX1_ticket_69 : decode cX1_ticket 69 = .ok (.getfield 277, 3) := by decide +kernel
theorem dX1_ticket_72 : decode cX1_ticket 72 = .ok (.iload_n 2, 1) := by decide +kernel
theorem dX1_ticket_73 : decode cX1_ticket 73 = .ok (.iload_n 3, 1) := by decide +kernel
theorem dX1_ticket_74 : decode cX1_ticket 74 = .ok (.imul, 1) := by decide +kernel
theorem dX1_ticket_75 : decode cX1_ticket 75 = .ok (.iastore, 1) := by decide +kernel
theorem dX1_ticket_76 : decode cX1_ticket 76 = .ok (.aload_n 0, 1) := by decide +kernel
theorem dX1_ticket_77 : decode cX1_ticket 77 = .ok (.getfield 85, 3) := by decide +kernel
theorem dX1_ticket_80 : decode cX1_ticket 80 = .ok (.aload_n 0, 1) := by decide +kernel
theorem dX1_ticket_81 : decode cX1_ticket 81 = .ok (.getfield 277, 3) := by decide +kernel
theorem dX1_ticket_84 : decode cX1_ticket 84 = .ok (.bipush (-9), 2) := by decide +kernel
theorem dX1_ticket_86 : decode cX1_ticket 86 = .ok (.iastore, 1) := by decide +kernel
theorem dX1_ticket_87 : decode cX1_ticket 87 = .ok (.aload_n 0, 1) := by decide +kernel
theorem dX1_ticket_88 : decode cX1_ticket 88 = .ok (.dup, 1) := by decide +kernel
theorem dX1_ticket_89 : decode cX1_ticket 89 = .ok (.getfield 277, 3) := by decide +kernel
theorem dX1_ticket_92 : decode cX1_ticket 92 = .ok (.iconst 1, 1) := by decide +kernel
theorem dX1_ticket_93 : decode cX1_ticket 93 = .ok (.iadd, 1) := by decide +kernel
theorem dX1_ticket_94 : decode cX1_ticket 94 = .ok (.putfield 277, 3) := by decide +kernel
theorem dX1_ticket_97 : decode cX1_ticket 97 = .ok (.aload_n 0, 1) := by decide +kernel
theorem dX1_ticket_98 : decode cX1_ticket 98 = .ok (.getfield 277, 3) := by decide +kernel
theorem dX1_ticket_101 : decode cX1_ticket 101 = .ok (.iconst 1, 1) := by decide +kernel
theorem dX1_ticket_102 : decode cX1_ticket 102 = .ok (.isub, 1) := by decide +kernel
theorem dX1_ticket_103 : decode cX1_ticket 103 = .ok (.ireturn, 1) := by decide +kernel
theorem dX1_sell_0 : decode cX1_sell 0 = .ok (.aload_n 0, 1) := by decide +kernel
theorem dX1_sell_1 : decode cX1_sell 1 = .ok (.iconst 0, 1) := by decide +kernel
theorem dX1_sell_2 : decode cX1_sell 2 = .ok (.putfield 100, 3) := by decide +kernel
theorem dX1_sell_5 : decode cX1_sell 5 = .ok (.aload_n 0, 1) := by decide +kernel
theorem dX1_sell_6 : decode cX1_sell 6 = .ok (.iload_n 1, 1) := by decide +kernel
theorem dX1_sell_7 : decode cX1_sell 7 = .ok (.invokevirtual 284, 3) := by decide +kernel
theorem dX1_sell_10 : decode cX1_sell 10 = .ok (.ifCond .ne 10, 3) := by decide +kernel
theorem dX1_sell_13 : decode cX1_sell 13 = .ok (.iload_n 2, 1) := by decide +kernel
theorem dX1_sell_14 : decode cX1_sell 14 = .ok (.invokestatic 287, 3) := by decide +kernel
theorem dX1_sell_17 : decode cX1_sell 17 = .ok (.ifCond .eq 5, 3) := by decide +kernel
theorem dX1_sell_20 : decode cX1_sell 20 = .ok (.iconst (-1), 1) := by decide +kernel
theorem dX1_sell_21 : decode cX1_sell 21 = .ok (.ireturn, 1) := by decide +kernel
theorem dX1_sell_22 : decode cX1_sell 22 = .ok (.iload_n 3, 1) := by decide +kernel
theorem dX1_sell_23 : decode cX1_sell 23 = .ok (.i2l, 1) := by decide +kernel
theorem dX1_sell_24 : decode cX1_sell 24 = .ok (.lconst 1, 1) := by decide +kernel
theorem dX1_sell_25 : decode cX1_sell 25 = .ok (.ldc2_w 242, 3) := by decide +kernel
theorem dX1_sell_28 : decode cX1_sell 28 = .ok (.invokestatic 103, 3) := by decide +kernel
theorem dX1_sell_31 : decode cX1_sell 31 = .ok (.ifCond .ne 6, 3) := by decide +kernel
theorem dX1_sell_34 : decode cX1_sell 34 = .ok (.bipush (-2), 2) := by decide +kernel
theorem dX1_sell_36 : decode cX1_sell 36 = .ok (.ireturn, 1) := by decide +kernel
theorem dX1_sell_37 : decode cX1_sell 37 = .ok (.aload_n 0, 1) := by decide +kernel
theorem dX1_sell_38 : decode cX1_sell 38 = .ok (.getfield 88, 3) := by decide +kernel
theorem dX1_sell_41 : decode cX1_sell 41 = .ok (.iload_n 1, 1) := by decide +kernel
theorem dX1_sell_42 : decode cX1_sell 42 = .ok (.baload, 1) := by decide +kernel
theorem dX1_sell_43 : decode cX1_sell 43 = .ok (.ifCond .ne 13, 3) := by decide +kernel
theorem dX1_sell_46 : decode cX1_sell 46 = .ok (.aload_n 0, 1) := by decide +kernel
theorem dX1_sell_47 : decode cX1_sell 47 = .ok (.getfield 85, 3) := by decide +kernel
theorem dX1_sell_50 : decode cX1_sell 50 = .ok (.iload_n 1, 1) := by decide +kernel
theorem dX1_sell_51 : decode cX1_sell 51 = .ok (.iaload, 1) := by decide +kernel
theorem dX1_sell_52 : decode cX1_sell 52 = .ok (.iload_n 2, 1) := by decide +kernel
theorem dX1_sell_53 : decode cX1_sell 53 = .ok (.if_icmp .ne 6, 3) := by decide +kernel
theorem dX1_sell_56 : decode cX1_sell 56 = .ok (.bipush (-3), 2) := by decide +kernel
theorem dX1_sell_58 : decode cX1_sell 58 = .ok (.ireturn, 1) := by decide +kernel
theorem dX1_sell_59 : decode cX1_sell 59 = .ok (.aload_n 0, 1) := by decide +kernel
theorem dX1_sell_60 : decode cX1_sell 60 = .ok (.getfield 82, 3) := by decide +kernel
theorem dX1_sell_63 : decode cX1_sell 63 = .ok (.iload_n 1, 1) := by decide +kernel
theorem dX1_sell_64 : decode cX1_sell 64 = .ok (.iaload, 1) := by decide +kernel
theorem dX1_sell_65 : decode cX1_sell 65 = .ok (.iload_n 3, 1) := by decide +kernel
theorem dX1_sell_66 : decode cX1_sell 66 = .ok (.imul, 1) := by decide +kernel
theorem dX1_sell_67 : decode cX1_sell 67 = .ok (.bipush 100, 2) := by decide +kernel
theorem dX1_sell_69 : decode cX1_sell 69 = .ok (.idiv, 1) := by decide +kernel
theorem dX1_sell_70 : decode cX1_sell 70 = .ok (.istore 4, 2) := by decide +kernel
theorem dX1_sell_72 : decode cX1_sell 72 = .ok (.aload_n 0, 1) := by decide +kernel
theorem dX1_sell_73 : decode cX1_sell 73 = .ok (.iload_n 1, 1) := by decide +kernel
theorem dX1_sell_74 : decode cX1_sell 74 = .ok (.aload_n 0, 1) := by decide +kernel
theorem dX1_sell_75 : decode cX1_sell 75 = .ok (.getfield 85, 3) := by decide +kernel
theorem dX1_sell_78 : decode cX1_sell 78 = .ok (.iload_n 1, 1) := by decide +kernel
theorem dX1_sell_79 : decode cX1_sell 79 = .ok (.iaload, 1) := by decide +kernel
theorem dX1_sell_80 : decode cX1_sell 80 = .ok (.iload 4, 2) := by decide +kernel
theorem dX1_sell_82 : decode cX1_sell 82 = .ok (.invokevirtual 290, 3) := by decide +kernel
theorem dX1_sell_85 : decode cX1_sell 85 = .ok (.aload_n 0, 1) := by decide +kernel
theorem dX1_sell_86 : decode cX1_sell 86 = .ok (.iload_n 1, 1) := by decide +kernel
theorem dX1_sell_87 : decode cX1_sell 87 = .ok (.iload_n 2, 1) := by decide +kernel
theorem dX1_sell_88 : decode cX1_sell 88 = .ok (.iload 4, 2) := by decide +kernel
theorem dX1_sell_90 : decode cX1_sell 90 = .ok (.ineg, 1) := by decide +kernel
theorem dX1_sell_91 : decode cX1_sell 91 = .ok (.invokevirtual 290, 3) := by decide +kernel
theorem dX1_sell_94 : decode cX1_sell 94 = .ok (.aload_n 0, 1) := by decide +kernel
theorem dX1_sell_95 : decode cX1_sell 95 = .ok (.getfield 85, 3) := by decide +kernel
theorem dX1_sell_98 : decode cX1_sell 98 = .ok (.iload_n 1, 1) := by decide +kernel
theorem dX1_sell_99 : decode cX1_sell 99 = .ok (.iload_n 2, 1) := by decide +kernel
theorem dX1_sell_100 : decode cX1_sell 100 = .ok (.iastore, 1) := by decide +kernel
theorem dX1_sell_101 : decode cX1_sell 101 = .ok (.iload 4, 2) := by decide +kernel
theorem dX1_sell_103 : decode cX1_sell 103 = .ok (.ireturn, 1) := by decide +kernel
theorem dX1_noTicket_0 : decode cX1_noTicket 0 = .ok (.iload_n 1, 1) := by decide +kernel
theorem dX1_noTicket_1 : decode cX1_noTicket 1 = .ok (.i2l, 1) := by decide +kernel
theorem dX1_noTicket_2 : decode cX1_noTicket 2 = .ok (.lconst 0, 1) := by decide +kernel
theorem dX1_noTicket_3 : decode cX1_noTicket 3 = .ok (.aload_n 0, 1) := by decide +kernel
theorem dX1_noTicket_4 : decode cX1_noTicket 4 = .ok (.getfield 277, 3) := by decide +kernel
theorem dX1_noTicket_7 : decode cX1_noTicket 7 = .ok (.iconst 1, 1) := by decide +kernel
theorem dX1_noTicket_8 : decode cX1_noTicket 8 = .ok (.isub, 1) := by decide +kernel
theorem dX1_noTicket_9 : decode cX1_noTicket 9 = .ok (.i2l, 1) := by decide +kernel
theorem dX1_noTicket_10 : decode cX1_noTicket 10 = .ok (.invokestatic 103, 3) := by decide +kernel
theorem dX1_noTicket_13 : decode cX1_noTicket 13 = .ok (.ifCond .ne 7, 3) := by decide +kernel
theorem dX1_noTicket_16 : decode cX1_noTicket 16 = .ok (.iconst 1, 1) := by decide +kernel
theorem dX1_noTicket_17 : decode cX1_noTicket 17 = .ok (.goto 4, 3) := by decide +kernel
theorem dX1_noTicket_20 : decode cX1_noTicket 20 = .ok (.iconst 0, 1) := by decide +kernel
theorem dX1_noTicket_21 : decode cX1_noTicket 21 = .ok (.ireturn, 1) := by decide +kernel
theorem dX1_noHolder_0 : decode cX1_noHolder 0 = .ok (.iload_n 0, 1) := by decide +kernel
theorem dX1_noHolder_1 : decode cX1_noHolder 1 = .ok (.i2l, 1) := by decide +kernel
theorem dX1_noHolder_2 : decode cX1_noHolder 2 = .ok (.lconst 0, 1) := by decide +kernel
theorem dX1_noHolder_3 : decode cX1_noHolder 3 = .ok (.ldc2_w 280, 3) := by decide +kernel
theorem dX1_noHolder_6 : decode cX1_noHolder 6 = .ok (.invokestatic 103, 3) := by decide +kernel
theorem dX1_noHolder_9 : decode cX1_noHolder 9 = .ok (.ifCond .ne 7, 3) := by decide +kernel
theorem dX1_noHolder_12 : decode cX1_noHolder 12 = .ok (.iconst 1, 1) := by decide +kernel
theorem dX1_noHolder_13 : decode cX1_noHolder 13 = .ok (.goto 4, 3) := by decide +kernel
theorem dX1_noHolder_16 : decode cX1_noHolder 16 = .ok (.iconst 0, 1) := by decide +kernel
theorem dX1_noHolder_17 : decode cX1_noHolder 17 = .ok (.ireturn, 1) := by decide +kernel
theorem dX1_give_0 : decode cX1_give 0 = .ok (.iload_n 2, 1) := by decide +kernel
theorem dX1_give_1 : decode cX1_give 1 = .ok (.bipush (-9), 2) := by decide +kernel
theorem dX1_give_3 : decode cX1_give 3 = .ok (.if_icmp .ne 21, 3) := by decide +kernel
theorem dX1_give_6 : decode cX1_give 6 = .ok (.aload_n 0, 1) := by decide +kernel
theorem dX1_give_7 : decode cX1_give 7 = .ok (.getfield 97, 3) := by decide +kernel
theorem dX1_give_10 : decode cX1_give 10 = .ok (.aload_n 0, 1) := by decide +kernel
theorem dX1_give_11 : decode cX1_give 11 = .ok (.getfield 79, 3) := by decide +kernel
theorem dX1_give_14 : decode cX1_give 14 = .ok (.iload_n 1, 1) := by decide +kernel
theorem dX1_give_15 : decode cX1_give 15 = .ok (.iaload, 1) := by decide +kernel
theorem dX1_give_16 : decode cX1_give 16 = .ok (.dup2, 1) := by decide +kernel
theorem dX1_give_17 : decode cX1_give 17 = .ok (.iaload, 1) := by decide +kernel
theorem dX1_give_18 : decode cX1_give 18 = .ok (.iload_n 3, 1) := by decide +kernel
theorem dX1_give_19 : decode cX1_give 19 = .ok (.iadd, 1) := by decide +kernel
theorem dX1_give_20 : decode cX1_give 20 = .ok (.iastore, 1) := by decide +kernel
theorem dX1_give_21 : decode cX1_give 21 = .ok (.goto 13, 3) := by decide +kernel
theorem dX1_give_24 : decode cX1_give 24 = .ok (.aload_n 0, 1) := by decide +kernel
theorem dX1_give_25 : decode cX1_give 25 = .ok (.getfield 94, 3) := by decide +kernel
theorem dX1_give_28 : decode cX1_give 28 = .ok (.iload_n 2, 1) := by decide +kernel
theorem dX1_give_29 : decode cX1_give 29 = .ok (.dup2, 1) := by decide +kernel
theorem dX1_give_30 : decode cX1_give 30 = .ok (.iaload, 1) := by decide +kernel
theorem dX1_give_31 : decode cX1_give 31 = .ok (.iload_n 3, 1) := by decide +kernel
theorem dX1_give_32 : decode cX1_give 32 = .ok (.iadd, 1) := by decide +kernel
theorem dX1_give_33 : decode cX1_give 33 = .ok (.iastore, 1) := by decide +kernel
theorem dX1_give_34 : decode cX1_give 34 = .ok (.return_, 1) := by decide +kernel
theorem dX1_pay_0 : decode cX1_pay 0 = .ok (.aload_n 0, 1) := by decide +kernel
theorem dX1_pay_1 : decode cX1_pay 1 = .ok (.iconst 0, 1) := by decide +kernel
theorem dX1_pay_2 : decode cX1_pay 2 = .ok (.putfield 100, 3) := by decide +kernel
theorem dX1_pay_5 : decode cX1_pay 5 = .ok (.aload_n 0, 1) := by decide +kernel
theorem dX1_pay_6 : decode cX1_pay 6 = .ok (.iload_n 1, 1) := by decide +kernel
theorem dX1_pay_7 : decode cX1_pay 7 = .ok (.invokevirtual 284, 3) := by decide +kernel
theorem dX1_pay_10 : decode cX1_pay 10 = .ok (.ifCond .ne 16, 3) := by decide +kernel
theorem dX1_pay_13 : decode cX1_pay 13 = .ok (.iload_n 2, 1) := by decide +kernel
theorem dX1_pay_14 : decode cX1_pay 14 = .ok (.bipush (-9), 2) := by decide +kernel
theorem dX1_pay_16 : decode cX1_pay 16 = .ok (.if_icmp .eq 12, 3) := by decide +kernel
theorem dX1_pay_19 : decode cX1_pay 19 = .ok (.iload_n 2, 1) := by decide +kernel
theorem dX1_pay_20 : decode cX1_pay 20 = .ok (.invokestatic 287, 3) := by decide +kernel
theorem dX1_pay_23 : decode cX1_pay 23 = .ok (.ifCond .eq 5, 3) := by decide +kernel
theorem dX1_pay_26 : decode cX1_pay 26 = .ok (.iconst (-1), 1) := by decide +kernel
theorem dX1_pay_27 : decode cX1_pay 27 = .ok (.ireturn, 1) := by decide +kernel
theorem dX1_pay_28 : decode cX1_pay 28 = .ok (.aload_n 0, 1) := by decide +kernel
theorem dX1_pay_29 : decode cX1_pay 29 = .ok (.getfield 88, 3) := by decide +kernel
theorem dX1_pay_32 : decode cX1_pay 32 = .ok (.iload_n 1, 1) := by decide +kernel
theorem dX1_pay_33 : decode cX1_pay 33 = .ok (.baload, 1) := by decide +kernel
theorem dX1_pay_34 : decode cX1_pay 34 = .ok (.ifCond .ne 13, 3) := by decide +kernel
theorem dX1_pay_37 : decode cX1_pay 37 = .ok (.aload_n 0, 1) := by decide +kernel
theorem dX1_pay_38 : decode cX1_pay 38 = .ok (.getfield 85, 3) := by decide +kernel
theorem dX1_pay_41 : decode cX1_pay 41 = .ok (.iload_n 1, 1) := by decide +kernel
theorem dX1_pay_42 : decode cX1_pay 42 = .ok (.iaload, 1) := by decide +kernel
theorem dX1_pay_43 : decode cX1_pay 43 = .ok (.iload_n 2, 1) := by decide +kernel
theorem dX1_pay_44 : decode cX1_pay 44 = .ok (.if_icmp .eq 16, 3) := by decide +kernel
theorem dX1_pay_47 : decode cX1_pay 47 = .ok (.aload_n 0, 1) := by decide +kernel
theorem dX1_pay_48 : decode cX1_pay 48 = .ok (.getfield 91, 3) := by decide +kernel
theorem dX1_pay_51 : decode cX1_pay 51 = .ok (.iload_n 1, 1) := by decide +kernel
theorem dX1_pay_52 : decode cX1_pay 52 = .ok (.dup2, 1) := by decide +kernel
theorem dX1_pay_53 : decode cX1_pay 53 = .ok (.iaload, 1) := by decide +kernel
theorem dX1_pay_54 : decode cX1_pay 54 = .ok (.iconst 1, 1) := by decide +kernel
theorem dX1_pay_55 : decode cX1_pay 55 = .ok (.iadd, 1) := by decide +kernel
theorem dX1_pay_56 : decode cX1_pay 56 = .ok (.iastore, 1) := by decide +kernel
theorem dX1_pay_57 : decode cX1_pay 57 = .ok (.goto 10, 3) := by decide +kernel
theorem dX1_pay_60 : decode cX1_pay 60 = .ok (.aload_n 0, 1) := by decide +kernel
theorem dX1_pay_61 : decode cX1_pay 61 = .ok (.getfield 88, 3) := by decide +kernel
theorem dX1_pay_64 : decode cX1_pay 64 = .ok (.iload_n 1, 1) := by decide +kernel
theorem dX1_pay_65 : decode cX1_pay 65 = .ok (.iconst 1, 1) := by decide +kernel
theorem dX1_pay_66 : decode cX1_pay 66 = .ok (.bastore, 1) := by decide +kernel
theorem dX1_pay_67 : decode cX1_pay 67 = .ok (.aload_n 0, 1) := by decide +kernel
theorem dX1_pay_68 : decode cX1_pay 68 = .ok (.iload_n 1, 1) := by decide +kernel
theorem dX1_pay_69 : decode cX1_pay 69 = .ok (.iload_n 2, 1) := by decide +kernel
theorem dX1_pay_70 : decode cX1_pay 70 = .ok (.aload_n 0, 1) := by decide +kernel
theorem dX1_pay_71 : decode cX1_pay 71 = .ok (.getfield 82, 3) := by decide +kernel
theorem dX1_pay_74 : decode cX1_pay 74 = .ok (.iload_n 1, 1) := by decide +kernel
theorem dX1_pay_75 : decode cX1_pay 75 = .ok (.iaload, 1) := by decide +kernel
theorem dX1_pay_76 : decode cX1_pay 76 = .ok (.invokevirtual 290, 3) := by decide +kernel
theorem dX1_pay_79 : decode cX1_pay 79 = .ok (.aload_n 0, 1) := by decide +kernel
theorem dX1_pay_80 : decode cX1_pay 80 = .ok (.getfield 82, 3) := by decide +kernel
theorem dX1_pay_83 : decode cX1_pay 83 = .ok (.iload_n 1, 1) := by decide +kernel
theorem dX1_pay_84 : decode cX1_pay 84 = .ok (.iaload, 1) := by decide +kernel
theorem dX1_pay_85 : decode cX1_pay 85 = .ok (.ireturn, 1) := by decide +kernel
theorem dX1_ticketOf_0 : decode cX1_ticketOf 0 = .ok (.aload_n 0, 1) := by decide +kernel
theorem dX1_ticketOf_1 : decode cX1_ticketOf 1 = .ok (.iconst 0, 1) := by decide +kernel
theorem dX1_ticketOf_2 : decode cX1_ticketOf 2 = .ok (.putfield 100, 3) := by decide +kernel
theorem dX1_ticketOf_5 : decode cX1_ticketOf 5 = .ok (.aload_n 0, 1) := by decide +kernel
theorem dX1_ticketOf_6 : decode cX1_ticketOf 6 = .ok (.iload_n 1, 1) := by decide +kernel
theorem dX1_ticketOf_7 : decode cX1_ticketOf 7 = .ok (.invokevirtual 284, 3) := by decide +kernel
theorem dX1_ticketOf_10 : decode cX1_ticketOf 10 = .ok (.ifCond .eq 5, 3) := by decide +kernel
theorem dX1_ticketOf_13 : decode cX1_ticketOf 13 = .ok (.iconst (-1), 1) := by decide +kernel
theorem dX1_ticketOf_14 : decode cX1_ticketOf 14 = .ok (.ireturn, 1) := by decide +kernel
theorem dX1_ticketOf_15 : decode cX1_ticketOf 15 = .ok (.iload_n 2, 1) := by decide +kernel
theorem dX1_ticketOf_16 : decode cX1_ticketOf 16 = .ok (.tableswitch 68 0 3 #[32, 39, 54, 61], 32) := by decide +kernel
theorem dX1_ticketOf_48 : decode cX1_ticketOf 48 = .ok (.aload_n 0, 1) := by decide +kernel
theorem dX1_ticketOf_49 : decode cX1_ticketOf 49 = .ok (.getfield 85, 3) := by decide +kernel
theorem dX1_ticketOf_52 : decode cX1_ticketOf 52 = .ok (.iload_n 1, 1) := by decide +kernel
theorem dX1_ticketOf_53 : decode cX1_ticketOf 53 = .ok (.iaload, 1) := by decide +kernel
theorem dX1_ticketOf_54 : decode cX1_ticketOf 54 = .ok (.ireturn, 1) := by decide +kernel
theorem dX1_ticketOf_55 : decode cX1_ticketOf 55 = .ok (.aload_n 0, 1) := by decide +kernel
theorem dX1_ticketOf_56 : decode cX1_ticketOf 56 = .ok (.getfield 88, 3) := by decide +kernel
theorem dX1_ticketOf_59 : decode cX1_ticketOf 59 = .ok (.iload_n 1, 1) := by decide +kernel
theorem dX1_ticketOf_60 : decode cX1_ticketOf 60 = .ok (.baload, 1) := by decide +kernel
theorem dX1_ticketOf_61 : decode cX1_ticketOf 61 = .ok (.ifCond .eq 7, 3) := by decide +kernel
theorem dX1_ticketOf_64 : decode cX1_ticketOf 64 = .ok (.iconst 1, 1) := by decide +kernel
theorem dX1_ticketOf_65 : decode cX1_ticketOf 65 = .ok (.goto 4, 3) := by decide +kernel
theorem dX1_ticketOf_68 : decode cX1_ticketOf 68 = .ok (.iconst 0, 1) := by decide +kernel
theorem dX1_ticketOf_69 : decode cX1_ticketOf 69 = .ok (.ireturn, 1) := by decide +kernel
theorem dX1_ticketOf_70 : decode cX1_ticketOf 70 = .ok (.aload_n 0, 1) := by decide +kernel
theorem dX1_ticketOf_71 : decode cX1_ticketOf 71 = .ok (.getfield 91, 3) := by decide +kernel
theorem dX1_ticketOf_74 : decode cX1_ticketOf 74 = .ok (.iload_n 1, 1) := by decide +kernel
theorem dX1_ticketOf_75 : decode cX1_ticketOf 75 = .ok (.iaload, 1) := by decide +kernel
theorem dX1_ticketOf_76 : decode cX1_ticketOf 76 = .ok (.ireturn, 1) := by decide +kernel
theorem dX1_ticketOf_77 : decode cX1_ticketOf 77 = .ok (.aload_n 0, 1) := by decide +kernel
theorem dX1_ticketOf_78 : decode cX1_ticketOf 78 = .ok (.getfield 82, 3) := by decide +kernel
theorem dX1_ticketOf_81 : decode cX1_ticketOf 81 = .ok (.iload_n 1, 1) := by decide +kernel
theorem dX1_ticketOf_82 : decode cX1_ticketOf 82 = .ok (.iaload, 1) := by decide +kernel
theorem dX1_ticketOf_83 : decode cX1_ticketOf 83 = .ok (.ireturn, 1) := by decide +kernel
theorem dX1_ticketOf_84 : decode cX1_ticketOf 84 = .ok (.bipush (-2), 2) := by decide +kernel
theorem dX1_ticketOf_86 : decode cX1_ticketOf 86 = .ok (.ireturn, 1) := by decide +kernel
theorem dX1_purse_0 : decode cX1_purse 0 = .ok (.aload_n 0, 1) := by decide +kernel
theorem dX1_purse_1 : decode cX1_purse 1 = .ok (.iconst 0, 1) := by decide +kernel
theorem dX1_purse_2 : decode cX1_purse 2 = .ok (.putfield 100, 3) := by decide +kernel
theorem dX1_purse_5 : decode cX1_purse 5 = .ok (.iload_n 1, 1) := by decide +kernel
theorem dX1_purse_6 : decode cX1_purse 6 = .ok (.invokestatic 287, 3) := by decide +kernel
theorem dX1_purse_9 : decode cX1_purse 9 = .ok (.ifCond .eq 7, 3) := by decide +kernel
theorem dX1_purse_12 : decode cX1_purse 12 = .ok (.iconst (-1), 1) := by decide +kernel
theorem dX1_purse_13 : decode cX1_purse 13 = .ok (.goto 13, 3) := by decide +kernel
theorem dX1_purse_16 : decode cX1_purse 16 = .ok (.aload_n 0, 1) := by decide +kernel
theorem dX1_purse_17 : decode cX1_purse 17 = .ok (.getfield 94, 3) := by decide +kernel
theorem dX1_purse_20 : decode cX1_purse 20 = .ok (.iload_n 1, 1) := by decide +kernel
theorem dX1_purse_21 : decode cX1_purse 21 = .ok (.iaload, 1) := by decide +kernel
theorem dX1_purse_22 : decode cX1_purse 22 = .ok (.ldc_w 294, 3) := by decide +kernel
theorem dX1_purse_25 : decode cX1_purse 25 = .ok (.iadd, 1) := by decide +kernel
theorem dX1_purse_26 : decode cX1_purse 26 = .ok (.ireturn, 1) := by decide +kernel
theorem dX1_wages_0 : decode cX1_wages 0 = .ok (.aload_n 0, 1) := by decide +kernel
theorem dX1_wages_1 : decode cX1_wages 1 = .ok (.iconst 0, 1) := by decide +kernel
theorem dX1_wages_2 : decode cX1_wages 2 = .ok (.putfield 100, 3) := by decide +kernel
theorem dX1_wages_5 : decode cX1_wages 5 = .ok (.aload_n 0, 1) := by decide +kernel
theorem dX1_wages_6 : decode cX1_wages 6 = .ok (.iload_n 1, 1) := by decide +kernel
theorem dX1_wages_7 : decode cX1_wages 7 = .ok (.invokevirtual 144, 3) := by decide +kernel
theorem dX1_wages_10 : decode cX1_wages 10 = .ok (.ifCond .eq 5, 3) := by decide +kernel
theorem dX1_wages_13 : decode cX1_wages 13 = .ok (.iconst (-1), 1) := by decide +kernel
theorem dX1_wages_14 : decode cX1_wages 14 = .ok (.ireturn, 1) := by decide +kernel
theorem dX1_wages_15 : decode cX1_wages 15 = .ok (.iload_n 2, 1) := by decide +kernel
theorem dX1_wages_16 : decode cX1_wages 16 = .ok (.ifCond .eq 7, 3) := by decide +kernel
theorem dX1_wages_19 : decode cX1_wages 19 = .ok (.iconst 0, 1) := by decide +kernel
theorem dX1_wages_20 : decode cX1_wages 20 = .ok (.goto 9, 3) := by decide +kernel
theorem dX1_wages_23 : decode cX1_wages 23 = .ok (.aload_n 0, 1) := by decide +kernel
theorem dX1_wages_24 : decode cX1_wages 24 = .ok (.getfield 97, 3) := by decide +kernel
theorem dX1_wages_27 : decode cX1_wages 27 = .ok (.iload_n 1, 1) := by decide +kernel
theorem dX1_wages_28 : decode cX1_wages 28 = .ok (.iaload, 1) := by decide +kernel
theorem dX1_wages_29 : decode cX1_wages 29 = .ok (.istore_n 3, 1) := by decide +kernel
theorem dX1_wages_30 : decode cX1_wages 30 = .ok (.iconst 0, 1) := by decide +kernel
theorem dX1_wages_31 : decode cX1_wages 31 = .ok (.istore 4, 2) := by decide +kernel
theorem dX1_wages_33 : decode cX1_wages 33 = .ok (.iload 4, 2) := by decide +kernel
theorem dX1_wages_35 : decode cX1_wages 35 = .ok (.aload_n 0, 1) := by decide +kernel
theorem dX1_wages_36 : decode cX1_wages 36 = .ok (.getfield 277, 3) := by decide +kernel
theorem dX1_wages_39 : decode cX1_wages 39 = .ok (.if_icmp .ge 60, 3) := by decide +kernel
theorem dX1_wages_42 : decode cX1_wages 42 = .ok (.iload_n 2, 1) := by decide +kernel
theorem dX1_wages_43 : decode cX1_wages 43 = .ok (.ifCond .eq 56, 3) := by decide +kernel
theorem dX1_wages_46 : decode cX1_wages 46 = .ok (.iload_n 3, 1) := by decide +kernel
theorem dX1_wages_47 : decode cX1_wages 47 = .ok (.aload_n 0, 1) := by decide +kernel
theorem dX1_wages_48 : decode cX1_wages 48 = .ok (.getfield 79, 3) := by decide +kernel
theorem dX1_wages_51 : decode cX1_wages 51 = .ok (.iload 4, 2) := by decide +kernel
theorem dX1_wages_53 : decode cX1_wages 53 = .ok (.iaload, 1) := by decide +kernel
theorem dX1_wages_54 : decode cX1_wages 54 = .ok (.iload_n 1, 1) := by decide +kernel
theorem dX1_wages_55 : decode cX1_wages 55 = .ok (.if_icmp .ne 35, 3) := by decide +kernel
theorem dX1_wages_58 : decode cX1_wages 58 = .ok (.aload_n 0, 1) := by decide +kernel
theorem dX1_wages_59 : decode cX1_wages 59 = .ok (.getfield 85, 3) := by decide +kernel
theorem dX1_wages_62 : decode cX1_wages 62 = .ok (.iload 4, 2) := by decide +kernel
theorem dX1_wages_64 : decode cX1_wages 64 = .ok (.iaload, 1) := by decide +kernel
theorem dX1_wages_65 : decode cX1_wages 65 = .ok (.bipush (-9), 2) := by decide +kernel
theorem dX1_wages_67 : decode cX1_wages 67 = .ok (.if_icmp .ne 23, 3) := by decide +kernel
theorem dX1_wages_70 : decode cX1_wages 70 = .ok (.aload_n 0, 1) := by decide +kernel
theorem dX1_wages_71 : decode cX1_wages 71 = .ok (.getfield 88, 3) := by decide +kernel
theorem dX1_wages_74 : decode cX1_wages 74 = .ok (.iload 4, 2) := by decide +kernel
theorem dX1_wages_76 : decode cX1_wages 76 = .ok (.baload, 1) := by decide +kernel
theorem dX1_wages_77 : decode cX1_wages 77 = .ok (.ifCond .ne 13, 3) := by decide +kernel
theorem dX1_wages_80 : decode cX1_wages 80 = .ok (.aload_n 0, 1) := by decide +kernel
theorem dX1_wages_81 : decode cX1_wages 81 = .ok (.getfield 82, 3) := by decide +kernel
theorem dX1_wages_84 : decode cX1_wages 84 = .ok (.iload 4, 2) := by decide +kernel
theorem dX1_wages_86 : decode cX1_wages 86 = .ok (.iaload, 1) := by decide +kernel
theorem dX1_wages_87 : decode cX1_wages 87 = .ok (.goto 4, 3) := by decide +kernel
theorem dX1_wages_90 : decode cX1_wages 90 = .ok (.iconst 0, 1) := by decide +kernel
theorem dX1_wages_91 : decode cX1_wages 91 = .ok (.iadd, 1) := by decide +kernel
theorem dX1_wages_92 : decode cX1_wages 92 = .ok (.istore_n 3, 1) := by decide +kernel
theorem dX1_wages_93 : decode cX1_wages 93 = .ok (.iinc 4 1, 3) := by decide +kernel
theorem dX1_wages_96 : decode cX1_wages 96 = .ok (.goto (-63), 3) := by decide +kernel
theorem dX1_wages_99 : decode cX1_wages 99 = .ok (.iload_n 3, 1) := by decide +kernel
theorem dX1_wages_100 : decode cX1_wages 100 = .ok (.ireturn, 1) := by decide +kernel
theorem dX1_count_0 : decode cX1_count 0 = .ok (.aload_n 0, 1) := by decide +kernel
theorem dX1_count_1 : decode cX1_count 1 = .ok (.iconst 0, 1) := by decide +kernel
theorem dX1_count_2 : decode cX1_count 2 = .ok (.putfield 100, 3) := by decide +kernel
theorem dX1_count_5 : decode cX1_count 5 = .ok (.iconst 0, 1) := by decide +kernel
theorem dX1_count_6 : decode cX1_count 6 = .ok (.istore_n 2, 1) := by decide +kernel
theorem dX1_count_7 : decode cX1_count 7 = .ok (.iconst 0, 1) := by decide +kernel
theorem dX1_count_8 : decode cX1_count 8 = .ok (.istore_n 3, 1) := by decide +kernel
theorem dX1_count_9 : decode cX1_count 9 = .ok (.iload_n 3, 1) := by decide +kernel
theorem dX1_count_10 : decode cX1_count 10 = .ok (.aload_n 0, 1) := by decide +kernel
theorem dX1_count_11 : decode cX1_count 11 = .ok (.getfield 107, 3) := by decide +kernel
theorem dX1_count_14 : decode cX1_count 14 = .ok (.if_icmp .ge 28, 3) := by decide +kernel
theorem dX1_count_17 : decode cX1_count 17 = .ok (.iload_n 2, 1) := by decide +kernel
theorem dX1_count_18 : decode cX1_count 18 = .ok (.aload_n 0, 1) := by decide +kernel
theorem dX1_count_19 : decode cX1_count 19 = .ok (.iload_n 3, 1) := by decide +kernel
theorem dX1_count_20 : decode cX1_count 20 = .ok (.invokevirtual 154, 3) := by decide +kernel
theorem dX1_count_23 : decode cX1_count 23 = .ok (.invokestatic 171, 3) := by decide +kernel
theorem dX1_count_26 : decode cX1_count 26 = .ok (.ifCond .eq 7, 3) := by decide +kernel
theorem dX1_count_29 : decode cX1_count 29 = .ok (.iconst 0, 1) := by decide +kernel
theorem dX1_count_30 : decode cX1_count 30 = .ok (.goto 4, 3) := by decide +kernel
theorem dX1_count_33 : decode cX1_count 33 = .ok (.iconst 1, 1) := by decide +kernel
theorem dX1_count_34 : decode cX1_count 34 = .ok (.iadd, 1) := by decide +kernel
theorem dX1_count_35 : decode cX1_count 35 = .ok (.istore_n 2, 1) := by decide +kernel
theorem dX1_count_36 : decode cX1_count 36 = .ok (.iinc 3 1, 3) := by decide +kernel
theorem dX1_count_39 : decode cX1_count 39 = .ok (.goto (-30), 3) := by decide +kernel
theorem dX1_count_42 : decode cX1_count 42 = .ok (.iload_n 1, 1) := by decide +kernel
theorem dX1_count_43 : decode cX1_count 43 = .ok (.tableswitch 82 0 7 #[45, 50, 55, 60, 65, 70, 75, 77], 45) := by decide +kernel
theorem dX1_count_88 : decode cX1_count 88 = .ok (.aload_n 0, 1) := by decide +kernel
theorem dX1_count_89 : decode cX1_count 89 = .ok (.getfield 107, 3) := by decide +kernel
theorem dX1_count_92 : decode cX1_count 92 = .ok (.ireturn, 1) := by decide +kernel
theorem dX1_count_93 : decode cX1_count 93 = .ok (.aload_n 0, 1) := by decide +kernel
theorem dX1_count_94 : decode cX1_count 94 = .ok (.getfield 110, 3) := by decide +kernel
theorem dX1_count_97 : decode cX1_count 97 = .ok (.ireturn, 1) := by decide +kernel
theorem dX1_count_98 : decode cX1_count 98 = .ok (.aload_n 0, 1) := by decide +kernel
theorem dX1_count_99 : decode cX1_count 99 = .ok (.getfield 113, 3) := by decide +kernel
theorem dX1_count_102 : decode cX1_count 102 = .ok (.ireturn, 1) := by decide +kernel
theorem dX1_count_103 : decode cX1_count 103 = .ok (.aload_n 0, 1) := by decide +kernel
theorem dX1_count_104 : decode cX1_count 104 = .ok (.getfield 201, 3) := by decide +kernel
theorem dX1_count_107 : decode cX1_count 107 = .ok (.ireturn, 1) := by decide +kernel
theorem dX1_count_108 : decode cX1_count 108 = .ok (.aload_n 0, 1) := by decide +kernel
theorem dX1_count_109 : decode cX1_count 109 = .ok (.getfield 168, 3) := by decide +kernel
theorem dX1_count_112 : decode cX1_count 112 = .ok (.ireturn, 1) := by decide +kernel
theorem dX1_count_113 : decode cX1_count 113 = .ok (.aload_n 0, 1) := by decide +kernel
theorem dX1_count_114 : decode cX1_count 114 = .ok (.getfield 277, 3) := by decide +kernel
theorem dX1_count_117 : decode cX1_count 117 = .ok (.ireturn, 1) := by decide +kernel
theorem dX1_count_118 : decode cX1_count 118 = .ok (.iload_n 2, 1) := by decide +kernel
theorem dX1_count_119 : decode cX1_count 119 = .ok (.ireturn, 1) := by decide +kernel
theorem dX1_count_120 : decode cX1_count 120 = .ok (.aload_n 0, 1) := by decide +kernel
theorem dX1_count_121 : decode cX1_count 121 = .ok (.getfield 7, 3) := by decide +kernel
theorem dX1_count_124 : decode cX1_count 124 = .ok (.ireturn, 1) := by decide +kernel
theorem dX1_count_125 : decode cX1_count 125 = .ok (.bipush (-2), 2) := by decide +kernel
theorem dX1_count_127 : decode cX1_count 127 = .ok (.ireturn, 1) := by decide +kernel
