set_option maxRecDepth 100000
theorem dX0_isWronged_23 : decode cX0_isWronged 23 = .ok (.if_icmp .eq 29, 3) := by decide +kernel
theorem dX0_isWronged_26 : decode cX0_isWronged 26 = .ok (.iload_n 2, 1) := by decide +kernel
theorem dX0_isWronged_27 : decode cX0_isWronged 27 = .ok (.iconst 0, 1) := by decide +kernel
theorem dX0_isWronged_28 : decode cX0_isWronged 28 = .ok (.aload_n 0, 1) := by decide +kernel
theorem dX0_isWronged_29 : decode cX0_isWronged 29 = .ok (.getfield 111, 3) := by decide +kernel
theorem dX0_isWronged_32 : decode cX0_isWronged 32 = .ok (.iconst 1, 1) := by decide +kernel
theorem dX0_isWronged_33 : decode cX0_isWronged 33 = .ok (.isub, 1) := by decide +kernel
theorem dX0_isWronged_34 : decode cX0_isWronged 34 = .ok (.invokestatic 1, 3) := by decide +kernel
theorem dX0_isWronged_37 : decode cX0_isWronged 37 = .ok (.ifCond .eq 19, 3) := by decide +kernel
theorem dX0_isWronged_40 : decode cX0_isWronged 40 = .ok (.aload_n 0, 1) := by decide +kernel
theorem dX0_isWronged_41 : decode cX0_isWronged 41 = .ok (.getfield 54, 3) := by decide +kernel
theorem dX0_isWronged_44 : decode cX0_isWronged 44 = .ok (.iload_n 2, 1) := by decide +kernel
theorem dX0_isWronged_45 : decode cX0_isWronged 45 = .ok (.aaload, 1) := by decide +kernel
theorem dX0_isWronged_46 : decode cX0_isWronged 46 = .ok (.getfield 237, 3) := by decide +kernel
theorem dX0_isWronged_49 : decode cX0_isWronged 49 = .ok (.ifCond .ne 7, 3) := by decide +kernel
theorem dX0_isWronged_52 : decode cX0_isWronged 52 = .ok (.iconst 1, 1) := by decide +kernel
theorem dX0_isWronged_53 : decode cX0_isWronged 53 = .ok (.goto 4, 3) := by decide +kernel
theorem dX0_isWronged_56 : decode cX0_isWronged 56 = .ok (.iconst 0, 1) := by decide +kernel
theorem dX0_isWronged_57 : decode cX0_isWronged 57 = .ok (.istore_n 3, 1) := by decide +kernel
theorem dX0_isWronged_58 : decode cX0_isWronged 58 = .ok (.iload_n 3, 1) := by decide +kernel
theorem dX0_isWronged_59 : decode cX0_isWronged 59 = .ok (.ifCond .eq 24, 3) := by decide +kernel
theorem dX0_isWronged_62 : decode cX0_isWronged 62 = .ok (.aload_n 1, 1) := by decide +kernel
theorem dX0_isWronged_63 : decode cX0_isWronged 63 = .ok (.getfield 247, 3) := by decide +kernel
theorem dX0_isWronged_66 : decode cX0_isWronged 66 = .ok (.ifnull 17, 3) := by decide +kernel
theorem dX0_isWronged_69 : decode cX0_isWronged 69 = .ok (.aload_n 1, 1) := by decide +kernel
theorem dX0_isWronged_70 : decode cX0_isWronged 70 = .ok (.getfield 247, 3) := by decide +kernel
theorem dX0_isWronged_73 : decode cX0_isWronged 73 = .ok (.getfield 255, 3) := by decide +kernel
theorem dX0_isWronged_76 : decode cX0_isWronged 76 = .ok (.ifCond .ne 7, 3) := by decide +kernel
theorem dX0_isWronged_79 : decode cX0_isWronged 79 = .ok (.iconst 1, 1) := by decide +kernel
theorem dX0_isWronged_80 : decode cX0_isWronged 80 = .ok (.goto 4, 3) := by decide +kernel
theorem dX0_isWronged_83 : decode cX0_isWronged 83 = .ok (.iconst 0, 1) := by decide +kernel
theorem dX0_isWronged_84 : decode cX0_isWronged 84 = .ok (.ireturn, 1) := by decide +kernel
theorem dX0_wrongedMan_0 : decode cX0_wrongedMan 0 = .ok (.iload_n 1, 1) := by decide +kernel
theorem dX0_wrongedMan_1 : decode cX0_wrongedMan 1 = .ok (.istore_n 2, 1) := by decide +kernel
theorem dX0_wrongedMan_2 : decode cX0_wrongedMan 2 = .ok (.iconst 0, 1) := by decide +kernel
theorem dX0_wrongedMan_3 : decode cX0_wrongedMan 3 = .ok (.istore_n 3, 1) := by decide +kernel
theorem dX0_wrongedMan_4 : decode cX0_wrongedMan 4 = .ok (.iload_n 3, 1) := by decide +kernel
theorem dX0_wrongedMan_5 : decode cX0_wrongedMan 5 = .ok (.aload_n 0, 1) := by decide +kernel
theorem dX0_wrongedMan_6 : decode cX0_wrongedMan 6 = .ok (.getfield 68, 3) := by decide +kernel
theorem dX0_wrongedMan_9 : decode cX0_wrongedMan 9 = .ok (.if_icmp .ge 35, 3) := by decide +kernel
theorem dX0_wrongedMan_12 : decode cX0_wrongedMan 12 = .ok (.iload_n 1, 1) := by decide +kernel
theorem dX0_wrongedMan_13 : decode cX0_wrongedMan 13 = .ok (.ifCond .lt 31, 3) := by decide +kernel
theorem dX0_wrongedMan_16 : decode cX0_wrongedMan 16 = .ok (.aload_n 0, 1) := by decide +kernel
theorem dX0_wrongedMan_17 : decode cX0_wrongedMan 17 = .ok (.aload_n 0, 1) := by decide +kernel
theorem dX0_wrongedMan_18 : decode cX0_wrongedMan 18 = .ok (.getfield 24, 3) := by decide +kernel
theorem dX0_wrongedMan_21 : decode cX0_wrongedMan 21 = .ok (.iload_n 3, 1) := by decide +kernel
theorem dX0_wrongedMan_22 : decode cX0_wrongedMan 22 = .ok (.aaload, 1) := by decide +kernel
theorem dX0_wrongedMan_23 : decode cX0_wrongedMan 23 = .ok (.invokevirtual 258, 3) := by decide +kernel
theorem dX0_wrongedMan_26 : decode cX0_wrongedMan 26 = .ok (.ifCond .eq 12, 3) := by decide +kernel
theorem dX0_wrongedMan_29 : decode cX0_wrongedMan 29 = .ok (.iload_n 2, 1) := by decide +kernel
theorem dX0_wrongedMan_30 : decode cX0_wrongedMan 30 = .ok (.ifCond .ne 5, 3) := by decide +kernel
theorem dX0_wrongedMan_33 : decode cX0_wrongedMan 33 = .ok (.iload_n 3, 1) := by decide +kernel
theorem dX0_wrongedMan_34 : decode cX0_wrongedMan 34 = .ok (.ireturn, 1) := by decide +kernel
theorem dX0_wrongedMan_35 : decode cX0_wrongedMan 35 = .ok (.iinc 2 (-1), 3) := by decide +kernel
theorem dX0_wrongedMan_38 : decode cX0_wrongedMan 38 = .ok (.iinc 3 1, 3) := by decide +kernel
theorem dX0_wrongedMan_41 : decode cX0_wrongedMan 41 = .ok (.goto (-37), 3) := by decide +kernel
theorem dX0_wrongedMan_44 : decode cX0_wrongedMan 44 = .ok (.bipush (-9), 2) := by decide +kernel
theorem dX0_wrongedMan_46 : decode cX0_wrongedMan 46 = .ok (.ireturn, 1) := by decide +kernel
theorem dX0_letGo_0 : decode cX0_letGo 0 = .ok (.aload_n 0, 1) := by decide +kernel
theorem dX0_letGo_1 : decode cX0_letGo 1 = .ok (.iload_n 1, 1) := by decide +kernel
theorem dX0_letGo_2 : decode cX0_letGo 2 = .ok (.invokevirtual 82, 3) := by decide +kernel
theorem dX0_letGo_5 : decode cX0_letGo 5 = .ok (.ifCond .ne 5, 3) := by decide +kernel
theorem dX0_letGo_8 : decode cX0_letGo 8 = .ok (.iconst (-1), 1) := by decide +kernel
theorem dX0_letGo_9 : decode cX0_letGo 9 = .ok (.ireturn, 1) := by decide +kernel
theorem dX0_letGo_10 : decode cX0_letGo 10 = .ok (.aload_n 0, 1) := by decide +kernel
theorem dX0_letGo_11 : decode cX0_letGo 11 = .ok (.getfield 24, 3) := by decide +kernel
theorem dX0_letGo_14 : decode cX0_letGo 14 = .ok (.iload_n 1, 1) := by decide +kernel
theorem dX0_letGo_15 : decode cX0_letGo 15 = .ok (.aaload, 1) := by decide +kernel
theorem dX0_letGo_16 : decode cX0_letGo 16 = .ok (.invokevirtual 104, 3) := by decide +kernel
theorem dX0_letGo_19 : decode cX0_letGo 19 = .ok (.istore_n 2, 1) := by decide +kernel
theorem dX0_letGo_20 : decode cX0_letGo 20 = .ok (.iload_n 2, 1) := by decide +kernel
theorem dX0_letGo_21 : decode cX0_letGo 21 = .ok (.bipush 20, 2) := by decide +kernel
theorem dX0_letGo_23 : decode cX0_letGo 23 = .ok (.if_icmp .eq 19, 3) := by decide +kernel
theorem dX0_letGo_26 : decode cX0_letGo 26 = .ok (.iload_n 2, 1) := by decide +kernel
theorem dX0_letGo_27 : decode cX0_letGo 27 = .ok (.bipush 21, 2) := by decide +kernel
theorem dX0_letGo_29 : decode cX0_letGo 29 = .ok (.if_icmp .eq 13, 3) := by decide +kernel
theorem dX0_letGo_32 : decode cX0_letGo 32 = .ok (.aload_n 0, 1) := by decide +kernel
theorem dX0_letGo_33 : decode cX0_letGo 33 = .ok (.iload_n 2, 1) := by decide +kernel
theorem dX0_letGo_34 : decode cX0_letGo 34 = .ok (.bipush (-9), 2) := by decide +kernel
theorem dX0_letGo_36 : decode cX0_letGo 36 = .ok (.invokevirtual 240, 3) := by decide +kernel
theorem dX0_letGo_39 : decode cX0_letGo 39 = .ok (.ifCond .eq 7, 3) := by decide +kernel
theorem dX0_letGo_42 : decode cX0_letGo 42 = .ok (.iconst 1, 1) := by decide +kernel
theorem dX0_letGo_43 : decode cX0_letGo 43 = .ok (.goto 4, 3) := by decide +kernel
theorem dX0_letGo_46 : decode cX0_letGo 46 = .ok (.iconst 0, 1) := by decide +kernel
theorem dX0_letGo_47 : decode cX0_letGo 47 = .ok (.istore_n 3, 1) := by decide +kernel
theorem dX0_letGo_48 : decode cX0_letGo 48 = .ok (.iload_n 3, 1) := by decide +kernel
theorem dX0_letGo_49 : decode cX0_letGo 49 = .ok (.ifCond .eq 25, 3) := by decide +kernel
theorem dX0_letGo_52 : decode cX0_letGo 52 = .ok (.aload_n 0, 1) := by decide +kernel
theorem dX0_letGo_53 : decode cX0_letGo 53 = .ok (.aload_n 0, 1) := by decide +kernel
theorem dX0_letGo_54 : decode cX0_letGo 54 = .ok (.getfield 24, 3) := by decide +kernel
theorem dX0_letGo_57 : decode cX0_letGo 57 = .ok (.iload_n 1, 1) := by decide +kernel
theorem dX0_letGo_58 : decode cX0_letGo 58 = .ok (.aaload, 1) := by decide +kernel
theorem dX0_letGo_59 : decode cX0_letGo 59 = .ok (.aload_n 0, 1) := by decide +kernel
theorem dX0_letGo_60 : decode cX0_letGo 60 = .ok (.getfield 24, 3) := by decide +kernel
theorem dX0_letGo_63 : decode cX0_letGo 63 = .ok (.iload_n 1, 1) := by decide +kernel
theorem dX0_letGo_64 : decode cX0_letGo 64 = .ok (.aaload, 1) := by decide +kernel
theorem dX0_letGo_65 : decode cX0_letGo 65 = .ok (.invokevirtual 136, 3) := by decide +kernel
theorem dX0_letGo_68 : decode cX0_letGo 68 = .ok (.invokevirtual 145, 3) := by decide +kernel
theorem dX0_letGo_71 : decode cX0_letGo 71 = .ok (.goto 5, 3) := by decide +kernel
theorem dX0_letGo_74 : decode cX0_letGo 74 = .ok (.bipush (-3), 2) := by decide +kernel
theorem dX0_letGo_76 : decode cX0_letGo 76 = .ok (.ireturn, 1) := by decide +kernel
theorem dX0_quiet_0 : decode cX0_quiet 0 = .ok (.iconst 0, 1) := by decide +kernel
theorem dX0_quiet_1 : decode cX0_quiet 1 = .ok (.istore_n 1, 1) := by decide +kernel
theorem dX0_quiet_2 : decode cX0_quiet 2 = .ok (.aload_n 0, 1) := by decide +kernel
theorem dX0_quiet_3 : decode cX0_quiet 3 = .ok (.getfield 261, 3) := by decide +kernel
theorem dX0_quiet_6 : decode cX0_quiet 6 = .ok (.istore_n 2, 1) := by decide +kernel
theorem dX0_quiet_7 : decode cX0_quiet 7 = .ok (.iload_n 2, 1) := by decide +kernel
theorem dX0_quiet_8 : decode cX0_quiet 8 = .ok (.aload_n 0, 1) := by decide +kernel
theorem dX0_quiet_9 : decode cX0_quiet 9 = .ok (.getfield 170, 3) := by decide +kernel
theorem dX0_quiet_12 : decode cX0_quiet 12 = .ok (.if_icmp .ge 29, 3) := by decide +kernel
theorem dX0_quiet_15 : decode cX0_quiet 15 = .ok (.iload_n 1, 1) := by decide +kernel
theorem dX0_quiet_16 : decode cX0_quiet 16 = .ok (.aload_n 0, 1) := by decide +kernel
theorem dX0_quiet_17 : decode cX0_quiet 17 = .ok (.getfield 48, 3) := by decide +kernel
theorem dX0_quiet_20 : decode cX0_quiet 20 = .ok (.iload_n 2, 1) := by decide +kernel
theorem dX0_quiet_21 : decode cX0_quiet 21 = .ok (.aaload, 1) := by decide +kernel
theorem dX0_quiet_22 : decode cX0_quiet 22 = .ok (.invokevirtual 264, 3) := by decide +kernel
theorem dX0_quiet_25 : decode cX0_quiet 25 = .ok (.ifCond .eq 7, 3) := by decide +kernel
theorem dX0_quiet_28 : decode cX0_quiet 28 = .ok (.iconst 1, 1) := by decide +kernel
theorem dX0_quiet_29 : decode cX0_quiet 29 = .ok (.goto 4, 3) := by decide +kernel
theorem dX0_quiet_32 : decode cX0_quiet 32 = .ok (.iconst 0, 1) := by decide +kernel
theorem dX0_quiet_33 : decode cX0_quiet 33 = .ok (.iadd, 1) := by decide +kernel
theorem dX0_quiet_34 : decode cX0_quiet 34 = .ok (.istore_n 1, 1) := by decide +kernel
theorem dX0_quiet_35 : decode cX0_quiet 35 = .ok (.iinc 2 1, 3) := by decide +kernel
theorem dX0_quiet_38 : decode cX0_quiet 38 = .ok (.goto (-31), 3) := by decide +kernel
theorem dX0_quiet_41 : decode cX0_quiet 41 = .ok (.aload_n 0, 1) := by decide +kernel
theorem dX0_quiet_42 : decode cX0_quiet 42 = .ok (.aload_n 0, 1) := by decide +kernel
theorem dX0_quiet_43 : decode cX0_quiet 43 = .ok (.getfield 170, 3) := by decide +kernel
theorem dX0_quiet_46 : decode cX0_quiet 46 = .ok (.putfield 261, 3) := by decide +kernel
theorem dX0_quiet_49 : decode cX0_quiet 49 = .ok (.iload_n 1, 1) := by decide +kernel
theorem dX0_quiet_50 : decode cX0_quiet 50 = .ok (.ireturn, 1) := by decide +kernel
theorem dX0_heard_0 : decode cX0_heard 0 = .ok (.aload_n 0, 1) := by decide +kernel
theorem dX0_heard_1 : decode cX0_heard 1 = .ok (.iload_n 1, 1) := by decide +kernel
theorem dX0_heard_2 : decode cX0_heard 2 = .ok (.invokevirtual 71, 3) := by decide +kernel
theorem dX0_heard_5 : decode cX0_heard 5 = .ok (.ifCond .eq 11, 3) := by decide +kernel
theorem dX0_heard_8 : decode cX0_heard 8 = .ok (.aload_n 0, 1) := by decide +kernel
theorem dX0_heard_9 : decode cX0_heard 9 = .ok (.iload_n 1, 1) := by decide +kernel
theorem dX0_heard_10 : decode cX0_heard 10 = .ok (.invokevirtual 270, 3) := by decide +kernel
theorem dX0_heard_13 : decode cX0_heard 13 = .ok (.goto 4, 3) := by decide +kernel
theorem dX0_heard_16 : decode cX0_heard 16 = .ok (.iconst (-1), 1) := by decide +kernel
theorem dX0_heard_17 : decode cX0_heard 17 = .ok (.ireturn, 1) := by decide +kernel
theorem dX0_tender_0 : decode cX0_tender 0 = .ok (.iload_n 1, 1) := by decide +kernel
theorem dX0_tender_1 : decode cX0_tender 1 = .ok (.ifCond .ne 13, 3) := by decide +kernel
theorem dX0_tender_4 : decode cX0_tender 4 = .ok (.iload_n 2, 1) := by decide +kernel
theorem dX0_tender_5 : decode cX0_tender 5 = .ok (.iconst 0, 1) := by decide +kernel
theorem dX0_tender_6 : decode cX0_tender 6 = .ok (.bipush 40, 2) := by decide +kernel
theorem dX0_tender_8 : decode cX0_tender 8 = .ok (.invokestatic 1, 3) := by decide +kernel
theorem dX0_tender_11 : decode cX0_tender 11 = .ok (.ifCond .ne 21, 3) := by decide +kernel
theorem dX0_tender_14 : decode cX0_tender 14 = .ok (.iload_n 1, 1) := by decide +kernel
theorem dX0_tender_15 : decode cX0_tender 15 = .ok (.iconst 1, 1) := by decide +kernel
theorem dX0_tender_16 : decode cX0_tender 16 = .ok (.if_icmp .ne 13, 3) := by decide +kernel
theorem dX0_tender_19 : decode cX0_tender 19 = .ok (.iload_n 2, 1) := by decide +kernel
theorem dX0_tender_20 : decode cX0_tender 20 = .ok (.iconst 0, 1) := by decide +kernel
theorem dX0_tender_21 : decode cX0_tender 21 = .ok (.bipush 100, 2) := by decide +kernel
theorem dX0_tender_23 : decode cX0_tender 23 = .ok (.invokestatic 1, 3) := by decide +kernel
theorem dX0_tender_26 : decode cX0_tender 26 = .ok (.ifCond .ne 6, 3) := by decide +kernel
theorem dX0_tender_29 : decode cX0_tender 29 = .ok (.bipush (-2), 2) := by decide +kernel
theorem dX0_tender_31 : decode cX0_tender 31 = .ok (.ireturn, 1) := by decide +kernel
theorem dX0_tender_32 : decode cX0_tender 32 = .ok (.iload_n 1, 1) := by decide +kernel
theorem dX0_tender_33 : decode cX0_tender 33 = .ok (.ifCond .ne 10, 3) := by decide +kernel
theorem dX0_tender_36 : decode cX0_tender 36 = .ok (.aload_n 0, 1) := by decide +kernel
theorem dX0_tender_37 : decode cX0_tender 37 = .ok (.getfield 28, 3) := by decide +kernel
theorem dX0_tender_40 : decode cX0_tender 40 = .ok (.goto 7, 3) := by decide +kernel
theorem dX0_tender_43 : decode cX0_tender 43 = .ok (.aload_n 0, 1) := by decide +kernel
theorem dX0_tender_44 : decode cX0_tender 44 = .ok (.getfield 31, 3) := by decide +kernel
theorem dX0_tender_47 : decode cX0_tender 47 = .ok (.istore_n 3, 1) := by decide +kernel
theorem dX0_tender_48 : decode cX0_tender 48 = .ok (.iload_n 1, 1) := by decide +kernel
theorem dX0_tender_49 : decode cX0_tender 49 = .ok (.ifCond .ne 11, 3) := by decide +kernel
theorem dX0_tender_52 : decode cX0_tender 52 = .ok (.aload_n 0, 1) := by decide +kernel
theorem dX0_tender_53 : decode cX0_tender 53 = .ok (.iload_n 2, 1) := by decide +kernel
theorem dX0_tender_54 : decode cX0_tender 54 = .ok (.putfield 28, 3) := by decide +kernel
theorem dX0_tender_57 : decode cX0_tender 57 = .ok (.goto 8, 3) := by decide +kernel
theorem dX0_tender_60 : decode cX0_tender 60 = .ok (.aload_n 0, 1) := by decide +kernel
theorem dX0_tender_61 : decode cX0_tender 61 = .ok (.iload_n 2, 1) := by decide +kernel
theorem dX0_tender_62 : decode cX0_tender 62 = .ok (.putfield 31, 3) := by decide +kernel
theorem dX0_tender_65 : decode cX0_tender 65 = .ok (.iload_n 3, 1) := by decide +kernel
theorem dX0_tender_66 : decode cX0_tender 66 = .ok (.ireturn, 1) := by decide +kernel
theorem dX0_met_0 : decode cX0_met 0 = .ok (.iload_n 1, 1) := by decide +kernel
theorem dX0_met_1 : decode cX0_met 1 = .ok (.iconst 1, 1) := by decide +kernel
theorem dX0_met_2 : decode cX0_met 2 = .ok (.iconst 2, 1) := by decide +kernel
theorem dX0_met_3 : decode cX0_met 3 = .ok (.invokestatic 1, 3) := by decide +kernel
theorem dX0_met_6 : decode cX0_met 6 = .ok (.ifCond .eq 28, 3) := by decide +kernel
theorem dX0_met_9 : decode cX0_met 9 = .ok (.iload_n 2, 1) := by decide +kernel
theorem dX0_met_10 : decode cX0_met 10 = .ok (.iconst 1, 1) := by decide +kernel
theorem dX0_met_11 : decode cX0_met 11 = .ok (.iconst 3, 1) := by decide +kernel
theorem dX0_met_12 : decode cX0_met 12 = .ok (.invokestatic 1, 3) := by decide +kernel
theorem dX0_met_15 : decode cX0_met 15 = .ok (.ifCond .eq 19, 3) := by decide +kernel
theorem dX0_met_18 : decode cX0_met 18 = .ok (.new 273, 3) := by decide +kernel
theorem dX0_met_21 : decode cX0_met 21 = .ok (.dup, 1) := by decide +kernel
theorem dX0_met_22 : decode cX0_met 22 = .ok (.aload_n 0, 1) := by decide +kernel
theorem dX0_met_23 : decode cX0_met 23 = .ok (.iload_n 1, 1) := by decide +kernel
theorem dX0_met_24 : decode cX0_met 24 = .ok (.iload_n 2, 1) := by decide +kernel
theorem dX0_met_25 : decode cX0_met 25 = .ok (.invokespecial 275, 3) := by decide +kernel
theorem dX0_met_28 : decode cX0_met 28 = .ok (.getfield 278, 3) := by decide +kernel
theorem dX0_met_31 : decode cX0_met 31 = .ok (.goto 5, 3) := by decide +kernel
theorem dX0_met_34 : decode cX0_met 34 = .ok (.bipush (-2), 2) := by decide +kernel
theorem dX0_met_36 : decode cX0_met 36 = .ok (.ireturn, 1) := by decide +kernel
theorem dX0_laid_0 : decode cX0_laid 0 = .ok (.iload_n 1, 1) := by decide +kernel
theorem dX0_laid_1 : decode cX0_laid 1 = .ok (.iconst 1, 1) := by decide +kernel
theorem dX0_laid_2 : decode cX0_laid 2 = .ok (.iconst 2, 1) := by decide +kernel
theorem dX0_laid_3 : decode cX0_laid 3 = .ok (.invokestatic 1, 3) := by decide +kernel
theorem dX0_laid_6 : decode cX0_laid 6 = .ok (.ifCond .eq 35, 3) := by decide +kernel
theorem dX0_laid_9 : decode cX0_laid 9 = .ok (.iload_n 2, 1) := by decide +kernel
theorem dX0_laid_10 : decode cX0_laid 10 = .ok (.iconst 1, 1) := by decide +kernel
theorem dX0_laid_11 : decode cX0_laid 11 = .ok (.iconst 3, 1) := by decide +kernel
theorem dX0_laid_12 : decode cX0_laid 12 = .ok (.invokestatic 1, 3) := by decide +kernel
theorem dX0_laid_15 : decode cX0_laid 15 = .ok (.ifCond .eq 26, 3) := by decide +kernel
theorem dX0_laid_18 : decode cX0_laid 18 = .ok (.iload_n 3, 1) := by decide +kernel
theorem dX0_laid_19 : decode cX0_laid 19 = .ok (.iconst 0, 1) := by decide +kernel
theorem dX0_laid_20 : decode cX0_laid 20 = .ok (.iload_n 1, 1) := by decide +kernel
theorem dX0_laid_21 : decode cX0_laid 21 = .ok (.iconst 1, 1) := by decide +kernel
theorem dX0_laid_22 : decode cX0_laid 22 = .ok (.isub, 1) := by decide +kernel
theorem dX0_laid_23 : decode cX0_laid 23 = .ok (.invokestatic 1, 3) := by decide +kernel
theorem dX0_laid_26 : decode cX0_laid 26 = .ok (.ifCond .eq 15, 3) := by decide +kernel
theorem dX0_laid_29 : decode cX0_laid 29 = .ok (.iload 4, 2) := by decide +kernel
theorem dX0_laid_31 : decode cX0_laid 31 = .ok (.iconst 0, 1) := by decide +kernel
theorem dX0_laid_32 : decode cX0_laid 32 = .ok (.iload_n 2, 1) := by decide +kernel
theorem dX0_laid_33 : decode cX0_laid 33 = .ok (.iconst 1, 1) := by decide +kernel
theorem dX0_laid_34 : decode cX0_laid 34 = .ok (.isub, 1) := by decide +kernel
theorem dX0_laid_35 : decode cX0_laid 35 = .ok (.invokestatic 1, 3) := by decide +kernel
theorem dX0_laid_38 : decode cX0_laid 38 = .ok (.ifCond .ne 6, 3) := by decide +kernel
theorem dX0_laid_41 : decode cX0_laid 41 = .ok (.bipush (-2), 2) := by decide +kernel
theorem dX0_laid_43 : decode cX0_laid 43 = .ok (.ireturn, 1) := by decide +kernel
theorem dX0_laid_44 : decode cX0_laid 44 = .ok (.new 273, 3) := by decide +kernel
theorem dX0_laid_47 : decode cX0_laid 47 = .ok (.dup, 1) := by decide +kernel
theorem dX0_laid_48 : decode cX0_laid 48 = .ok (.aload_n 0, 1) := by decide +kernel
theorem dX0_laid_49 : decode cX0_laid 49 = .ok (.iload_n 1, 1) := by decide +kernel
theorem dX0_laid_50 : decode cX0_laid 50 = .ok (.iload_n 2, 1) := by decide +kernel
theorem dX0_laid_51 : decode cX0_laid 51 = .ok (.invokespecial 275, 3) := by decide +kernel
theorem dX0_laid_54 : decode cX0_laid 54 = .ok (.getfield 281, 3) := by decide +kernel
theorem dX0_laid_57 : decode cX0_laid 57 = .ok (.iload_n 3, 1) := by decide +kernel
theorem dX0_laid_58 : decode cX0_laid 58 = .ok (.iload_n 2, 1) := by decide +kernel
theorem dX0_laid_59 : decode cX0_laid 59 = .ok (.imul, 1) := by decide +kernel
theorem dX0_laid_60 : decode cX0_laid 60 = .ok (.iload 4, 2) := by decide +kernel
theorem dX0_laid_62 : decode cX0_laid 62 = .ok (.iadd, 1) := by decide +kernel
theorem dX0_laid_63 : decode cX0_laid 63 = .ok (.iaload, 1) := by decide +kernel
theorem dX0_laid_64 : decode cX0_laid 64 = .ok (.ireturn, 1) := by decide +kernel
theorem dX0_ship_0 : decode cX0_ship 0 = .ok (.iload_n 1, 1) := by decide +kernel
theorem dX0_ship_1 : decode cX0_ship 1 = .ok (.iconst 0, 1) := by decide +kernel
theorem dX0_ship_2 : decode cX0_ship 2 = .ok (.iconst 1, 1) := by decide +kernel
theorem dX0_ship_3 : decode cX0_ship 3 = .ok (.invokestatic 1, 3) := by decide +kernel
theorem dX0_ship_6 : decode cX0_ship 6 = .ok (.ifCond .eq 33, 3) := by decide +kernel
theorem dX0_ship_9 : decode cX0_ship 9 = .ok (.iload_n 2, 1) := by decide +kernel
theorem dX0_ship_10 : decode cX0_ship 10 = .ok (.iconst 1, 1) := by decide +kernel
theorem dX0_ship_11 : decode cX0_ship 11 = .ok (.bipush 20, 2) := by decide +kernel
theorem dX0_ship_13 : decode cX0_ship 13 = .ok (.invokestatic 1, 3) := by decide +kernel
theorem dX0_ship_16 : decode cX0_ship 16 = .ok (.ifCond .eq 23, 3) := by decide +kernel
theorem dX0_ship_19 : decode cX0_ship 19 = .ok (.iload_n 3, 1) := by decide +kernel
theorem dX0_ship_20 : decode cX0_ship 20 = .ok (.iconst 0, 1) := by decide +kernel
theorem dX0_ship_21 : decode cX0_ship 21 = .ok (.iload_n 2, 1) := by decide +kernel
theorem dX0_ship_22 : decode cX0_ship 22 = .ok (.invokestatic 1, 3) := by decide +kernel
theorem dX0_ship_25 : decode cX0_ship 25 = .ok (.ifCond .eq 14, 3) := by decide +kernel
theorem dX0_ship_28 : decode cX0_ship 28 = .ok (.iload 4, 2) := by decide +kernel
theorem dX0_ship_30 : decode cX0_ship 30 = .ok (.iconst 0, 1) := by decide +kernel
theorem dX0_ship_31 : decode cX0_ship 31 = .ok (.bipush 20, 2) := by decide +kernel
theorem dX0_ship_33 : decode cX0_ship 33 = .ok (.invokestatic 1, 3) := by decide +kernel
theorem dX0_ship_36 : decode cX0_ship 36 = .ok (.ifCond .ne 6, 3) := by decide +kernel
theorem dX0_ship_39 : decode cX0_ship 39 = .ok (.bipush (-2), 2) := by decide +kernel
theorem dX0_ship_41 : decode cX0_ship 41 = .ok (.ireturn, 1) := by decide +kernel
theorem dX0_ship_42 : decode cX0_ship 42 = .ok (.aload_n 0, 1) := by decide +kernel
theorem dX0_ship_43 : decode cX0_ship 43 = .ok (.getfield 111, 3) := by decide +kernel
theorem dX0_ship_46 : decode cX0_ship 46 = .ok (.bipush 10, 2) := by decide +kernel
theorem dX0_ship_48 : decode cX0_ship 48 = .ok (.if_icmp .ne 6, 3) := by decide +kernel
theorem dX0_ship_51 : decode cX0_ship 51 = .ok (.bipush (-4), 2) := by decide +kernel
theorem dX0_ship_53 : decode cX0_ship 53 = .ok (.ireturn, 1) := by decide +kernel
theorem dX0_ship_54 : decode cX0_ship 54 = .ok (.aload_n 0, 1) := by decide +kernel
theorem dX0_ship_55 : decode cX0_ship 55 = .ok (.getfield 54, 3) := by decide +kernel
theorem dX0_ship_58 : decode cX0_ship 58 = .ok (.aload_n 0, 1) := by decide +kernel
theorem dX0_ship_59 : decode cX0_ship 59 = .ok (.getfield 111, 3) := by decide +kernel
theorem dX0_ship_62 : decode cX0_ship 62 = .ok (.new 52, 3) := by decide +kernel
theorem dX0_ship_65 : decode cX0_ship 65 = .ok (.dup, 1) := by decide +kernel
theorem dX0_ship_66 : decode cX0_ship 66 = .ok (.iload_n 1, 1) := by decide +kernel
theorem dX0_ship_67 : decode cX0_ship 67 = .ok (.iload_n 2, 1) := by decide +kernel
theorem dX0_ship_68 : decode cX0_ship 68 = .ok (.iload_n 3, 1) := by decide +kernel
theorem dX0_ship_69 : decode cX0_ship 69 = .ok (.iload 4, 2) := by decide +kernel
theorem dX0_ship_71 : decode cX0_ship 71 = .ok (.invokespecial 284, 3) := by decide +kernel
theorem dX0_ship_74 : decode cX0_ship 74 = .ok (.aastore, 1) := by decide +kernel
theorem dX0_ship_75 : decode cX0_ship 75 = .ok (.aload_n 0, 1) := by decide +kernel
theorem dX0_ship_76 : decode cX0_ship 76 = .ok (.dup, 1) := by decide +kernel
theorem dX0_ship_77 : decode cX0_ship 77 = .ok (.getfield 111, 3) := by decide +kernel
theorem dX0_ship_80 : decode cX0_ship 80 = .ok (.iconst 1, 1) := by decide +kernel
theorem dX0_ship_81 : decode cX0_ship 81 = .ok (.iadd, 1) := by decide +kernel
theorem dX0_ship_82 : decode cX0_ship 82 = .ok (.putfield 111, 3) := by decide +kernel
theorem dX0_ship_85 : decode cX0_ship 85 = .ok (.aload_n 0, 1) := by decide +kernel
theorem dX0_ship_86 : decode cX0_ship 86 = .ok (.getfield 111, 3) := by decide +kernel
theorem dX0_ship_89 : decode cX0_ship 89 = .ok (.iconst 1, 1) := by decide +kernel
theorem dX0_ship_90 : decode cX0_ship 90 = .ok (.isub, 1) := by decide +kernel
theorem dX0_ship_91 : decode cX0_ship 91 = .ok (.ireturn, 1) := by decide +kernel
theorem dX0_of_0 : decode cX0_of 0 = .ok (.aload_n 0, 1) := by decide +kernel
theorem dX0_of_1 : decode cX0_of 1 = .ok (.iload_n 1, 1) := by decide +kernel
theorem dX0_of_2 : decode cX0_of 2 = .ok (.invokevirtual 287, 3) := by decide +kernel
theorem dX0_of_5 : decode cX0_of 5 = .ok (.ifCond .ne 5, 3) := by decide +kernel
theorem dX0_of_8 : decode cX0_of 8 = .ok (.iconst (-1), 1) := by decide +kernel
theorem dX0_of_9 : decode cX0_of 9 = .ok (.ireturn, 1) := by decide +kernel
theorem dX0_of_10 : decode cX0_of 10 = .ok (.aload_n 0, 1) := by decide +kernel
theorem dX0_of_11 : decode cX0_of 11 = .ok (.getfield 54, 3) := by decide +kernel
theorem dX0_of_14 : decode cX0_of 14 = .ok (.iload_n 1, 1) := by decide +kernel
theorem dX0_of_15 : decode cX0_of 15 = .ok (.aaload, 1) := by decide +kernel
theorem dX0_of_16 : decode cX0_of 16 = .ok (.astore_n 3, 1) := by decide +kernel
theorem dX0_of_17 : decode cX0_of 17 = .ok (.iload_n 2, 1) := by decide +kernel
theorem dX0_of_18 : decode cX0_of 18 = .ok (.tableswitch 89 0 6 #[42, 47, 52, 57, 62, 75, 82], 42) := by decide +kernel
theorem dX0_of_60 : decode cX0_of 60 = .ok (.aload_n 3, 1) := by decide +kernel
theorem dX0_of_61 : decode cX0_of 61 = .ok (.getfield 237, 3) := by decide +kernel
theorem dX0_of_64 : decode cX0_of 64 = .ok (.ireturn, 1) := by decide +kernel
theorem dX0_of_65 : decode cX0_of 65 = .ok (.aload_n 3, 1) := by decide +kernel
theorem dX0_of_66 : decode cX0_of 66 = .ok (.getfield 290, 3) := by decide +kernel
theorem dX0_of_69 : decode cX0_of 69 = .ok (.ireturn, 1) := by decide +kernel
theorem dX0_of_70 : decode cX0_of 70 = .ok (.aload_n 3, 1) := by decide +kernel
theorem dX0_of_71 : decode cX0_of 71 = .ok (.getfield 293, 3) := by decide +kernel
theorem dX0_of_74 : decode cX0_of 74 = .ok (.ireturn, 1) := by decide +kernel
theorem dX0_of_75 : decode cX0_of 75 = .ok (.aload_n 3, 1) := by decide +kernel
theorem dX0_of_76 : decode cX0_of 76 = .ok (.getfield 296, 3) := by decide +kernel
theorem dX0_of_79 : decode cX0_of 79 = .ok (.ireturn, 1) := by decide +kernel
theorem dX0_of_80 : decode cX0_of 80 = .ok (.aload_n 3, 1) := by decide +kernel
theorem dX0_of_81 : decode cX0_of 81 = .ok (.getfield 234, 3) := by decide +kernel
theorem dX0_of_84 : decode cX0_of 84 = .ok (.ifCond .eq 7, 3) := by decide +kernel
theorem dX0_of_87 : decode cX0_of 87 = .ok (.iconst 1, 1) := by decide +kernel
theorem dX0_of_88 : decode cX0_of 88 = .ok (.goto 4, 3) := by decide +kernel
theorem dX0_of_91 : decode cX0_of 91 = .ok (.iconst 0, 1) := by decide +kernel
theorem dX0_of_92 : decode cX0_of 92 = .ok (.ireturn, 1) := by decide +kernel
theorem dX0_of_93 : decode cX0_of 93 = .ok (.aload_n 0, 1) := by decide +kernel
theorem dX0_of_94 : decode cX0_of 94 = .ok (.iload_n 1, 1) := by decide +kernel
theorem dX0_of_95 : decode cX0_of 95 = .ok (.iconst 0, 1) := by decide +kernel
theorem dX0_of_96 : decode cX0_of 96 = .ok (.invokevirtual 299, 3) := by decide +kernel
theorem dX0_of_99 : decode cX0_of 99 = .ok (.ireturn, 1) := by decide +kernel
theorem dX0_of_100 : decode cX0_of 100 = .ok (.aload_n 0, 1) := by decide +kernel
theorem dX0_of_101 : decode cX0_of 101 = .ok (.iload_n 1, 1) := by decide +kernel
theorem dX0_of_102 : decode cX0_of 102 = .ok (.iconst 1, 1) := by decide +kernel
theorem dX0_of_103 : decode cX0_of 103 = .ok (.invokevirtual 299, 3) := by decide +kernel
theorem dX0_of_106 : decode cX0_of 106 = .ok (.ireturn, 1) := by decide +kernel
theorem dX0_of_107 : decode cX0_of 107 = .ok (.bipush (-2), 2) := by decide +kernel
theorem dX0_of_109 : decode cX0_of 109 = .ok (.ireturn, 1) := by decide +kernel
theorem dX0_isShip_0 : decode cX0_isShip 0 = .ok (.iload_n 1, 1) := by decide +kernel
theorem dX0_isShip_1 : decode cX0_isShip 1 = .ok (.iconst 0, 1) := by decide +kernel
theorem dX0_isShip_2 : decode cX0_isShip 2 = .ok (.aload_n 0, 1) := by decide +kernel
theorem dX0_isShip_3 : decode cX0_isShip 3 = .ok (.getfield 111, 3) := by decide +kernel
theorem dX0_isShip_6 : decode cX0_isShip 6 = .ok (.iconst 1, 1) := by decide +kernel
theorem dX0_isShip_7 : decode cX0_isShip 7 = .ok (.isub, 1) := by decide +kernel
theorem dX0_isShip_8 : decode cX0_isShip 8 = .ok (.invokestatic 1, 3) := by decide +kernel
theorem dX0_isShip_11 : decode cX0_isShip 11 = .ok (.ireturn, 1) := by decide +kernel
theorem dX0_crew_0 : decode cX0_crew 0 = .ok (.aload_n 0, 1) := by decide +kernel
theorem dX0_crew_1 : decode cX0_crew 1 = .ok (.bipush 10, 2) := by decide +kernel
theorem dX0_crew_3 : decode cX0_crew 3 = .ok (.iload_n 1, 1) := by decide +kernel
theorem dX0_crew_4 : decode cX0_crew 4 = .ok (.iadd, 1) := by decide +kernel
theorem dX0_crew_5 : decode cX0_crew 5 = .ok (.iload_n 2, 1) := by decide +kernel
theorem dX0_crew_6 : decode cX0_crew 6 = .ok (.invokevirtual 114, 3) := by decide +kernel
theorem dX0_crew_9 : decode cX0_crew 9 = .ok (.ireturn, 1) := by decide +kernel
theorem dX0_spare_0 : decode cX0_spare 0 = .ok (.aload_n 0, 1) := by decide +kernel
theorem dX0_spare_1 : decode cX0_spare 1 = .ok (.iload_n 1, 1) := by decide +kernel
theorem dX0_spare_2 : decode cX0_spare 2 = .ok (.invokevirtual 287, 3) := by decide +kernel
theorem dX0_spare_5 : decode cX0_spare 5 = .ok (.ifCond .ne 5, 3) := by decide +kernel
theorem dX0_spare_8 : decode cX0_spare 8 = .ok (.iconst (-1), 1) := by decide +kernel
theorem dX0_spare_9 : decode cX0_spare 9 = .ok (.ireturn, 1) := by decide +kernel
theorem dX0_spare_10 : decode cX0_spare 10 = .ok (.iload_n 2, 1) := by decide +kernel
theorem dX0_spare_11 : decode cX0_spare 11 = .ok (.invokestatic 302, 3) := by decide +kernel
theorem dX0_spare_14 : decode cX0_spare 14 = .ok (.ifCond .ne 6, 3) := by decide +kernel
theorem dX0_spare_17 : decode cX0_spare 17 = .ok (.bipush (-2), 2) := by decide +kernel
theorem dX0_spare_19 : decode cX0_spare 19 = .ok (.ireturn, 1) := by decide +kernel
theorem dX0_spare_20 : decode cX0_spare 20 = .ok (.aload_n 0, 1) := by decide +kernel
theorem dX0_spare_21 : decode cX0_spare 21 = .ok (.getfield 54, 3) := by decide +kernel
theorem dX0_spare_24 : decode cX0_spare 24 = .ok (.iload_n 1, 1) := by decide +kernel
theorem dX0_spare_25 : decode cX0_spare 25 = .ok (.aaload, 1) := by decide +kernel
theorem dX0_spare_26 : decode cX0_spare 26 = .ok (.getfield 237, 3) := by decide +kernel
theorem dX0_spare_29 : decode cX0_spare 29 = .ok (.ifCond .ne 8, 3) := by decide +kernel
theorem dX0_spare_32 : decode cX0_spare 32 = .ok (.bipush (-3), 2) := by decide +kernel
theorem dX0_spare_34 : decode cX0_spare 34 = .ok (.goto 9, 3) := by decide +kernel
theorem dX0_spare_37 : decode cX0_spare 37 = .ok (.aload_n 0, 1) := by decide +kernel
theorem dX0_spare_38 : decode cX0_spare 38 = .ok (.iload_n 1, 1) := by decide +kernel
theorem dX0_spare_39 : decode cX0_spare 39 = .ok (.iload_n 2, 1) := by decide +kernel
theorem dX0_spare_40 : decode cX0_spare 40 = .ok (.invokevirtual 305, 3) := by decide +kernel
theorem dX0_spare_43 : decode cX0_spare 43 = .ok (.ireturn, 1) := by decide +kernel
theorem dX0_isWeather_0 : decode cX0_isWeather 0 = .ok (.iload_n 0, 1) := by decide +kernel
theorem dX0_isWeather_1 : decode cX0_isWeather 1 = .ok (.iconst 0, 1) := by decide +kernel
theorem dX0_isWeather_2 : decode cX0_isWeather 2 = .ok (.iconst 3, 1) := by decide +kernel
theorem dX0_isWeather_3 : decode cX0_isWeather 3 = .ok (.invokestatic 1, 3) := by decide +kernel
theorem dX0_isWeather_6 : decode cX0_isWeather 6 = .ok (.ireturn, 1) := by decide +kernel
theorem dX0_spareOf_0 : decode cX0_spareOf 0 = .ok (.iconst 0, 1) := by decide +kernel
theorem dX0_spareOf_1 : decode cX0_spareOf 1 = .ok (.aload_n 0, 1) := by decide +kernel
theorem dX0_spareOf_2 : decode cX0_spareOf 2 = .ok (.iload_n 1, 1) := by decide +kernel
theorem dX0_spareOf_3 : decode cX0_spareOf 3 = .ok (.iconst 0, 1) := by decide +kernel
theorem dX0_spareOf_4 : decode cX0_spareOf 4 = .ok (.invokevirtual 299, 3) := by decide +kernel
theorem dX0_spareOf_7 : decode cX0_spareOf 7 = .ok (.aload_n 0, 1) := by decide +kernel
theorem dX0_spareOf_8 : decode cX0_spareOf 8 = .ok (.getfield 54, 3) := by decide +kernel
theorem dX0_spareOf_11 : decode cX0_spareOf 11 = .ok (.iload_n 1, 1) := by decide +kernel
theorem dX0_spareOf_12 : decode cX0_spareOf 12 = .ok (.aaload, 1) := by decide +kernel
theorem dX0_spareOf_13 : decode cX0_spareOf 13 = .ok (.getfield 296, 3) := by decide +kernel
theorem dX0_spareOf_16 : decode cX0_spareOf 16 = .ok (.isub, 1) := by decide +kernel
theorem dX0_spareOf_17 : decode cX0_spareOf 17 = .ok (.iload_n 2, 1) := by decide +kernel
theorem dX0_spareOf_18 : decode cX0_spareOf 18 = .ok (.isub, 1) := by decide +kernel
theorem dX0_spareOf_19 : decode cX0_spareOf 19 = .ok (.invokestatic 125, 3) := by decide +kernel
theorem dX0_spareOf_22 : decode cX0_spareOf 22 = .ok (.ireturn, 1) := by decide +kernel
theorem dX0_board_0 : decode cX0_board 0 = .ok (.aload_n 0, 1) := by decide +kernel
theorem dX0_board_1 : decode cX0_board 1 = .ok (.iload_n 1, 1) := by decide +kernel
theorem dX0_board_2 : decode cX0_board 2 = .ok (.invokevirtual 82, 3) := by decide +kernel
theorem dX0_board_5 : decode cX0_board 5 = .ok (.ifCond .eq 11, 3) := by decide +kernel
theorem dX0_board_8 : decode cX0_board 8 = .ok (.aload_n 0, 1) := by decide +kernel
theorem dX0_board_9 : decode cX0_board 9 = .ok (.iload_n 2, 1) := by decide +kernel
theorem dX0_board_10 : decode cX0_board 10 = .ok (.invokevirtual 287, 3) := by decide +kernel
theorem dX0_board_13 : decode cX0_board 13 = .ok (.ifCond .ne 5, 3) := by decide +kernel
theorem dX0_board_16 : decode cX0_board 16 = .ok (.iconst (-1), 1) := by decide +kernel
theorem dX0_board_17 : decode cX0_board 17 = .ok (.ireturn, 1) := by decide +kernel
theorem dX0_board_18 : decode cX0_board 18 = .ok (.aload_n 0, 1) := by decide +kernel
theorem dX0_board_19 : decode cX0_board 19 = .ok (.getfield 24, 3) := by decide +kernel
theorem dX0_board_22 : decode cX0_board 22 = .ok (.iload_n 1, 1) := by decide +kernel
theorem dX0_board_23 : decode cX0_board 23 = .ok (.aaload, 1) := by decide +kernel
theorem dX0_board_24 : decode cX0_board 24 = .ok (.invokevirtual 104, 3) := by decide +kernel
theorem dX0_board_27 : decode cX0_board 27 = .ok (.bipush 10, 2) := by decide +kernel
theorem dX0_board_29 : decode cX0_board 29 = .ok (.if_icmp .ge 15, 3) := by decide +kernel
theorem dX0_board_32 : decode cX0_board 32 = .ok (.aload_n 0, 1) := by decide +kernel
theorem dX0_board_33 : decode cX0_board 33 = .ok (.getfield 54, 3) := by decide +kernel
theorem dX0_board_36 : decode cX0_board 36 = .ok (.iload_n 2, 1) := by decide +kernel
theorem dX0_board_37 : decode cX0_board 37 = .ok (.aaload, 1) := by decide +kernel
theorem dX0_board_38 : decode cX0_board 38 = .ok (.getfield 234, 3) := by decide +kernel
theorem dX0_board_41 : decode cX0_board 41 = .ok (.ifCond .ne 6, 3) := by decide +kernel
theorem dX0_board_44 : decode cX0_board 44 = .ok (.bipush (-3), 2) := by decide +kernel
theorem dX0_board_46 : decode cX0_board 46 = .ok (.ireturn, 1) := by decide +kernel
theorem dX0_board_47 : decode cX0_board 47 = .ok (.aload_n 0, 1) := by decide +kernel
theorem dX0_board_48 : decode cX0_board 48 = .ok (.iload_n 2, 1) := by decide +kernel
theorem dX0_board_49 : decode cX0_board 49 = .ok (.invokevirtual 308, 3) := by decide +kernel
theorem dX0_board_52 : decode cX0_board 52 = .ok (.ifCond .eq 6, 3) := by decide +kernel
theorem dX0_board_55 : decode cX0_board 55 = .ok (.bipush (-4), 2) := by decide +kernel
theorem dX0_board_57 : decode cX0_board 57 = .ok (.ireturn, 1) := by decide +kernel
theorem dX0_board_58 : decode cX0_board 58 = .ok (.aload_n 0, 1) := by decide +kernel
theorem dX0_board_59 : decode cX0_board 59 = .ok (.getfield 24, 3) := by decide +kernel
theorem dX0_board_62 : decode cX0_board 62 = .ok (.iload_n 1, 1) := by decide +kernel
theorem dX0_board_63 : decode cX0_board 63 = .ok (.aaload, 1) := by decide +kernel
theorem dX0_board_64 : decode cX0_board 64 = .ok (.aload_n 0, 1) := by decide +kernel
theorem dX0_board_65 : decode cX0_board 65 = .ok (.getfield 92, 3) := by decide +kernel
theorem dX0_board_68 : decode cX0_board 68 = .ok (.bipush 10, 2) := by decide +kernel
theorem dX0_board_70 : decode cX0_board 70 = .ok (.iload_n 2, 1) := by decide +kernel
theorem dX0_board_71 : decode cX0_board 71 = .ok (.iadd, 1) := by decide +kernel
theorem dX0_board_72 : decode cX0_board 72 = .ok (.invokevirtual 121, 3) := by decide +kernel
theorem dX0_board_75 : decode cX0_board 75 = .ok (.aload_n 0, 1) := by decide +kernel
theorem dX0_board_76 : decode cX0_board 76 = .ok (.iload_n 2, 1) := by decide +kernel
theorem dX0_board_77 : decode cX0_board 77 = .ok (.iconst 0, 1) := by decide +kernel
theorem dX0_board_78 : decode cX0_board 78 = .ok (.invokevirtual 299, 3) := by decide +kernel
theorem dX0_board_81 : decode cX0_board 81 = .ok (.ireturn, 1) := by decide +kernel
theorem dX0_isCrowded_0 : decode cX0_isCrowded 0 = .ok (.aload_n 0, 1) := by decide +kernel
theorem dX0_isCrowded_1 : decode cX0_isCrowded 1 = .ok (.iload_n 1, 1) := by decide +kernel
theorem dX0_isCrowded_2 : decode cX0_isCrowded 2 = .ok (.iconst 0, 1) := by decide +kernel
theorem dX0_isCrowded_3 : decode cX0_isCrowded 3 = .ok (.invokevirtual 299, 3) := by decide +kernel
theorem dX0_isCrowded_6 : decode cX0_isCrowded 6 = .ok (.iconst 2, 1) := by decide +kernel
theorem dX0_isCrowded_7 : decode cX0_isCrowded 7 = .ok (.aload_n 0, 1) := by decide +kernel
theorem dX0_isCrowded_8 : decode cX0_isCrowded 8 = .ok (.getfield 54, 3) := by decide +kernel
theorem dX0_isCrowded_11 : decode cX0_isCrowded 11 = .ok (.iload_n 1, 1) := by decide +kernel
theorem dX0_isCrowded_12 : decode cX0_isCrowded 12 = .ok (.aaload, 1) := by decide +kernel
theorem dX0_isCrowded_13 : decode cX0_isCrowded 13 = .ok (.getfield 290, 3) := by decide +kernel
theorem dX0_isCrowded_16 : decode cX0_isCrowded 16 = .ok (.imul, 1) := by decide +kernel
theorem dX0_isCrowded_17 : decode cX0_isCrowded 17 = .ok (.if_icmp .lt 7, 3) := by decide +kernel
theorem dX0_isCrowded_20 : decode cX0_isCrowded 20 = .ok (.iconst 1, 1) := by decide +kernel
theorem dX0_isCrowded_21 : decode cX0_isCrowded 21 = .ok (.goto 4, 3) := by decide +kernel
theorem dX0_isCrowded_24 : decode cX0_isCrowded 24 = .ok (.iconst 0, 1) := by decide +kernel
theorem dX0_isCrowded_25 : decode cX0_isCrowded 25 = .ok (.ireturn, 1) := by decide +kernel
theorem dX0_turn_0 : decode cX0_turn 0 = .ok (.aload_n 0, 1) := by decide +kernel
theorem dX0_turn_1 : decode cX0_turn 1 = .ok (.iload_n 1, 1) := by decide +kernel
theorem dX0_turn_2 : decode cX0_turn 2 = .ok (.invokevirtual 82, 3) := by decide +kernel
theorem dX0_turn_5 : decode cX0_turn 5 = .ok (.ifCond .eq 11, 3) := by decide +kernel
theorem dX0_turn_8 : decode cX0_turn 8 = .ok (.aload_n 0, 1) := by decide +kernel
theorem dX0_turn_9 : decode cX0_turn 9 = .ok (.iload_n 2, 1) := by decide +kernel
theorem dX0_turn_10 : decode cX0_turn 10 = .ok (.invokevirtual 287, 3) := by decide +kernel
theorem dX0_turn_13 : decode cX0_turn 13 = .ok (.ifCond .ne 5, 3) := by decide +kernel
theorem dX0_turn_16 : decode cX0_turn 16 = .ok (.iconst (-1), 1) := by decide +kernel
theorem dX0_turn_17 : decode cX0_turn 17 = .ok (.ireturn, 1) := by decide +kernel
theorem dX0_turn_18 : decode cX0_turn 18 = .ok (.aload_n 0, 1) := by decide +kernel
theorem dX0_turn_19 : decode cX0_turn 19 = .ok (.getfield 24, 3) := by decide +kernel
theorem dX0_turn_22 : decode cX0_turn 22 = .ok (.iload_n 1, 1) := by decide +kernel
theorem dX0_turn_23 : decode cX0_turn 23 = .ok (.aaload, 1) := by decide +kernel
theorem dX0_turn_24 : decode cX0_turn 24 = .ok (.invokevirtual 104, 3) := by decide +kernel
theorem dX0_turn_27 : decode cX0_turn 27 = .ok (.istore_n 3, 1) := by decide +kernel
theorem dX0_turn_28 : decode cX0_turn 28 = .ok (.iload_n 3, 1) := by decide +kernel
theorem dX0_turn_29 : decode cX0_turn 29 = .ok (.bipush 20, 2) := by decide +kernel
theorem dX0_turn_31 : decode cX0_turn 31 = .ok (.if_icmp .eq 21, 3) := by decide +kernel
theorem dX0_turn_34 : decode cX0_turn 34 = .ok (.iload_n 3, 1) := by decide +kernel
theorem dX0_turn_35 : decode cX0_turn 35 = .ok (.bipush 10, 2) := by decide +kernel
theorem dX0_turn_37 : decode cX0_turn 37 = .ok (.iload_n 2, 1) := by decide +kernel
theorem dX0_turn_38 : decode cX0_turn 38 = .ok (.iadd, 1) := by decide +kernel
theorem dX0_turn_39 : decode cX0_turn 39 = .ok (.if_icmp .eq 17, 3) := by decide +kernel
theorem dX0_turn_42 : decode cX0_turn 42 = .ok (.aload_n 0, 1) := by decide +kernel
theorem dX0_turn_43 : decode cX0_turn 43 = .ok (.iload_n 3, 1) := by decide +kernel
theorem dX0_turn_44 : decode cX0_turn 44 = .ok (.bipush (-9), 2) := by decide +kernel
theorem dX0_turn_46 : decode cX0_turn 46 = .ok (.invokevirtual 240, 3) := by decide +kernel
theorem dX0_turn_49 : decode cX0_turn 49 = .ok (.ifCond .eq 7, 3) := by decide +kernel
theorem dX0_turn_52 : decode cX0_turn 52 = .ok (.iconst 1, 1) := by decide +kernel
theorem dX0_turn_53 : decode cX0_turn 53 = .ok (.goto 4, 3) := by decide +kernel
theorem dX0_turn_56 : decode cX0_turn 56 = .ok (.iconst 0, 1) := by decide +kernel
theorem dX0_turn_57 : decode cX0_turn 57 = .ok (.istore 4, 2) := by decide +kernel
theorem dX0_turn_59 : decode cX0_turn 59 = .ok (.iload 4, 2) := by decide +kernel
theorem dX0_turn_61 : decode cX0_turn 61 = .ok (.ifCond .eq 15, 3) := by decide +kernel
theorem dX0_turn_64 : decode cX0_turn 64 = .ok (.aload_n 0, 1) := by decide +kernel
theorem dX0_turn_65 : decode cX0_turn 65 = .ok (.getfield 54, 3) := by decide +kernel
theorem dX0_turn_68 : decode cX0_turn 68 = .ok (.iload_n 2, 1) := by decide +kernel
theorem dX0_turn_69 : decode cX0_turn 69 = .ok (.aaload, 1) := by decide +kernel
theorem dX0_turn_70 : decode cX0_turn 70 = .ok (.getfield 234, 3) := by decide +kernel
theorem dX0_turn_73 : decode cX0_turn 73 = .ok (.ifCond .ne 6, 3) := by decide +kernel
theorem dX0_turn_76 : decode cX0_turn 76 = .ok (.bipush (-3), 2) := by decide +kernel
theorem dX0_turn_78 : decode cX0_turn 78 = .ok (.ireturn, 1) := by decide +kernel
theorem dX0_turn_79 : decode cX0_turn 79 = .ok (.aload_n 0, 1) := by decide +kernel
theorem dX0_turn_80 : decode cX0_turn 80 = .ok (.iload_n 2, 1) := by decide +kernel
theorem dX0_turn_81 : decode cX0_turn 81 = .ok (.invokevirtual 308, 3) := by decide +kernel
theorem dX0_turn_84 : decode cX0_turn 84 = .ok (.ifCond .eq 8, 3) := by decide +kernel
theorem dX0_turn_87 : decode cX0_turn 87 = .ok (.bipush (-4), 2) := by decide +kernel
theorem dX0_turn_89 : decode cX0_turn 89 = .ok (.goto 17, 3) := by decide +kernel
theorem dX0_turn_92 : decode cX0_turn 92 = .ok (.aload_n 0, 1) := by decide +kernel
theorem dX0_turn_93 : decode cX0_turn 93 = .ok (.aload_n 0, 1) := by decide +kernel
theorem dX0_turn_94 : decode cX0_turn 94 = .ok (.getfield 24, 3) := by decide +kernel
theorem dX0_turn_97 : decode cX0_turn 97 = .ok (.iload_n 1, 1) := by decide +kernel
theorem dX0_turn_98 : decode cX0_turn 98 = .ok (.aaload, 1) := by decide +kernel
theorem dX0_turn_99 : decode cX0_turn 99 = .ok (.bipush 10, 2) := by decide +kernel
theorem dX0_turn_101 : decode cX0_turn 101 = .ok (.iload_n 2, 1) := by decide +kernel
theorem dX0_turn_102 : decode cX0_turn 102 = .ok (.iadd, 1) := by decide +kernel
theorem dX0_turn_103 : decode cX0_turn 103 = .ok (.invokevirtual 145, 3) := by decide +kernel
theorem dX0_turn_106 : decode cX0_turn 106 = .ok (.ireturn, 1) := by decide +kernel
theorem dX0_notAshore_0 : decode cX0_notAshore 0 = .ok (.aload_n 0, 1) := by decide +kernel
theorem dX0_notAshore_1 : decode cX0_notAshore 1 = .ok (.iload_n 1, 1) := by decide +kernel
theorem dX0_notAshore_2 : decode cX0_notAshore 2 = .ok (.invokevirtual 82, 3) := by decide +kernel
theorem dX0_notAshore_5 : decode cX0_notAshore 5 = .ok (.ifCond .ne 5, 3) := by decide +kernel
theorem dX0_notAshore_8 : decode cX0_notAshore 8 = .ok (.iconst (-1), 1) := by decide +kernel
theorem dX0_notAshore_9 : decode cX0_notAshore 9 = .ok (.ireturn, 1) := by decide +kernel
theorem dX0_notAshore_10 : decode cX0_notAshore 10 = .ok (.iload_n 2, 1) := by decide +kernel
theorem dX0_notAshore_11 : decode cX0_notAshore 11 = .ok (.iconst 0, 1) := by decide +kernel
theorem dX0_notAshore_12 : decode cX0_notAshore 12 = .ok (.aload_n 0, 1) := by decide +kernel
theorem dX0_notAshore_13 : decode cX0_notAshore 13 = .ok (.getfield 92, 3) := by decide +kernel
theorem dX0_notAshore_16 : decode cX0_notAshore 16 = .ok (.invokestatic 1, 3) := by decide +kernel
theorem dX0_notAshore_19 : decode cX0_notAshore 19 = .ok (.ifCond .ne 6, 3) := by decide +kernel
theorem dX0_notAshore_22 : decode cX0_notAshore 22 = .ok (.bipush (-2), 2) := by decide +kernel
theorem dX0_notAshore_24 : decode cX0_notAshore 24 = .ok (.ireturn, 1) := by decide +kernel
theorem dX0_notAshore_25 : decode cX0_notAshore 25 = .ok (.aload_n 0, 1) := by decide +kernel
theorem dX0_notAshore_26 : decode cX0_notAshore 26 = .ok (.getfield 24, 3) := by decide +kernel
theorem dX0_notAshore_29 : decode cX0_notAshore 29 = .ok (.iload_n 1, 1) := by decide +kernel
theorem dX0_notAshore_30 : decode cX0_notAshore 30 = .ok (.aaload, 1) := by decide +kernel
theorem dX0_notAshore_31 : decode cX0_notAshore 31 = .ok (.iload_n 2, 1) := by decide +kernel
theorem dX0_notAshore_32 : decode cX0_notAshore 32 = .ok (.invokevirtual 95, 3) := by decide +kernel
theorem dX0_notAshore_35 : decode cX0_notAshore 35 = .ok (.astore_n 3, 1) := by decide +kernel
theorem dX0_notAshore_36 : decode cX0_notAshore 36 = .ok (.iload_n 2, 1) := by decide +kernel
theorem dX0_notAshore_37 : decode cX0_notAshore 37 = .ok (.istore 4, 2) := by decide +kernel
theorem dX0_notAshore_39 : decode cX0_notAshore 39 = .ok (.aload_n 3, 1) := by decide +kernel
theorem dX0_notAshore_40 : decode cX0_notAshore 40 = .ok (.invokevirtual 142, 3) := by decide +kernel
theorem dX0_notAshore_43 : decode cX0_notAshore 43 = .ok (.ifCond .ne 26, 3) := by decide +kernel
theorem dX0_notAshore_46 : decode cX0_notAshore 46 = .ok (.aload_n 3, 1) := by decide +kernel
theorem dX0_notAshore_47 : decode cX0_notAshore 47 = .ok (.getfield 135, 3) := by decide +kernel
theorem dX0_notAshore_50 : decode cX0_notAshore 50 = .ok (.iconst 1, 1) := by decide +kernel
theorem dX0_notAshore_51 : decode cX0_notAshore 51 = .ok (.isub, 1) := by decide +kernel
theorem dX0_notAshore_52 : decode cX0_notAshore 52 = .ok (.istore 4, 2) := by decide +kernel
theorem dX0_notAshore_54 : decode cX0_notAshore 54 = .ok (.aload_n 0, 1) := by decide +kernel
theorem dX0_notAshore_55 : decode cX0_notAshore 55 = .ok (.getfield 24, 3) := by decide +kernel
theorem dX0_notAshore_58 : decode cX0_notAshore 58 = .ok (.iload_n 1, 1) := by decide +kernel
theorem dX0_notAshore_59 : decode cX0_notAshore 59 = .ok (.aaload, 1) := by decide +kernel
theorem dX0_notAshore_60 : decode cX0_notAshore 60 = .ok (.iload 4, 2) := by decide +kernel
theorem dX0_notAshore_62 : decode cX0_notAshore 62 = .ok (.invokevirtual 95, 3) := by decide +kernel
theorem dX0_notAshore_65 : decode cX0_notAshore 65 = .ok (.astore_n 3, 1) := by decide +kernel
theorem dX0_notAshore_66 : decode cX0_notAshore 66 = .ok (.goto (-27), 3) := by decide +kernel
theorem dX0_notAshore_69 : decode cX0_notAshore 69 = .ok (.iload_n 2, 1) := by decide +kernel
theorem dX0_notAshore_70 : decode cX0_notAshore 70 = .ok (.iload 4, 2) := by decide +kernel
theorem dX0_notAshore_72 : decode cX0_notAshore 72 = .ok (.isub, 1) := by decide +kernel
theorem dX0_notAshore_73 : decode cX0_notAshore 73 = .ok (.ireturn, 1) := by decide +kernel
theorem dX0_taken_0 : decode cX0_taken 0 = .ok (.iload_n 2, 1) := by decide +kernel
theorem dX0_taken_1 : decode cX0_taken 1 = .ok (.invokestatic 302, 3) := by decide +kernel
theorem dX0_taken_4 : decode cX0_taken 4 = .ok (.ifCond .eq 20, 3) := by decide +kernel
theorem dX0_taken_7 : decode cX0_taken 7 = .ok (.aload_n 0, 1) := by decide +kernel
theorem dX0_taken_8 : decode cX0_taken 8 = .ok (.iload_n 1, 1) := by decide +kernel
theorem dX0_taken_9 : decode cX0_taken 9 = .ok (.invokevirtual 315, 3) := by decide +kernel
theorem dX0_taken_12 : decode cX0_taken 12 = .ok (.ifCond .eq 12, 3) := by decide +kernel
theorem dX0_taken_15 : decode cX0_taken 15 = .ok (.aload_n 0, 1) := by decide +kernel
theorem dX0_taken_16 : decode cX0_taken 16 = .ok (.iload_n 1, 1) := by decide +kernel
theorem dX0_taken_17 : decode cX0_taken 17 = .ok (.iload_n 2, 1) := by decide +kernel
theorem dX0_taken_18 : decode cX0_taken 18 = .ok (.invokevirtual 318, 3) := by decide +kernel
theorem dX0_taken_21 : decode cX0_taken 21 = .ok (.goto 5, 3) := by decide +kernel
theorem dX0_taken_24 : decode cX0_taken 24 = .ok (.bipush (-2), 2) := by decide +kernel
theorem dX0_taken_26 : decode cX0_taken 26 = .ok (.ireturn, 1) := by decide +kernel
theorem dX0_isFleet_0 : decode cX0_isFleet 0 = .ok (.iload_n 1, 1) := by decide +kernel
theorem dX0_isFleet_1 : decode cX0_isFleet 1 = .ok (.iconst 0, 1) := by decide +kernel
theorem dX0_isFleet_2 : decode cX0_isFleet 2 = .ok (.iconst 1, 1) := by decide +kernel
theorem dX0_isFleet_3 : decode cX0_isFleet 3 = .ok (.aload_n 0, 1) := by decide +kernel
theorem dX0_isFleet_4 : decode cX0_isFleet 4 = .ok (.getfield 111, 3) := by decide +kernel
theorem dX0_isFleet_7 : decode cX0_isFleet 7 = .ok (.ishl, 1) := by decide +kernel
theorem dX0_isFleet_8 : decode cX0_isFleet 8 = .ok (.iconst 1, 1) := by decide +kernel
theorem dX0_isFleet_9 : decode cX0_isFleet 9 = .ok (.isub, 1) := by decide +kernel
theorem dX0_isFleet_10 : decode cX0_isFleet 10 = .ok (.invokestatic 1, 3) := by decide +kernel
theorem dX0_isFleet_13 : decode cX0_isFleet 13 = .ok (.istore_n 2, 1) := by decide +kernel
theorem dX0_isFleet_14 : decode cX0_isFleet 14 = .ok (.iconst 0, 1) := by decide +kernel
theorem dX0_isFleet_15 : decode cX0_isFleet 15 = .ok (.istore_n 3, 1) := by decide +kernel
theorem dX0_isFleet_16 : decode cX0_isFleet 16 = .ok (.iload_n 3, 1) := by decide +kernel
theorem dX0_isFleet_17 : decode cX0_isFleet 17 = .ok (.aload_n 0, 1) := by decide +kernel
theorem dX0_isFleet_18 : decode cX0_isFleet 18 = .ok (.getfield 111, 3) := by decide +kernel
theorem dX0_isFleet_21 : decode cX0_isFleet 21 = .ok (.if_icmp .ge 39, 3) := by decide +kernel
theorem dX0_isFleet_24 : decode cX0_isFleet 24 = .ok (.iload_n 2, 1) := by decide +kernel
theorem dX0_isFleet_25 : decode cX0_isFleet 25 = .ok (.ifCond .eq 35, 3) := by decide +kernel
theorem dX0_isFleet_28 : decode cX0_isFleet 28 = .ok (.iload_n 1, 1) := by decide +kernel
theorem dX0_isFleet_29 : decode cX0_isFleet 29 = .ok (.iload_n 3, 1) := by decide +kernel
theorem dX0_isFleet_30 : decode cX0_isFleet 30 = .ok (.ishr, 1) := by decide +kernel
theorem dX0_isFleet_31 : decode cX0_isFleet 31 = .ok (.iconst 1, 1) := by decide +kernel
theorem dX0_isFleet_32 : decode cX0_isFleet 32 = .ok (.iand, 1) := by decide +kernel
theorem dX0_isFleet_33 : decode cX0_isFleet 33 = .ok (.ifCond .eq 15, 3) := by decide +kernel
theorem dX0_isFleet_36 : decode cX0_isFleet 36 = .ok (.aload_n 0, 1) := by decide +kernel
theorem dX0_isFleet_37 : decode cX0_isFleet 37 = .ok (.bipush 10, 2) := by decide +kernel
theorem dX0_isFleet_39 : decode cX0_isFleet 39 = .ok (.iload_n 3, 1) := by decide +kernel
theorem dX0_isFleet_40 : decode cX0_isFleet 40 = .ok (.iadd, 1) := by decide +kernel
theorem dX0_isFleet_41 : decode cX0_isFleet 41 = .ok (.iconst 0, 1) := by decide +kernel
theorem dX0_isFleet_42 : decode cX0_isFleet 42 = .ok (.invokevirtual 240, 3) := by decide +kernel
theorem dX0_isFleet_45 : decode cX0_isFleet 45 = .ok (.ifCond .eq 7, 3) := by decide +kernel
theorem dX0_isFleet_48 : decode cX0_isFleet 48 = .ok (.iconst 1, 1) := by decide +kernel
theorem dX0_isFleet_49 : decode cX0_isFleet 49 = .ok (.goto 4, 3) := by decide +kernel
theorem dX0_isFleet_52 : decode cX0_isFleet 52 = .ok (.iconst 0, 1) := by decide +kernel
theorem dX0_isFleet_53 : decode cX0_isFleet 53 = .ok (.istore_n 2, 1) := by decide +kernel
theorem dX0_isFleet_54 : decode cX0_isFleet 54 = .ok (.iinc 3 1, 3) := by decide +kernel
theorem dX0_isFleet_57 : decode cX0_isFleet 57 = .ok (.goto (-41), 3) := by decide +kernel
theorem dX0_isFleet_60 : decode cX0_isFleet 60 = .ok (.iload_n 2, 1) := by decide +kernel
theorem dX0_isFleet_61 : decode cX0_isFleet 61 = .ok (.ireturn, 1) := by decide +kernel
theorem dX0_takenFor_0 : decode cX0_takenFor 0 = .ok (.aload_n 0, 1) := by decide +kernel
theorem dX0_takenFor_1 : decode cX0_takenFor 1 = .ok (.iconst 0, 1) := by decide +kernel
theorem dX0_takenFor_2 : decode cX0_takenFor 2 = .ok (.invokevirtual 311, 3) := by decide +kernel
theorem dX0_takenFor_5 : decode cX0_takenFor 5 = .ok (.ineg, 1) := by decide +kernel
theorem dX0_takenFor_6 : decode cX0_takenFor 6 = .ok (.istore_n 3, 1) := by decide +kernel
theorem dX0_takenFor_7 : decode cX0_takenFor 7 = .ok (.aload_n 0, 1) := by decide +kernel
theorem dX0_takenFor_8 : decode cX0_takenFor 8 = .ok (.iconst 1, 1) := by decide +kernel
theorem dX0_takenFor_9 : decode cX0_takenFor 9 = .ok (.invokevirtual 311, 3) := by decide +kernel
theorem dX0_takenFor_12 : decode cX0_takenFor 12 = .ok (.ineg, 1) := by decide +kernel
theorem dX0_takenFor_13 : decode cX0_takenFor 13 = .ok (.istore 4, 2) := by decide +kernel
theorem dX0_takenFor_15 : decode cX0_takenFor 15 = .ok (.iconst 0, 1) := by decide +kernel
theorem dX0_takenFor_16 : decode cX0_takenFor 16 = .ok (.istore 5, 2) := by decide +kernel
theorem dX0_takenFor_18 : decode cX0_takenFor 18 = .ok (.iconst 0, 1) := by decide +kernel
theorem dX0_takenFor_19 : decode cX0_takenFor 19 = .ok (.istore 6, 2) := by decide +kernel
theorem dX0_takenFor_21 : decode cX0_takenFor 21 = .ok (.iconst 0, 1) := by decide +kernel
theorem dX0_takenFor_22 : decode cX0_takenFor 22 = .ok (.istore 7, 2) := by decide +kernel
theorem dX0_takenFor_24 : decode cX0_takenFor 24 = .ok (.iload 7, 2) := by decide +kernel
theorem dX0_takenFor_26 : decode cX0_takenFor 26 = .ok (.aload_n 0, 1) := by decide +kernel
theorem dX0_takenFor_27 : decode cX0_takenFor 27 = .ok (.getfield 111, 3) := by decide +kernel
theorem dX0_takenFor_30 : decode cX0_takenFor 30 = .ok (.if_icmp .ge 93, 3) := by decide +kernel
theorem dX0_takenFor_33 : decode cX0_takenFor 33 = .ok (.iload_n 1, 1) := by decide +kernel
theorem dX0_takenFor_34 : decode cX0_takenFor 34 = .ok (.iload 7, 2) := by decide +kernel
theorem dX0_takenFor_36 : decode cX0_takenFor 36 = .ok (.ishr, 1) := by decide +kernel
theorem dX0_takenFor_37 : decode cX0_takenFor 37 = .ok (.iconst 1, 1) := by decide +kernel
theorem dX0_takenFor_38 : decode cX0_takenFor 38 = .ok (.iand, 1) := by decide +kernel
theorem dX0_takenFor_39 : decode cX0_takenFor 39 = .ok (.iconst 1, 1) := by decide +kernel
theorem dX0_takenFor_40 : decode cX0_takenFor 40 = .ok (.if_icmp .ne 31, 3) := by decide +kernel
theorem dX0_takenFor_43 : decode cX0_takenFor 43 = .ok (.iload_n 3, 1) := by decide +kernel
theorem dX0_takenFor_44 : decode cX0_takenFor 44 = .ok (.aload_n 0, 1) := by decide +kernel
theorem dX0_takenFor_45 : decode cX0_takenFor 45 = .ok (.getfield 54, 3) := by decide +kernel
theorem dX0_takenFor_48 : decode cX0_takenFor 48 = .ok (.iload 7, 2) := by decide +kernel
theorem dX0_takenFor_50 : decode cX0_takenFor 50 = .ok (.aaload, 1) := by decide +kernel
theorem dX0_takenFor_51 : decode cX0_takenFor 51 = .ok (.getfield 290, 3) := by decide +kernel
theorem dX0_takenFor_54 : decode cX0_takenFor 54 = .ok (.iadd, 1) := by decide +kernel
theorem dX0_takenFor_55 : decode cX0_takenFor 55 = .ok (.istore_n 3, 1) := by decide +kernel
theorem dX0_takenFor_56 : decode cX0_takenFor 56 = .ok (.iload 4, 2) := by decide +kernel
theorem dX0_takenFor_58 : decode cX0_takenFor 58 = .ok (.aload_n 0, 1) := by decide +kernel
theorem dX0_takenFor_59 : decode cX0_takenFor 59 = .ok (.getfield 54, 3) := by decide +kernel
theorem dX0_takenFor_62 : decode cX0_takenFor 62 = .ok (.iload 7, 2) := by decide +kernel
theorem dX0_takenFor_64 : decode cX0_takenFor 64 = .ok (.aaload, 1) := by decide +kernel
theorem dX0_takenFor_65 : decode cX0_takenFor 65 = .ok (.getfield 293, 3) := by decide +kernel
theorem dX0_takenFor_68 : decode cX0_takenFor 68 = .ok (.iadd, 1) := by decide +kernel
theorem dX0_takenFor_69 : decode cX0_takenFor 69 = .ok (.istore 4, 2) := by decide +kernel
theorem dX0_takenFor_71 : decode cX0_takenFor 71 = .ok (.aload_n 0, 1) := by decide +kernel
theorem dX0_takenFor_72 : decode cX0_takenFor 72 = .ok (.bipush 10, 2) := by decide +kernel
theorem dX0_takenFor_74 : decode cX0_takenFor 74 = .ok (.iload 7, 2) := by decide +kernel
theorem dX0_takenFor_76 : decode cX0_takenFor 76 = .ok (.iadd, 1) := by decide +kernel
theorem dX0_takenFor_77 : decode cX0_takenFor 77 = .ok (.iconst 1, 1) := by decide +kernel
theorem dX0_takenFor_78 : decode cX0_takenFor 78 = .ok (.invokevirtual 240, 3) := by decide +kernel
theorem dX0_takenFor_81 : decode cX0_takenFor 81 = .ok (.ifCond .eq 36, 3) := by decide +kernel
theorem dX0_takenFor_84 : decode cX0_takenFor 84 = .ok (.aload_n 0, 1) := by decide +kernel
theorem dX0_takenFor_85 : decode cX0_takenFor 85 = .ok (.iload 7, 2) := by decide +kernel
theorem dX0_takenFor_87 : decode cX0_takenFor 87 = .ok (.iload_n 2, 1) := by decide +kernel
theorem dX0_takenFor_88 : decode cX0_takenFor 88 = .ok (.invokevirtual 305, 3) := by decide +kernel
theorem dX0_takenFor_91 : decode cX0_takenFor 91 = .ok (.istore 8, 2) := by decide +kernel
theorem dX0_takenFor_93 : decode cX0_takenFor 93 = .ok (.iload 5, 2) := by decide +kernel
theorem dX0_takenFor_95 : decode cX0_takenFor 95 = .ok (.iload 8, 2) := by decide +kernel
theorem dX0_takenFor_97 : decode cX0_takenFor 97 = .ok (.iadd, 1) := by decide +kernel
theorem dX0_takenFor_98 : decode cX0_takenFor 98 = .ok (.istore 5, 2) := by decide +kernel
theorem dX0_takenFor_100 : decode cX0_takenFor 100 = .ok (.iload 6, 2) := by decide +kernel
theorem dX0_takenFor_102 : decode cX0_takenFor 102 = .ok (.iload 8, 2) := by decide +kernel
theorem dX0_takenFor_104 : decode cX0_takenFor 104 = .ok (.aload_n 0, 1) := by decide +kernel
theorem dX0_takenFor_105 : decode cX0_takenFor 105 = .ok (.iload 7, 2) := by decide +kernel
theorem dX0_takenFor_107 : decode cX0_takenFor 107 = .ok (.iconst 1, 1) := by decide +kernel
theorem dX0_takenFor_108 : decode cX0_takenFor 108 = .ok (.invokevirtual 299, 3) := by decide +kernel
theorem dX0_takenFor_111 : decode cX0_takenFor 111 = .ok (.invokestatic 267, 3) := by decide +kernel
theorem dX0_takenFor_114 : decode cX0_takenFor 114 = .ok (.iadd, 1) := by decide +kernel
theorem dX0_takenFor_115 : decode cX0_takenFor 115 = .ok (.istore 6, 2) := by decide +kernel
theorem dX0_takenFor_117 : decode cX0_takenFor 117 = .ok (.iinc 7 1, 3) := by decide +kernel
theorem dX0_takenFor_120 : decode cX0_takenFor 120 = .ok (.goto (-96), 3) := by decide +kernel
theorem dX0_takenFor_123 : decode cX0_takenFor 123 = .ok (.iconst 0, 1) := by decide +kernel
theorem dX0_takenFor_124 : decode cX0_takenFor 124 = .ok (.iload_n 3, 1) := by decide +kernel
theorem dX0_takenFor_125 : decode cX0_takenFor 125 = .ok (.iload 4, 2) := by decide +kernel
theorem dX0_takenFor_127 : decode cX0_takenFor 127 = .ok (.invokestatic 125, 3) := by decide +kernel
theorem dX0_takenFor_130 : decode cX0_takenFor 130 = .ok (.invokestatic 125, 3) := by decide +kernel
theorem dX0_takenFor_133 : decode cX0_takenFor 133 = .ok (.istore 7, 2) := by decide +kernel
theorem dX0_takenFor_135 : decode cX0_takenFor 135 = .ok (.iload_n 1, 1) := by decide +kernel
theorem dX0_takenFor_136 : decode cX0_takenFor 136 = .ok (.ifCond .ne 7, 3) := by decide +kernel
theorem dX0_takenFor_139 : decode cX0_takenFor 139 = .ok (.iconst 0, 1) := by decide +kernel
theorem dX0_takenFor_140 : decode cX0_takenFor 140 = .ok (.goto 24, 3) := by decide +kernel
theorem dX0_takenFor_143 : decode cX0_takenFor 143 = .ok (.iload 7, 2) := by decide +kernel
theorem dX0_takenFor_145 : decode cX0_takenFor 145 = .ok (.iload 5, 2) := by decide +kernel
theorem dX0_takenFor_147 : decode cX0_takenFor 147 = .ok (.if_icmp .gt 10, 3) := by decide +kernel
theorem dX0_takenFor_150 : decode cX0_takenFor 150 = .ok (.iload 4, 2) := by decide +kernel
theorem dX0_takenFor_152 : decode cX0_takenFor 152 = .ok (.iload 6, 2) := by decide +kernel
theorem dX0_takenFor_154 : decode cX0_takenFor 154 = .ok (.if_icmp .le 8, 3) := by decide +kernel
theorem dX0_takenFor_157 : decode cX0_takenFor 157 = .ok (.bipush (-9), 2) := by decide +kernel
theorem dX0_takenFor_159 : decode cX0_takenFor 159 = .ok (.goto 5, 3) := by decide +kernel
theorem dX0_takenFor_162 : decode cX0_takenFor 162 = .ok (.iload 7, 2) := by decide +kernel
theorem dX0_takenFor_164 : decode cX0_takenFor 164 = .ok (.ireturn, 1) := by decide +kernel
theorem dX0_pool_0 : decode cX0_pool 0 = .ok (.aload_n 0, 1) := by decide +kernel
theorem dX0_pool_1 : decode cX0_pool 1 = .ok (.bipush 20, 2) := by decide +kernel
theorem dX0_pool_3 : decode cX0_pool 3 = .ok (.iload_n 1, 1) := by decide +kernel
theorem dX0_pool_4 : decode cX0_pool 4 = .ok (.invokevirtual 114, 3) := by decide +kernel
theorem dX0_pool_7 : decode cX0_pool 7 = .ok (.istore_n 2, 1) := by decide +kernel
theorem dX0_pool_8 : decode cX0_pool 8 = .ok (.iconst 0, 1) := by decide +kernel
theorem dX0_pool_9 : decode cX0_pool 9 = .ok (.istore_n 3, 1) := by decide +kernel
theorem dX0_pool_10 : decode cX0_pool 10 = .ok (.iload_n 3, 1) := by decide +kernel
theorem dX0_pool_11 : decode cX0_pool 11 = .ok (.aload_n 0, 1) := by decide +kernel
theorem dX0_pool_12 : decode cX0_pool 12 = .ok (.getfield 111, 3) := by decide +kernel
theorem dX0_pool_15 : decode cX0_pool 15 = .ok (.if_icmp .ge 34, 3) := by decide +kernel
theorem dX0_pool_18 : decode cX0_pool 18 = .ok (.iload_n 2, 1) := by decide +kernel
theorem dX0_pool_19 : decode cX0_pool 19 = .ok (.aload_n 0, 1) := by decide +kernel
theorem dX0_pool_20 : decode cX0_pool 20 = .ok (.bipush 10, 2) := by decide +kernel
theorem dX0_pool_22 : decode cX0_pool 22 = .ok (.iload_n 3, 1) := by decide +kernel
theorem dX0_pool_23 : decode cX0_pool 23 = .ok (.iadd, 1) := by decide +kernel
theorem dX0_pool_24 : decode cX0_pool 24 = .ok (.iconst 0, 1) := by decide +kernel
theorem dX0_pool_25 : decode cX0_pool 25 = .ok (.invokevirtual 240, 3) := by decide +kernel
theorem dX0_pool_28 : decode cX0_pool 28 = .ok (.ifCond .eq 12, 3) := by decide +kernel
theorem dX0_pool_31 : decode cX0_pool 31 = .ok (.aload_n 0, 1) := by decide +kernel
theorem dX0_pool_32 : decode cX0_pool 32 = .ok (.iload_n 3, 1) := by decide +kernel
theorem dX0_pool_33 : decode cX0_pool 33 = .ok (.iload_n 1, 1) := by decide +kernel
theorem dX0_pool_34 : decode cX0_pool 34 = .ok (.invokevirtual 299, 3) := by decide +kernel
theorem dX0_pool_37 : decode cX0_pool 37 = .ok (.goto 4, 3) := by decide +kernel
theorem dX0_pool_40 : decode cX0_pool 40 = .ok (.iconst 0, 1) := by decide +kernel
theorem dX0_pool_41 : decode cX0_pool 41 = .ok (.iadd, 1) := by decide +kernel
theorem dX0_pool_42 : decode cX0_pool 42 = .ok (.istore_n 2, 1) := by decide +kernel
theorem dX0_pool_43 : decode cX0_pool 43 = .ok (.iinc 3 1, 3) := by decide +kernel
theorem dX0_pool_46 : decode cX0_pool 46 = .ok (.goto (-36), 3) := by decide +kernel
theorem dX0_pool_49 : decode cX0_pool 49 = .ok (.iload_n 2, 1) := by decide +kernel
theorem dX0_pool_50 : decode cX0_pool 50 = .ok (.ireturn, 1) := by decide +kernel
theorem dX0_fleet_0 : decode cX0_fleet 0 = .ok (.iload_n 1, 1) := by decide +kernel
theorem dX0_fleet_1 : decode cX0_fleet 1 = .ok (.invokestatic 302, 3) := by decide +kernel
theorem dX0_fleet_4 : decode cX0_fleet 4 = .ok (.ifCond .ne 6, 3) := by decide +kernel
theorem dX0_fleet_7 : decode cX0_fleet 7 = .ok (.bipush (-2), 2) := by decide +kernel
theorem dX0_fleet_9 : decode cX0_fleet 9 = .ok (.ireturn, 1) := by decide +kernel
theorem dX0_fleet_10 : decode cX0_fleet 10 = .ok (.iconst 0, 1) := by decide +kernel
theorem dX0_fleet_11 : decode cX0_fleet 11 = .ok (.istore_n 2, 1) := by decide +kernel
theorem dX0_fleet_12 : decode cX0_fleet 12 = .ok (.iconst 0, 1) := by decide +kernel
theorem dX0_fleet_13 : decode cX0_fleet 13 = .ok (.istore_n 3, 1) := by decide +kernel
theorem dX0_fleet_14 : decode cX0_fleet 14 = .ok (.iconst 1, 1) := by decide +kernel
theorem dX0_fleet_15 : decode cX0_fleet 15 = .ok (.istore 4, 2) := by decide +kernel
theorem dX0_fleet_17 : decode cX0_fleet 17 = .ok (.iload 4, 2) := by decide +kernel
theorem dX0_fleet_19 : decode cX0_fleet 19 = .ok (.iconst 1, 1) := by decide +kernel
theorem dX0_fleet_20 : decode cX0_fleet 20 = .ok (.aload_n 0, 1) := by decide +kernel
theorem dX0_fleet_21 : decode cX0_fleet 21 = .ok (.getfield 111, 3) := by decide +kernel
theorem dX0_fleet_24 : decode cX0_fleet 24 = .ok (.ishl, 1) := by decide +kernel
theorem dX0_fleet_25 : decode cX0_fleet 25 = .ok (.if_icmp .ge 73, 3) := by decide +kernel
theorem dX0_fleet_28 : decode cX0_fleet 28 = .ok (.iload 4, 2) := by decide +kernel
theorem dX0_fleet_30 : decode cX0_fleet 30 = .ok (.invokestatic 321, 3) := by decide +kernel
theorem dX0_fleet_33 : decode cX0_fleet 33 = .ok (.iload_n 2, 1) := by decide +kernel
theorem dX0_fleet_34 : decode cX0_fleet 34 = .ok (.invokestatic 321, 3) := by decide +kernel
theorem dX0_fleet_37 : decode cX0_fleet 37 = .ok (.isub, 1) := by decide +kernel
theorem dX0_fleet_38 : decode cX0_fleet 38 = .ok (.istore 5, 2) := by decide +kernel
theorem dX0_fleet_40 : decode cX0_fleet 40 = .ok (.iload 5, 2) := by decide +kernel
theorem dX0_fleet_42 : decode cX0_fleet 42 = .ok (.ifCond .lt 12, 3) := by decide +kernel
theorem dX0_fleet_45 : decode cX0_fleet 45 = .ok (.aload_n 0, 1) := by decide +kernel
theorem dX0_fleet_46 : decode cX0_fleet 46 = .ok (.iload 4, 2) := by decide +kernel
theorem dX0_fleet_48 : decode cX0_fleet 48 = .ok (.invokevirtual 315, 3) := by decide +kernel
theorem dX0_fleet_51 : decode cX0_fleet 51 = .ok (.ifCond .ne 8, 3) := by decide +kernel
theorem dX0_fleet_54 : decode cX0_fleet 54 = .ok (.bipush (-9), 2) := by decide +kernel
theorem dX0_fleet_56 : decode cX0_fleet 56 = .ok (.goto 10, 3) := by decide +kernel
theorem dX0_fleet_59 : decode cX0_fleet 59 = .ok (.aload_n 0, 1) := by decide +kernel
theorem dX0_fleet_60 : decode cX0_fleet 60 = .ok (.iload 4, 2) := by decide +kernel
theorem dX0_fleet_62 : decode cX0_fleet 62 = .ok (.iload_n 1, 1) := by decide +kernel
theorem dX0_fleet_63 : decode cX0_fleet 63 = .ok (.invokevirtual 318, 3) := by decide +kernel
theorem dX0_fleet_66 : decode cX0_fleet 66 = .ok (.istore 6, 2) := by decide +kernel
theorem dX0_fleet_68 : decode cX0_fleet 68 = .ok (.iload 6, 2) := by decide +kernel
theorem dX0_fleet_70 : decode cX0_fleet 70 = .ok (.bipush (-9), 2) := by decide +kernel
theorem dX0_fleet_72 : decode cX0_fleet 72 = .ok (.if_icmp .eq 20, 3) := by decide +kernel
theorem dX0_fleet_75 : decode cX0_fleet 75 = .ok (.iload 5, 2) := by decide +kernel
theorem dX0_fleet_77 : decode cX0_fleet 77 = .ok (.ifCond .gt 9, 3) := by decide +kernel
theorem dX0_fleet_80 : decode cX0_fleet 80 = .ok (.iload 6, 2) := by decide +kernel
theorem dX0_fleet_82 : decode cX0_fleet 82 = .ok (.iload_n 3, 1) := by decide +kernel
theorem dX0_fleet_83 : decode cX0_fleet 83 = .ok (.if_icmp .ge 9, 3) := by decide +kernel
theorem dX0_fleet_86 : decode cX0_fleet 86 = .ok (.iload 4, 2) := by decide +kernel
theorem dX0_fleet_88 : decode cX0_fleet 88 = .ok (.istore_n 2, 1) := by decide +kernel
theorem dX0_fleet_89 : decode cX0_fleet 89 = .ok (.iload 6, 2) := by decide +kernel
theorem dX0_fleet_91 : decode cX0_fleet 91 = .ok (.istore_n 3, 1) := by decide +kernel
theorem dX0_fleet_92 : decode cX0_fleet 92 = .ok (.iinc 4 1, 3) := by decide +kernel
theorem dX0_fleet_95 : decode cX0_fleet 95 = .ok (.goto (-78), 3) := by decide +kernel
theorem dX0_fleet_98 : decode cX0_fleet 98 = .ok (.iload_n 2, 1) := by decide +kernel
theorem dX0_fleet_99 : decode cX0_fleet 99 = .ok (.ireturn, 1) := by decide +kernel
theorem dX0_sail_0 : decode cX0_sail 0 = .ok (.aload_n 0, 1) := by decide +kernel
theorem dX0_sail_1 : decode cX0_sail 1 = .ok (.iload_n 1, 1) := by decide +kernel
theorem dX0_sail_2 : decode cX0_sail 2 = .ok (.invokevirtual 287, 3) := by decide +kernel
theorem dX0_sail_5 : decode cX0_sail 5 = .ok (.ifCond .ne 5, 3) := by decide +kernel
theorem dX0_sail_8 : decode cX0_sail 8 = .ok (.iconst (-1), 1) := by decide +kernel
theorem dX0_sail_9 : decode cX0_sail 9 = .ok (.ireturn, 1) := by decide +kernel
theorem dX0_sail_10 : decode cX0_sail 10 = .ok (.aload_n 0, 1) := by decide +kernel
theorem dX0_sail_11 : decode cX0_sail 11 = .ok (.getfield 54, 3) := by decide +kernel
theorem dX0_sail_14 : decode cX0_sail 14 = .ok (.iload_n 1, 1) := by decide +kernel
theorem dX0_sail_15 : decode cX0_sail 15 = .ok (.aaload, 1) := by decide +kernel
theorem dX0_sail_16 : decode cX0_sail 16 = .ok (.astore_n 2, 1) := by decide +kernel
theorem dX0_sail_17 : decode cX0_sail 17 = .ok (.aload_n 2, 1) := by decide +kernel
theorem dX0_sail_18 : decode cX0_sail 18 = .ok (.getfield 234, 3) := by decide +kernel
theorem dX0_sail_21 : decode cX0_sail 21 = .ok (.ifCond .eq 29, 3) := by decide +kernel
theorem dX0_sail_24 : decode cX0_sail 24 = .ok (.aload_n 0, 1) := by decide +kernel
theorem dX0_sail_25 : decode cX0_sail 25 = .ok (.iload_n 1, 1) := by decide +kernel
theorem dX0_sail_26 : decode cX0_sail 26 = .ok (.iconst 0, 1) := by decide +kernel
theorem dX0_sail_27 : decode cX0_sail 27 = .ok (.invokevirtual 299, 3) := by decide +kernel
theorem dX0_sail_30 : decode cX0_sail 30 = .ok (.aload_n 2, 1) := by decide +kernel
theorem dX0_sail_31 : decode cX0_sail 31 = .ok (.getfield 290, 3) := by decide +kernel
theorem dX0_sail_34 : decode cX0_sail 34 = .ok (.if_icmp .lt 16, 3) := by decide +kernel
theorem dX0_sail_37 : decode cX0_sail 37 = .ok (.aload_n 0, 1) := by decide +kernel
theorem dX0_sail_38 : decode cX0_sail 38 = .ok (.iload_n 1, 1) := by decide +kernel
theorem dX0_sail_39 : decode cX0_sail 39 = .ok (.iconst 1, 1) := by decide +kernel
theorem dX0_sail_40 : decode cX0_sail 40 = .ok (.invokevirtual 299, 3) := by decide +kernel
theorem dX0_sail_43 : decode cX0_sail 43 = .ok (.aload_n 2, 1) := by decide +kernel
theorem dX0_sail_44 : decode cX0_sail 44 = .ok (.getfield 293, 3) := by decide +kernel
theorem dX0_sail_47 : decode cX0_sail 47 = .ok (.if_icmp .ge 6, 3) := by decide +kernel
theorem dX0_sail_50 : decode cX0_sail 50 = .ok (.bipush (-3), 2) := by decide +kernel
theorem dX0_sail_52 : decode cX0_sail 52 = .ok (.ireturn, 1) := by decide +kernel
theorem dX0_sail_53 : decode cX0_sail 53 = .ok (.aload_n 2, 1) := by decide +kernel
theorem dX0_sail_54 : decode cX0_sail 54 = .ok (.iconst 0, 1) := by decide +kernel
theorem dX0_sail_55 : decode cX0_sail 55 = .ok (.putfield 234, 3) := by decide +kernel
theorem dX0_sail_58 : decode cX0_sail 58 = .ok (.aload_n 0, 1) := by decide +kernel
theorem dX0_sail_59 : decode cX0_sail 59 = .ok (.iload_n 1, 1) := by decide +kernel
theorem dX0_sail_60 : decode cX0_sail 60 = .ok (.iconst 0, 1) := by decide +kernel
theorem dX0_sail_61 : decode cX0_sail 61 = .ok (.invokevirtual 299, 3) := by decide +kernel
theorem dX0_sail_64 : decode cX0_sail 64 = .ok (.ireturn, 1) := by decide +kernel
theorem dX0_comeHome_0 : decode cX0_comeHome 0 = .ok (.aload_n 0, 1) := by decide +kernel
theorem dX0_comeHome_1 : decode cX0_comeHome 1 = .ok (.iload_n 1, 1) := by decide +kernel
theorem dX0_comeHome_2 : decode cX0_comeHome 2 = .ok (.invokevirtual 287, 3) := by decide +kernel
theorem dX0_comeHome_5 : decode cX0_comeHome 5 = .ok (.ifCond .ne 5, 3) := by decide +kernel
theorem dX0_comeHome_8 : decode cX0_comeHome 8 = .ok (.iconst (-1), 1) := by decide +kernel
theorem dX0_comeHome_9 : decode cX0_comeHome 9 = .ok (.ireturn, 1) := by decide +kernel
theorem dX0_comeHome_10 : decode cX0_comeHome 10 = .ok (.aload_n 0, 1) := by decide +kernel
theorem dX0_comeHome_11 : decode cX0_comeHome 11 = .ok (.getfield 54, 3) := by decide +kernel
theorem dX0_comeHome_14 : decode cX0_comeHome 14 = .ok (.iload_n 1, 1) := by decide +kernel
theorem dX0_comeHome_15 : decode cX0_comeHome 15 = .ok (.aaload, 1) := by decide +kernel
theorem dX0_comeHome_16 : decode cX0_comeHome 16 = .ok (.getfield 234, 3) := by decide +kernel
theorem dX0_comeHome_19 : decode cX0_comeHome 19 = .ok (.ifCond .eq 6, 3) := by decide +kernel
theorem dX0_comeHome_22 : decode cX0_comeHome 22 = .ok (.bipush (-3), 2) := by decide +kernel
theorem dX0_comeHome_24 : decode cX0_comeHome 24 = .ok (.ireturn, 1) := by decide +kernel
theorem dX0_comeHome_25 : decode cX0_comeHome 25 = .ok (.aload_n 0, 1) := by decide +kernel
theorem dX0_comeHome_26 : decode cX0_comeHome 26 = .ok (.getfield 54, 3) := by decide +kernel
theorem dX0_comeHome_29 : decode cX0_comeHome 29 = .ok (.iload_n 1, 1) := by decide +kernel
theorem dX0_comeHome_30 : decode cX0_comeHome 30 = .ok (.aaload, 1) := by decide +kernel
theorem dX0_comeHome_31 : decode cX0_comeHome 31 = .ok (.iconst 1, 1) := by decide +kernel
theorem dX0_comeHome_32 : decode cX0_comeHome 32 = .ok (.putfield 234, 3) := by decide +kernel
theorem dX0_comeHome_35 : decode cX0_comeHome 35 = .ok (.aload_n 0, 1) := by decide +kernel
theorem dX0_comeHome_36 : decode cX0_comeHome 36 = .ok (.iload_n 1, 1) := by decide +kernel
theorem dX0_comeHome_37 : decode cX0_comeHome 37 = .ok (.iconst 0, 1) := by decide +kernel
theorem dX0_comeHome_38 : decode cX0_comeHome 38 = .ok (.invokevirtual 299, 3) := by decide +kernel
theorem dX0_comeHome_41 : decode cX0_comeHome 41 = .ok (.ireturn, 1) := by decide +kernel
theorem dX0_ticket_0 : decode cX0_ticket 0 = .ok (.aload_n 0, 1) := by decide +kernel
theorem dX0_ticket_1 : decode cX0_ticket 1 = .ok (.iload_n 1, 1) := by decide +kernel
theorem dX0_ticket_2 : decode cX0_ticket 2 = .ok (.invokevirtual 82, 3) := by decide +kernel
theorem dX0_ticket_5 : decode cX0_ticket 5 = .ok (.ifCond .ne 5, 3) := by decide +kernel
theorem dX0_ticket_8 : decode cX0_ticket 8 = .ok (.iconst (-1), 1) := by decide +kernel
theorem dX0_ticket_9 : decode cX0_ticket 9 = .ok (.ireturn, 1) := by decide +kernel
theorem dX0_ticket_10 : decode cX0_ticket 10 = .ok (.iload_n 2, 1) := by decide +kernel
theorem dX0_ticket_11 : decode cX0_ticket 11 = .ok (.iconst 1, 1) := by decide +kernel
theorem dX0_ticket_12 : decode cX0_ticket 12 = .ok (.bipush 99, 2) := by decide +kernel
theorem dX0_ticket_14 : decode cX0_ticket 14 = .ok (.invokestatic 1, 3) := by decide +kernel
theorem dX0_ticket_17 : decode cX0_ticket 17 = .ok (.ifCond .eq 13, 3) := by decide +kernel
theorem dX0_ticket_20 : decode cX0_ticket 20 = .ok (.iload_n 3, 1) := by decide +kernel
theorem dX0_ticket_21 : decode cX0_ticket 21 = .ok (.iconst 1, 1) := by decide +kernel
theorem dX0_ticket_22 : decode cX0_ticket 22 = .ok (.bipush 50, 2) := by decide +kernel
theorem dX0_ticket_24 : decode cX0_ticket 24 = .ok (.invokestatic 1, 3) := by decide +kernel
theorem dX0_ticket_27 : decode cX0_ticket 27 = .ok (.ifCond .ne 6, 3) := by decide +kernel
theorem dX0_ticket_30 : decode cX0_ticket 30 = .ok (.bipush (-2), 2) := by decide +kernel
theorem dX0_ticket_32 : decode cX0_ticket 32 = .ok (.ireturn, 1) := by decide +kernel
theorem dX0_ticket_33 : decode cX0_ticket 33 = .ok (.aload_n 0, 1) := by decide +kernel
theorem dX0_ticket_34 : decode cX0_ticket 34 = .ok (.getfield 326, 3) := by decide +kernel
theorem dX0_ticket_37 : decode cX0_ticket 37 = .ok (.bipush 40, 2) := by decide +kernel
theorem dX0_ticket_39 : decode cX0_ticket 39 = .ok (.if_icmp .ne 6, 3) := by decide +kernel
theorem dX0_ticket_42 : decode cX0_ticket 42 = .ok (.bipush (-4), 2) := by decide +kernel
theorem dX0_ticket_44 : decode cX0_ticket 44 = .ok (.ireturn, 1) := by decide +kernel
theorem dX0_ticket_45 : decode cX0_ticket 45 = .ok (.aload_n 0, 1) := by decide +kernel
theorem dX0_ticket_46 : decode cX0_ticket 46 = .ok (.getfield 60, 3) := by decide +kernel
theorem dX0_ticket_49 : decode cX0_ticket 49 = .ok (.aload_n 0, 1) := by decide +kernel
theorem dX0_ticket_50 : decode cX0_ticket 50 = .ok (.getfield 326, 3) := by decide +kernel
theorem dX0_ticket_53 : decode cX0_ticket 53 = .ok (.new 58, 3) := by decide +kernel
theorem dX0_ticket_56 : decode cX0_ticket 56 = .ok (.dup, 1) := by decide +kernel
theorem dX0_ticket_57 : decode cX0_ticket 57 = .ok (.aload_n 0, 1) := by decide +kernel
theorem dX0_ticket_58 : decode cX0_ticket 58 = .ok (.aload_n 0, 1) := by decide +kernel
theorem dX0_ticket_59 : decode cX0_ticket 59 = .ok (.getfield 24, 3) := by decide +kernel
theorem dX0_ticket_62 : decode cX0_ticket 62 = .ok (.iload_n 1, 1) := by decide +kernel
theorem dX0_ticket_63 : decode cX0_ticket 63 = .ok (.aaload, 1) := by decide +kernel
theorem dX0_ticket_64 : decode cX0_ticket 64 = .ok (.iload_n 2, 1) := by decide +kernel
theorem dX0_ticket_65 : decode cX0_ticket 65 = .ok (.iload_n 3, 1) := by decide +kernel
theorem dX0_ticket_66 : decode cX0_ticket 66 = .ok (.imul, 1) := by decide +kernel
theorem dX0_ticket_67 : decode cX0_ticket 67 = .ok (.invokespecial 329, 3) := by decide +kernel
theorem dX0_ticket_70 : decode cX0_ticket 70 = .ok (.aastore, 1) := by decide +kernel
theorem dX0_ticket_71 : decode cX0_ticket 71 = .ok (.aload_n 0, 1) := by decide +kernel
theorem dX0_ticket_72 : decode cX0_ticket 72 = .ok (.dup, 1) := by decide +kernel
theorem dX0_ticket_73 : decode cX0_ticket 73 = .ok (.getfield 326, 3) := by decide +kernel
theorem dX0_ticket_76 : decode cX0_ticket 76 = .ok (.iconst 1, 1) := by decide +kernel
theorem dX0_ticket_77 : decode cX0_ticket 77 = .ok (.iadd, 1) := by decide +kernel
theorem dX0_ticket_78 : decode cX0_ticket 78 = .ok (.putfield 326, 3) := by decide +kernel
theorem dX0_ticket_81 : decode cX0_ticket 81 = .ok (.aload_n 0, 1) := by decide +kernel
theorem dX0_ticket_82 : decode cX0_ticket 82 = .ok (.getfield 326, 3) := by decide +kernel
theorem dX0_ticket_85 : decode cX0_ticket 85 = .ok (.iconst 1, 1) := by decide +kernel
theorem dX0_ticket_86 : decode cX0_ticket 86 = .ok (.isub, 1) := by decide +kernel
theorem dX0_ticket_87 : decode cX0_ticket 87 = .ok (.ireturn, 1) := by decide +kernel
theorem dX0_sell_0 : decode cX0_sell 0 = .ok (.aload_n 0, 1) := by decide +kernel
theorem dX0_sell_1 : decode cX0_sell 1 = .ok (.iload_n 1, 1) := by decide +kernel
theorem dX0_sell_2 : decode cX0_sell 2 = .ok (.invokevirtual 332, 3) := by decide +kernel
theorem dX0_sell_5 : decode cX0_sell 5 = .ok (.ifCond .eq 10, 3) := by decide +kernel
theorem dX0_sell_8 : decode cX0_sell 8 = .ok (.iload_n 2, 1) := by decide +kernel
theorem dX0_sell_9 : decode cX0_sell 9 = .ok (.invokestatic 335, 3) := by decide +kernel
theorem dX0_sell_12 : decode cX0_sell 12 = .ok (.ifCond .ne 5, 3) := by decide +kernel
theorem dX0_sell_15 : decode cX0_sell 15 = .ok (.iconst (-1), 1) := by decide +kernel
theorem dX0_sell_16 : decode cX0_sell 16 = .ok (.ireturn, 1) := by decide +kernel
theorem dX0_sell_17 : decode cX0_sell 17 = .ok (.iload_n 3, 1) := by decide +kernel
theorem dX0_sell_18 : decode cX0_sell 18 = .ok (.iconst 1, 1) := by decide +kernel
theorem dX0_sell_19 : decode cX0_sell 19 = .ok (.bipush 100, 2) := by decide +kernel
theorem dX0_sell_21 : decode cX0_sell 21 = .ok (.invokestatic 1, 3) := by decide +kernel
theorem dX0_sell_24 : decode cX0_sell 24 = .ok (.ifCond .ne 6, 3) := by decide +kernel
theorem dX0_sell_27 : decode cX0_sell 27 = .ok (.bipush (-2), 2) := by decide +kernel
theorem dX0_sell_29 : decode cX0_sell 29 = .ok (.ireturn, 1) := by decide +kernel
theorem dX0_sell_30 : decode cX0_sell 30 = .ok (.aload_n 0, 1) := by decide +kernel
theorem dX0_sell_31 : decode cX0_sell 31 = .ok (.getfield 60, 3) := by decide +kernel
theorem dX0_sell_34 : decode cX0_sell 34 = .ok (.iload_n 1, 1) := by decide +kernel
theorem dX0_sell_35 : decode cX0_sell 35 = .ok (.aaload, 1) := by decide +kernel
theorem dX0_sell_36 : decode cX0_sell 36 = .ok (.astore 4, 2) := by decide +kernel
theorem dX0_sell_38 : decode cX0_sell 38 = .ok (.aload 4, 2) := by decide +kernel
theorem dX0_sell_40 : decode cX0_sell 40 = .ok (.getfield 338, 3) := by decide +kernel
theorem dX0_sell_43 : decode cX0_sell 43 = .ok (.ifCond .ne 12, 3) := by decide +kernel
theorem dX0_sell_46 : decode cX0_sell 46 = .ok (.aload 4, 2) := by decide +kernel
theorem dX0_sell_48 : decode cX0_sell 48 = .ok (.getfield 341, 3) := by decide +kernel
theorem dX0_sell_51 : decode cX0_sell 51 = .ok (.iload_n 2, 1) := by decide +kernel
theorem dX0_sell_52 : decode cX0_sell 52 = .ok (.if_icmp .ne 6, 3) := by decide +kernel
theorem dX0_sell_55 : decode cX0_sell 55 = .ok (.bipush (-3), 2) := by decide +kernel
theorem dX0_sell_57 : decode cX0_sell 57 = .ok (.ireturn, 1) := by decide +kernel
theorem dX0_sell_58 : decode cX0_sell 58 = .ok (.aload 4, 2) := by decide +kernel
theorem dX0_sell_60 : decode cX0_sell 60 = .ok (.getfield 344, 3) := by decide +kernel
theorem dX0_sell_63 : decode cX0_sell 63 = .ok (.iload_n 3, 1) := by decide +kernel
theorem dX0_sell_64 : decode cX0_sell 64 = .ok (.imul, 1) := by decide +kernel
theorem dX0_sell_65 : decode cX0_sell 65 = .ok (.bipush 100, 2) := by decide +kernel
theorem dX0_sell_67 : decode cX0_sell 67 = .ok (.idiv, 1) := by decide +kernel
theorem dX0_sell_68 : decode cX0_sell 68 = .ok (.istore 5, 2) := by decide +kernel
theorem dX0_sell_70 : decode cX0_sell 70 = .ok (.aload 4, 2) := by decide +kernel
theorem dX0_sell_72 : decode cX0_sell 72 = .ok (.aload 4, 2) := by decide +kernel
theorem dX0_sell_74 : decode cX0_sell 74 = .ok (.getfield 341, 3) := by decide +kernel
theorem dX0_sell_77 : decode cX0_sell 77 = .ok (.iload 5, 2) := by decide +kernel
theorem dX0_sell_79 : decode cX0_sell 79 = .ok (.invokevirtual 347, 3) := by decide +kernel
theorem dX0_sell_82 : decode cX0_sell 82 = .ok (.aload 4, 2) := by decide +kernel
theorem dX0_sell_84 : decode cX0_sell 84 = .ok (.iload_n 2, 1) := by decide +kernel
theorem dX0_sell_85 : decode cX0_sell 85 = .ok (.iload 5, 2) := by decide +kernel
theorem dX0_sell_87 : decode cX0_sell 87 = .ok (.ineg, 1) := by decide +kernel
theorem dX0_sell_88 : decode cX0_sell 88 = .ok (.invokevirtual 347, 3) := by decide +kernel
theorem dX0_sell_91 : decode cX0_sell 91 = .ok (.aload 4, 2) := by decide +kernel
theorem dX0_sell_93 : decode cX0_sell 93 = .ok (.iload_n 2, 1) := by decide +kernel
theorem dX0_sell_94 : decode cX0_sell 94 = .ok (.putfield 341, 3) := by decide +kernel
theorem dX0_sell_97 : decode cX0_sell 97 = .ok (.iload 5, 2) := by decide +kernel
theorem dX0_sell_99 : decode cX0_sell 99 = .ok (.ireturn, 1) := by decide +kernel
theorem dX0_isTicket_0 : decode cX0_isTicket 0 = .ok (.iload_n 1, 1) := by decide +kernel
theorem dX0_isTicket_1 : decode cX0_isTicket 1 = .ok (.iconst 0, 1) := by decide +kernel
theorem dX0_isTicket_2 : decode cX0_isTicket 2 = .ok (.aload_n 0, 1) := by decide +kernel
theorem dX0_isTicket_3 : decode cX0_isTicket 3 = .ok (.getfield 326, 3) := by decide +kernel
theorem dX0_isTicket_6 : decode cX0_isTicket 6 = .ok (.iconst 1, 1) := by decide +kernel
theorem dX0_isTicket_7 : decode cX0_isTicket 7 = .ok (.isub, 1) := by decide +kernel
theorem dX0_isTicket_8 : decode cX0_isTicket 8 = .ok (.invokestatic 1, 3) := by decide +kernel
theorem dX0_isTicket_11 : decode cX0_isTicket 11 = .ok (.ireturn, 1) := by decide +kernel
theorem dX0_isHolder_0 : decode cX0_isHolder 0 = .ok (.iload_n 0, 1) := by decide +kernel
theorem dX0_isHolder_1 : decode cX0_isHolder 1 = .ok (.iconst 0, 1) := by decide +kernel
theorem dX0_isHolder_2 : decode cX0_isHolder 2 = .ok (.bipush 9, 2) := by decide +kernel
theorem dX0_isHolder_4 : decode cX0_isHolder 4 = .ok (.invokestatic 1, 3) := by decide +kernel
theorem dX0_isHolder_7 : decode cX0_isHolder 7 = .ok (.ireturn, 1) := by decide +kernel
theorem dX0_pay_0 : decode cX0_pay 0 = .ok (.aload_n 0, 1) := by decide +kernel
theorem dX0_pay_1 : decode cX0_pay 1 = .ok (.iload_n 1, 1) := by decide +kernel
theorem dX0_pay_2 : decode cX0_pay 2 = .ok (.invokevirtual 332, 3) := by decide +kernel
theorem dX0_pay_5 : decode cX0_pay 5 = .ok (.ifCond .eq 16, 3) := by decide +kernel
theorem dX0_pay_8 : decode cX0_pay 8 = .ok (.iload_n 2, 1) := by decide +kernel
theorem dX0_pay_9 : decode cX0_pay 9 = .ok (.bipush (-9), 2) := by decide +kernel
theorem dX0_pay_11 : decode cX0_pay 11 = .ok (.if_icmp .eq 12, 3) := by decide +kernel
theorem dX0_pay_14 : decode cX0_pay 14 = .ok (.iload_n 2, 1) := by decide +kernel
theorem dX0_pay_15 : decode cX0_pay 15 = .ok (.invokestatic 335, 3) := by decide +kernel
theorem dX0_pay_18 : decode cX0_pay 18 = .ok (.ifCond .ne 5, 3) := by decide +kernel
theorem dX0_pay_21 : decode cX0_pay 21 = .ok (.iconst (-1), 1) := by decide +kernel
theorem dX0_pay_22 : decode cX0_pay 22 = .ok (.ireturn, 1) := by decide +kernel
theorem dX0_pay_23 : decode cX0_pay 23 = .ok (.aload_n 0, 1) := by decide +kernel
theorem dX0_pay_24 : decode cX0_pay 24 = .ok (.getfield 60, 3) := by decide +kernel
theorem dX0_pay_27 : decode cX0_pay 27 = .ok (.iload_n 1, 1) := by decide +kernel
theorem dX0_pay_28 : decode cX0_pay 28 = .ok (.aaload, 1) := by decide +kernel
theorem dX0_pay_29 : decode cX0_pay 29 = .ok (.astore_n 3, 1) := by decide +kernel
theorem dX0_pay_30 : decode cX0_pay 30 = .ok (.aload_n 3, 1) := by decide +kernel
theorem dX0_pay_31 : decode cX0_pay 31 = .ok (.getfield 338, 3) := by decide +kernel
theorem dX0_pay_34 : decode cX0_pay 34 = .ok (.ifCond .ne 11, 3) := by decide +kernel
theorem dX0_pay_37 : decode cX0_pay 37 = .ok (.aload_n 3, 1) := by decide +kernel
theorem dX0_pay_38 : decode cX0_pay 38 = .ok (.getfield 341, 3) := by decide +kernel
theorem dX0_pay_41 : decode cX0_pay 41 = .ok (.iload_n 2, 1) := by decide +kernel
theorem dX0_pay_42 : decode cX0_pay 42 = .ok (.if_icmp .eq 16, 3) := by decide +kernel
theorem dX0_pay_45 : decode cX0_pay 45 = .ok (.aload_n 3, 1) := by decide +kernel
theorem dX0_pay_46 : decode cX0_pay 46 = .ok (.dup, 1) := by decide +kernel
theorem dX0_pay_47 : decode cX0_pay 47 = .ok (.getfield 350, 3) := by decide +kernel
theorem dX0_pay_50 : decode cX0_pay 50 = .ok (.iconst 1, 1) := by decide +kernel
theorem dX0_pay_51 : decode cX0_pay 51 = .ok (.iadd, 1) := by decide +kernel
theorem dX0_pay_52 : decode cX0_pay 52 = .ok (.putfield 350, 3) := by decide +kernel
theorem dX0_pay_55 : decode cX0_pay 55 = .ok (.goto 8, 3) := by decide +kernel
theorem dX0_pay_58 : decode cX0_pay 58 = .ok (.aload_n 3, 1) := by decide +kernel
theorem dX0_pay_59 : decode cX0_pay 59 = .ok (.iconst 1, 1) := by decide +kernel
theorem dX0_pay_60 : decode cX0_pay 60 = .ok (.putfield 338, 3) := by decide +kernel
theorem dX0_pay_63 : decode cX0_pay 63 = .ok (.aload_n 3, 1) := by decide +kernel
theorem dX0_pay_64 : decode cX0_pay 64 = .ok (.iload_n 2, 1) := by decide +kernel
theorem dX0_pay_65 : decode cX0_pay 65 = .ok (.aload_n 3, 1) := by decide +kernel
theorem dX0_pay_66 : decode cX0_pay 66 = .ok (.getfield 344, 3) := by decide +kernel
theorem dX0_pay_69 : decode cX0_pay 69 = .ok (.invokevirtual 347, 3) := by decide +kernel
theorem dX0_pay_72 : decode cX0_pay 72 = .ok (.aload_n 3, 1) := by decide +kernel
theorem dX0_pay_73 : decode cX0_pay 73 = .ok (.getfield 344, 3) := by decide +kernel
theorem dX0_pay_76 : decode cX0_pay 76 = .ok (.ireturn, 1) := by decide +kernel
theorem dX0_ticketOf_0 : decode cX0_ticketOf 0 = .ok (.aload_n 0, 1) := by decide +kernel
theorem dX0_ticketOf_1 : decode cX0_ticketOf 1 = .ok (.iload_n 1, 1) := by decide +kernel
theorem dX0_ticketOf_2 : decode cX0_ticketOf 2 = .ok (.invokevirtual 332, 3) := by decide +kernel
theorem dX0_ticketOf_5 : decode cX0_ticketOf 5 = .ok (.ifCond .ne 5, 3) := by decide +kernel
theorem dX0_ticketOf_8 : decode cX0_ticketOf 8 = .ok (.iconst (-1), 1) := by decide +kernel
theorem dX0_ticketOf_9 : decode cX0_ticketOf 9 = .ok (.ireturn, 1) := by decide +kernel
theorem dX0_ticketOf_10 : decode cX0_ticketOf 10 = .ok (.aload_n 0, 1) := by decide +kernel
theorem dX0_ticketOf_11 : decode cX0_ticketOf 11 = .ok (.getfield 60, 3) := by decide +kernel
theorem dX0_ticketOf_14 : decode cX0_ticketOf 14 = .ok (.iload_n 1, 1) := by decide +kernel
theorem dX0_ticketOf_15 : decode cX0_ticketOf 15 = .ok (.aaload, 1) := by decide +kernel
theorem dX0_ticketOf_16 : decode cX0_ticketOf 16 = .ok (.astore_n 3, 1) := by decide +kernel
theorem dX0_ticketOf_17 : decode cX0_ticketOf 17 = .ok (.iload_n 2, 1) := by decide +kernel
theorem dX0_ticketOf_18 : decode cX0_ticketOf 18 = .ok (.tableswitch 58 0 3 #[30, 35, 48, 53], 30) := by decide +kernel
theorem dX0_ticketOf_48 : decode cX0_ticketOf 48 = .ok (.aload_n 3, 1) := by decide +kernel
theorem dX0_ticketOf_49 : decode cX0_ticketOf 49 = .ok (.getfield 341, 3) := by decide +kernel
theorem dX0_ticketOf_52 : decode cX0_ticketOf 52 = .ok (.ireturn, 1) := by decide +kernel
theorem dX0_ticketOf_53 : decode cX0_ticketOf 53 = .ok (.aload_n 3, 1) := by decide +kernel
theorem dX0_ticketOf_54 : decode cX0_ticketOf 54 = .ok (.getfield 338, 3) := by decide +kernel
theorem dX0_ticketOf_57 : decode cX0_ticketOf 57 = .ok (.ifCond .eq 7, 3) := by decide +kernel
theorem dX0_ticketOf_60 : decode cX0_ticketOf 60 = .ok (.iconst 1, 1) := by decide +kernel
theorem dX0_ticketOf_61 : decode cX0_ticketOf 61 = .ok (.goto 4, 3) := by decide +kernel
theorem dX0_ticketOf_64 : decode cX0_ticketOf 64 = .ok (.iconst 0, 1) := by decide +kernel
theorem dX0_ticketOf_65 : decode cX0_ticketOf 65 = .ok (.ireturn, 1) := by decide +kernel
theorem dX0_ticketOf_66 : decode cX0_ticketOf 66 = .ok (.aload_n 3, 1) := by decide +kernel
theorem dX0_ticketOf_67 : decode cX0_ticketOf 67 = .ok (.getfield 350, 3) := by decide +kernel
theorem dX0_ticketOf_70 : decode cX0_ticketOf 70 = .ok (.ireturn, 1) := by decide +kernel
theorem dX0_ticketOf_71 : decode cX0_ticketOf 71 = .ok (.aload_n 3, 1) := by decide +kernel
theorem dX0_ticketOf_72 : decode cX0_ticketOf 72 = .ok (.getfield 344, 3) := by decide +kernel
theorem dX0_ticketOf_75 : decode cX0_ticketOf 75 = .ok (.ireturn, 1) := by decide +kernel
theorem dX0_ticketOf_76 : decode cX0_ticketOf 76 = .ok (.bipush (-2), 2) := by decide +kernel
theorem dX0_ticketOf_78 : decode cX0_ticketOf 78 = .ok (.ireturn, 1) := by decide +kernel
theorem dX0_purse_0 : decode cX0_purse 0 = .ok (.iload_n 1, 1) := by decide +kernel
theorem dX0_purse_1 : decode cX0_purse 1 = .ok (.invokestatic 335, 3) := by decide +kernel
theorem dX0_purse_4 : decode cX0_purse 4 = .ok (.ifCond .eq 16, 3) := by decide +kernel
theorem dX0_purse_7 : decode cX0_purse 7 = .ok (.ldc_w 353, 3) := by decide +kernel
theorem dX0_purse_10 : decode cX0_purse 10 = .ok (.aload_n 0, 1) := by decide +kernel
theorem dX0_purse_11 : decode cX0_purse 11 = .ok (.getfield 64, 3) := by decide +kernel
theorem dX0_purse_14 : decode cX0_purse 14 = .ok (.iload_n 1, 1) := by decide +kernel
theorem dX0_purse_15 : decode cX0_purse 15 = .ok (.iaload, 1) := by decide +kernel
theorem dX0_purse_16 : decode cX0_purse 16 = .ok (.iadd, 1) := by decide +kernel
theorem dX0_purse_17 : decode cX0_purse 17 = .ok (.goto 4, 3) := by decide +kernel
theorem dX0_purse_20 : decode cX0_purse 20 = .ok (.iconst (-1), 1) := by decide +kernel
theorem dX0_purse_21 : decode cX0_purse 21 = .ok (.ireturn, 1) := by decide +kernel
theorem dX0_wages_0 : decode cX0_wages 0 = .ok (.aload_n 0, 1) := by decide +kernel
theorem dX0_wages_1 : decode cX0_wages 1 = .ok (.iload_n 1, 1) := by decide +kernel
theorem dX0_wages_2 : decode cX0_wages 2 = .ok (.invokevirtual 82, 3) := by decide +kernel
theorem dX0_wages_5 : decode cX0_wages 5 = .ok (.ifCond .ne 5, 3) := by decide +kernel
theorem dX0_wages_8 : decode cX0_wages 8 = .ok (.iconst (-1), 1) := by decide +kernel
theorem dX0_wages_9 : decode cX0_wages 9 = .ok (.ireturn, 1) := by decide +kernel
theorem dX0_wages_10 : decode cX0_wages 10 = .ok (.iload_n 2, 1) := by decide +kernel
theorem dX0_wages_11 : decode cX0_wages 11 = .ok (.ifCond .ne 13, 3) := by decide +kernel
theorem dX0_wages_14 : decode cX0_wages 14 = .ok (.aload_n 0, 1) := by decide +kernel
theorem dX0_wages_15 : decode cX0_wages 15 = .ok (.getfield 24, 3) := by decide +kernel
theorem dX0_wages_18 : decode cX0_wages 18 = .ok (.iload_n 1, 1) := by decide +kernel
theorem dX0_wages_19 : decode cX0_wages 19 = .ok (.aaload, 1) := by decide +kernel
theorem dX0_wages_20 : decode cX0_wages 20 = .ok (.getfield 354, 3) := by decide +kernel
theorem dX0_wages_23 : decode cX0_wages 23 = .ok (.ireturn, 1) := by decide +kernel
theorem dX0_wages_24 : decode cX0_wages 24 = .ok (.iconst 0, 1) := by decide +kernel
theorem dX0_wages_25 : decode cX0_wages 25 = .ok (.istore_n 3, 1) := by decide +kernel
theorem dX0_wages_26 : decode cX0_wages 26 = .ok (.iconst 0, 1) := by decide +kernel
theorem dX0_wages_27 : decode cX0_wages 27 = .ok (.istore 4, 2) := by decide +kernel
theorem dX0_wages_29 : decode cX0_wages 29 = .ok (.iload 4, 2) := by decide +kernel
theorem dX0_wages_31 : decode cX0_wages 31 = .ok (.aload_n 0, 1) := by decide +kernel
theorem dX0_wages_32 : decode cX0_wages 32 = .ok (.getfield 326, 3) := by decide +kernel
theorem dX0_wages_35 : decode cX0_wages 35 = .ok (.if_icmp .ge 62, 3) := by decide +kernel
theorem dX0_wages_38 : decode cX0_wages 38 = .ok (.aload_n 0, 1) := by decide +kernel
theorem dX0_wages_39 : decode cX0_wages 39 = .ok (.getfield 60, 3) := by decide +kernel
theorem dX0_wages_42 : decode cX0_wages 42 = .ok (.iload 4, 2) := by decide +kernel
theorem dX0_wages_44 : decode cX0_wages 44 = .ok (.aaload, 1) := by decide +kernel
theorem dX0_wages_45 : decode cX0_wages 45 = .ok (.astore 5, 2) := by decide +kernel
theorem dX0_wages_47 : decode cX0_wages 47 = .ok (.iload_n 3, 1) := by decide +kernel
theorem dX0_wages_48 : decode cX0_wages 48 = .ok (.aload 5, 2) := by decide +kernel
theorem dX0_wages_50 : decode cX0_wages 50 = .ok (.getfield 357, 3) := by decide +kernel
theorem dX0_wages_53 : decode cX0_wages 53 = .ok (.aload_n 0, 1) := by decide +kernel
theorem dX0_wages_54 : decode cX0_wages 54 = .ok (.getfield 24, 3) := by decide +kernel
theorem dX0_wages_57 : decode cX0_wages 57 = .ok (.iload_n 1, 1) := by decide +kernel
theorem dX0_wages_58 : decode cX0_wages 58 = .ok (.aaload, 1) := by decide +kernel
theorem dX0_wages_59 : decode cX0_wages 59 = .ok (.if_acmp .ne 29, 3) := by decide +kernel
theorem dX0_wages_62 : decode cX0_wages 62 = .ok (.aload 5, 2) := by decide +kernel
theorem dX0_wages_64 : decode cX0_wages 64 = .ok (.getfield 341, 3) := by decide +kernel
theorem dX0_wages_67 : decode cX0_wages 67 = .ok (.bipush (-9), 2) := by decide +kernel
theorem dX0_wages_69 : decode cX0_wages 69 = .ok (.if_icmp .ne 19, 3) := by decide +kernel
theorem dX0_wages_72 : decode cX0_wages 72 = .ok (.aload 5, 2) := by decide +kernel
theorem dX0_wages_74 : decode cX0_wages 74 = .ok (.getfield 338, 3) := by decide +kernel
theorem dX0_wages_77 : decode cX0_wages 77 = .ok (.ifCond .ne 11, 3) := by decide +kernel
theorem dX0_wages_80 : decode cX0_wages 80 = .ok (.aload 5, 2) := by decide +kernel
theorem dX0_wages_82 : decode cX0_wages 82 = .ok (.getfield 344, 3) := by decide +kernel
theorem dX0_wages_85 : decode cX0_wages 85 = .ok (.goto 4, 3) := by decide +kernel
theorem dX0_wages_88 : decode cX0_wages 88 = .ok (.iconst 0, 1) := by decide +kernel
theorem dX0_wages_89 : decode cX0_wages 89 = .ok (.iadd, 1) := by decide +kernel
theorem dX0_wages_90 : decode cX0_wages 90 = .ok (.istore_n 3, 1) := by decide +kernel
theorem dX0_wages_91 : decode cX0_wages 91 = .ok (.iinc 4 1, 3) := by decide +kernel
theorem dX0_wages_94 : decode cX0_wages 94 = .ok (.goto (-65), 3) := by decide +kernel
theorem dX0_wages_97 : decode cX0_wages 97 = .ok (.iload_n 3, 1) := by decide +kernel
theorem dX0_wages_98 : decode cX0_wages 98 = .ok (.ireturn, 1) := by decide +kernel
theorem dX0_count_0 : decode cX0_count 0 = .ok (.iconst 0, 1) := by decide +kernel
theorem dX0_count_1 : decode cX0_count 1 = .ok (.istore_n 2, 1) := by decide +kernel
theorem dX0_count_2 : decode cX0_count 2 = .ok (.iload_n 1, 1) := by decide +kernel
theorem dX0_count_3 : decode cX0_count 3 = .ok (.tableswitch 120 0 7 #[45, 50, 55, 60, 65, 70, 75, 115], 45) := by decide +kernel
theorem dX0_count_48 : decode cX0_count 48 = .ok (.aload_n 0, 1) := by decide +kernel
theorem dX0_count_49 : decode cX0_count 49 = .ok (.getfield 68, 3) := by decide +kernel
theorem dX0_count_52 : decode cX0_count 52 = .ok (.ireturn, 1) := by decide +kernel
theorem dX0_count_53 : decode cX0_count 53 = .ok (.aload_n 0, 1) := by decide +kernel
theorem dX0_count_54 : decode cX0_count 54 = .ok (.getfield 111, 3) := by decide +kernel
theorem dX0_count_57 : decode cX0_count 57 = .ok (.ireturn, 1) := by decide +kernel
theorem dX0_count_58 : decode cX0_count 58 = .ok (.aload_n 0, 1) := by decide +kernel
theorem dX0_count_59 : decode cX0_count 59 = .ok (.getfield 149, 3) := by decide +kernel
theorem dX0_count_62 : decode cX0_count 62 = .ok (.ireturn, 1) := by decide +kernel
theorem dX0_count_63 : decode cX0_count 63 = .ok (.aload_n 0, 1) := by decide +kernel
theorem dX0_count_64 : decode cX0_count 64 = .ok (.getfield 184, 3) := by decide +kernel
theorem dX0_count_67 : decode cX0_count 67 = .ok (.ireturn, 1) := by decide +kernel
theorem dX0_count_68 : decode cX0_count 68 = .ok (.aload_n 0, 1) := by decide +kernel
theorem dX0_count_69 : decode cX0_count 69 = .ok (.getfield 170, 3) := by decide +kernel
theorem dX0_count_72 : decode cX0_count 72 = .ok (.ireturn, 1) := by decide +kernel
theorem dX0_count_73 : decode cX0_count 73 = .ok (.aload_n 0, 1) := by decide +kernel
theorem dX0_count_74 : decode cX0_count 74 = .ok (.getfield 326, 3) := by decide +kernel
theorem dX0_count_77 : decode cX0_count 77 = .ok (.ireturn, 1) := by decide +kernel
theorem dX0_count_78 : decode cX0_count 78 = .ok (.iconst 0, 1) := by decide +kernel
theorem dX0_count_79 : decode cX0_count 79 = .ok (.istore_n 3, 1) := by decide +kernel
theorem dX0_count_80 : decode cX0_count 80 = .ok (.iload_n 3, 1) := by decide +kernel
theorem dX0_count_81 : decode cX0_count 81 = .ok (.aload_n 0, 1) := by decide +kernel
theorem dX0_count_82 : decode cX0_count 82 = .ok (.getfield 68, 3) := by decide +kernel
theorem dX0_count_85 : decode cX0_count 85 = .ok (.if_icmp .ge 31, 3) := by decide +kernel
theorem dX0_count_88 : decode cX0_count 88 = .ok (.iload_n 2, 1) := by decide +kernel
theorem dX0_count_89 : decode cX0_count 89 = .ok (.aload_n 0, 1) := by decide +kernel
theorem dX0_count_90 : decode cX0_count 90 = .ok (.getfield 24, 3) := by decide +kernel
theorem dX0_count_93 : decode cX0_count 93 = .ok (.iload_n 3, 1) := by decide +kernel
theorem dX0_count_94 : decode cX0_count 94 = .ok (.aaload, 1) := by decide +kernel
theorem dX0_count_95 : decode cX0_count 95 = .ok (.invokevirtual 104, 3) := by decide +kernel
theorem dX0_count_98 : decode cX0_count 98 = .ok (.bipush 10, 2) := by decide +kernel
theorem dX0_count_100 : decode cX0_count 100 = .ok (.if_icmp .lt 7, 3) := by decide +kernel
theorem dX0_count_103 : decode cX0_count 103 = .ok (.iconst 1, 1) := by decide +kernel
theorem dX0_count_104 : decode cX0_count 104 = .ok (.goto 4, 3) := by decide +kernel
theorem dX0_count_107 : decode cX0_count 107 = .ok (.iconst 0, 1) := by decide +kernel
theorem dX0_count_108 : decode cX0_count 108 = .ok (.iadd, 1) := by decide +kernel
theorem dX0_count_109 : decode cX0_count 109 = .ok (.istore_n 2, 1) := by decide +kernel
theorem dX0_count_110 : decode cX0_count 110 = .ok (.iinc 3 1, 3) := by decide +kernel
theorem dX0_count_113 : decode cX0_count 113 = .ok (.goto (-33), 3) := by decide +kernel
theorem dX0_count_116 : decode cX0_count 116 = .ok (.iload_n 2, 1) := by decide +kernel
theorem dX0_count_117 : decode cX0_count 117 = .ok (.ireturn, 1) := by decide +kernel
theorem dX0_count_118 : decode cX0_count 118 = .ok (.aload_n 0, 1) := by decide +kernel
theorem dX0_count_119 : decode cX0_count 119 = .ok (.getfield 13, 3) := by decide +kernel
theorem dX0_count_122 : decode cX0_count 122 = .ok (.ireturn, 1) := by decide +kernel
theorem dX0_count_123 : decode cX0_count 123 = .ok (.bipush (-2), 2) := by decide +kernel
theorem dX0_count_125 : decode cX0_count 125 = .ok (.ireturn, 1) := by decide +kernel
