set_option maxRecDepth 100000
theorem dX1_shown_110 : decode cX1_shown 110 = .ok (.invokestatic 103, 3) := by decide +kernel
theorem dX1_shown_113 : decode cX1_shown 113 = .ok (.ifCond .eq 7, 3) := by decide +kernel
theorem dX1_shown_116 : decode cX1_shown 116 = .ok (.iconst 1, 1) := by decide +kernel
theorem dX1_shown_117 : decode cX1_shown 117 = .ok (.goto 4, 3) := by decide +kernel
theorem dX1_shown_120 : decode cX1_shown 120 = .ok (.iconst 0, 1) := by decide +kernel
theorem dX1_shown_121 : decode cX1_shown 121 = .ok (.istore 5, 2) := by decide +kernel
theorem dX1_shown_123 : decode cX1_shown 123 = .ok (.iinc 6 1, 3) := by decide +kernel
theorem dX1_shown_126 : decode cX1_shown 126 = .ok (.goto (-81), 3) := by decide +kernel
theorem dX1_shown_129 : decode cX1_shown 129 = .ok (.iload_n 3, 1) := by decide +kernel
theorem dX1_shown_130 : decode cX1_shown 130 = .ok (.iload 5, 2) := by decide +kernel
theorem dX1_shown_132 : decode cX1_shown 132 = .ok (.ifCond .eq 7, 3) := by decide +kernel
theorem dX1_shown_135 : decode cX1_shown 135 = .ok (.iconst 1, 1) := by decide +kernel
theorem dX1_shown_136 : decode cX1_shown 136 = .ok (.goto 4, 3) := by decide +kernel
theorem dX1_shown_139 : decode cX1_shown 139 = .ok (.iconst 0, 1) := by decide +kernel
theorem dX1_shown_140 : decode cX1_shown 140 = .ok (.iadd, 1) := by decide +kernel
theorem dX1_shown_141 : decode cX1_shown 141 = .ok (.istore_n 3, 1) := by decide +kernel
theorem dX1_shown_142 : decode cX1_shown 142 = .ok (.iinc 4 1, 3) := by decide +kernel
theorem dX1_shown_145 : decode cX1_shown 145 = .ok (.goto (-115), 3) := by decide +kernel
theorem dX1_shown_148 : decode cX1_shown 148 = .ok (.iload_n 3, 1) := by decide +kernel
theorem dX1_shown_149 : decode cX1_shown 149 = .ok (.ireturn, 1) := by decide +kernel
theorem dX1_act_0 : decode cX1_act 0 = .ok (.aload_n 0, 1) := by decide +kernel
theorem dX1_act_1 : decode cX1_act 1 = .ok (.iconst 0, 1) := by decide +kernel
theorem dX1_act_2 : decode cX1_act 2 = .ok (.putfield 100, 3) := by decide +kernel
theorem dX1_act_5 : decode cX1_act 5 = .ok (.iload_n 1, 1) := by decide +kernel
theorem dX1_act_6 : decode cX1_act 6 = .ok (.invokestatic 194, 3) := by decide +kernel
theorem dX1_act_9 : decode cX1_act 9 = .ok (.ifCond .eq 6, 3) := by decide +kernel
theorem dX1_act_12 : decode cX1_act 12 = .ok (.bipush (-2), 2) := by decide +kernel
theorem dX1_act_14 : decode cX1_act 14 = .ok (.ireturn, 1) := by decide +kernel
theorem dX1_act_15 : decode cX1_act 15 = .ok (.aload_n 0, 1) := by decide +kernel
theorem dX1_act_16 : decode cX1_act 16 = .ok (.getfield 201, 3) := by decide +kernel
theorem dX1_act_19 : decode cX1_act 19 = .ok (.bipush 8, 2) := by decide +kernel
theorem dX1_act_21 : decode cX1_act 21 = .ok (.if_icmp .ne 6, 3) := by decide +kernel
theorem dX1_act_24 : decode cX1_act 24 = .ok (.bipush (-4), 2) := by decide +kernel
theorem dX1_act_26 : decode cX1_act 26 = .ok (.ireturn, 1) := by decide +kernel
theorem dX1_act_27 : decode cX1_act 27 = .ok (.aload_n 0, 1) := by decide +kernel
theorem dX1_act_28 : decode cX1_act 28 = .ok (.getfield 49, 3) := by decide +kernel
theorem dX1_act_31 : decode cX1_act 31 = .ok (.aload_n 0, 1) := by decide +kernel
theorem dX1_act_32 : decode cX1_act 32 = .ok (.getfield 201, 3) := by decide +kernel
theorem dX1_act_35 : decode cX1_act 35 = .ok (.iload_n 1, 1) := by decide +kernel
theorem dX1_act_36 : decode cX1_act 36 = .ok (.iastore, 1) := by decide +kernel
theorem dX1_act_37 : decode cX1_act 37 = .ok (.aload_n 0, 1) := by decide +kernel
theorem dX1_act_38 : decode cX1_act 38 = .ok (.dup, 1) := by decide +kernel
theorem dX1_act_39 : decode cX1_act 39 = .ok (.getfield 201, 3) := by decide +kernel
theorem dX1_act_42 : decode cX1_act 42 = .ok (.iconst 1, 1) := by decide +kernel
theorem dX1_act_43 : decode cX1_act 43 = .ok (.iadd, 1) := by decide +kernel
theorem dX1_act_44 : decode cX1_act 44 = .ok (.putfield 201, 3) := by decide +kernel
theorem dX1_act_47 : decode cX1_act 47 = .ok (.aload_n 0, 1) := by decide +kernel
theorem dX1_act_48 : decode cX1_act 48 = .ok (.getfield 201, 3) := by decide +kernel
theorem dX1_act_51 : decode cX1_act 51 = .ok (.iconst 1, 1) := by decide +kernel
theorem dX1_act_52 : decode cX1_act 52 = .ok (.isub, 1) := by decide +kernel
theorem dX1_act_53 : decode cX1_act 53 = .ok (.ireturn, 1) := by decide +kernel
theorem dX1_sign_0 : decode cX1_sign 0 = .ok (.aload_n 0, 1) := by decide +kernel
theorem dX1_sign_1 : decode cX1_sign 1 = .ok (.iconst 0, 1) := by decide +kernel
theorem dX1_sign_2 : decode cX1_sign 2 = .ok (.putfield 100, 3) := by decide +kernel
theorem dX1_sign_5 : decode cX1_sign 5 = .ok (.iload_n 1, 1) := by decide +kernel
theorem dX1_sign_6 : decode cX1_sign 6 = .ok (.i2l, 1) := by decide +kernel
theorem dX1_sign_7 : decode cX1_sign 7 = .ok (.lconst 0, 1) := by decide +kernel
theorem dX1_sign_8 : decode cX1_sign 8 = .ok (.aload_n 0, 1) := by decide +kernel
theorem dX1_sign_9 : decode cX1_sign 9 = .ok (.getfield 201, 3) := by decide +kernel
theorem dX1_sign_12 : decode cX1_sign 12 = .ok (.iconst 1, 1) := by decide +kernel
theorem dX1_sign_13 : decode cX1_sign 13 = .ok (.isub, 1) := by decide +kernel
theorem dX1_sign_14 : decode cX1_sign 14 = .ok (.i2l, 1) := by decide +kernel
theorem dX1_sign_15 : decode cX1_sign 15 = .ok (.invokestatic 103, 3) := by decide +kernel
theorem dX1_sign_18 : decode cX1_sign 18 = .ok (.ifCond .ne 5, 3) := by decide +kernel
theorem dX1_sign_21 : decode cX1_sign 21 = .ok (.iconst (-1), 1) := by decide +kernel
theorem dX1_sign_22 : decode cX1_sign 22 = .ok (.ireturn, 1) := by decide +kernel
theorem dX1_sign_23 : decode cX1_sign 23 = .ok (.iload_n 2, 1) := by decide +kernel
theorem dX1_sign_24 : decode cX1_sign 24 = .ok (.i2l, 1) := by decide +kernel
theorem dX1_sign_25 : decode cX1_sign 25 = .ok (.ldc2_w 204, 3) := by decide +kernel
theorem dX1_sign_28 : decode cX1_sign 28 = .ok (.ldc2_w 206, 3) := by decide +kernel
theorem dX1_sign_31 : decode cX1_sign 31 = .ok (.invokestatic 103, 3) := by decide +kernel
theorem dX1_sign_34 : decode cX1_sign 34 = .ok (.ifCond .ne 6, 3) := by decide +kernel
theorem dX1_sign_37 : decode cX1_sign 37 = .ok (.bipush (-2), 2) := by decide +kernel
theorem dX1_sign_39 : decode cX1_sign 39 = .ok (.ireturn, 1) := by decide +kernel
theorem dX1_sign_40 : decode cX1_sign 40 = .ok (.aload_n 0, 1) := by decide +kernel
theorem dX1_sign_41 : decode cX1_sign 41 = .ok (.getfield 52, 3) := by decide +kernel
theorem dX1_sign_44 : decode cX1_sign 44 = .ok (.iload_n 1, 1) := by decide +kernel
theorem dX1_sign_45 : decode cX1_sign 45 = .ok (.iaload, 1) := by decide +kernel
theorem dX1_sign_46 : decode cX1_sign 46 = .ok (.bipush 60, 2) := by decide +kernel
theorem dX1_sign_48 : decode cX1_sign 48 = .ok (.if_icmp .ne 6, 3) := by decide +kernel
theorem dX1_sign_51 : decode cX1_sign 51 = .ok (.bipush (-4), 2) := by decide +kernel
theorem dX1_sign_53 : decode cX1_sign 53 = .ok (.ireturn, 1) := by decide +kernel
theorem dX1_sign_54 : decode cX1_sign 54 = .ok (.aload_n 0, 1) := by decide +kernel
theorem dX1_sign_55 : decode cX1_sign 55 = .ok (.getfield 55, 3) := by decide +kernel
theorem dX1_sign_58 : decode cX1_sign 58 = .ok (.bipush 60, 2) := by decide +kernel
theorem dX1_sign_60 : decode cX1_sign 60 = .ok (.iload_n 1, 1) := by decide +kernel
theorem dX1_sign_61 : decode cX1_sign 61 = .ok (.imul, 1) := by decide +kernel
theorem dX1_sign_62 : decode cX1_sign 62 = .ok (.aload_n 0, 1) := by decide +kernel
theorem dX1_sign_63 : decode cX1_sign 63 = .ok (.getfield 52, 3) := by decide +kernel
theorem dX1_sign_66 : decode cX1_sign 66 = .ok (.iload_n 1, 1) := by decide +kernel
theorem dX1_sign_67 : decode cX1_sign 67 = .ok (.iaload, 1) := by decide +kernel
theorem dX1_sign_68 : decode cX1_sign 68 = .ok (.iadd, 1) := by decide +kernel
theorem dX1_sign_69 : decode cX1_sign 69 = .ok (.iload_n 2, 1) := by decide +kernel
theorem dX1_sign_70 : decode cX1_sign 70 = .ok (.iastore, 1) := by decide +kernel
theorem dX1_sign_71 : decode cX1_sign 71 = .ok (.aload_n 0, 1) := by decide +kernel
theorem dX1_sign_72 : decode cX1_sign 72 = .ok (.getfield 52, 3) := by decide +kernel
theorem dX1_sign_75 : decode cX1_sign 75 = .ok (.iload_n 1, 1) := by decide +kernel
theorem dX1_sign_76 : decode cX1_sign 76 = .ok (.dup2, 1) := by decide +kernel
theorem dX1_sign_77 : decode cX1_sign 77 = .ok (.iaload, 1) := by decide +kernel
theorem dX1_sign_78 : decode cX1_sign 78 = .ok (.iconst 1, 1) := by decide +kernel
theorem dX1_sign_79 : decode cX1_sign 79 = .ok (.iadd, 1) := by decide +kernel
theorem dX1_sign_80 : decode cX1_sign 80 = .ok (.iastore, 1) := by decide +kernel
theorem dX1_sign_81 : decode cX1_sign 81 = .ok (.aload_n 0, 1) := by decide +kernel
theorem dX1_sign_82 : decode cX1_sign 82 = .ok (.getfield 52, 3) := by decide +kernel
theorem dX1_sign_85 : decode cX1_sign 85 = .ok (.iload_n 1, 1) := by decide +kernel
theorem dX1_sign_86 : decode cX1_sign 86 = .ok (.iaload, 1) := by decide +kernel
theorem dX1_sign_87 : decode cX1_sign 87 = .ok (.ireturn, 1) := by decide +kernel
theorem dX1_fault_0 : decode cX1_fault 0 = .ok (.aload_n 0, 1) := by decide +kernel
theorem dX1_fault_1 : decode cX1_fault 1 = .ok (.iconst 0, 1) := by decide +kernel
theorem dX1_fault_2 : decode cX1_fault 2 = .ok (.putfield 100, 3) := by decide +kernel
theorem dX1_fault_5 : decode cX1_fault 5 = .ok (.iload_n 1, 1) := by decide +kernel
theorem dX1_fault_6 : decode cX1_fault 6 = .ok (.i2l, 1) := by decide +kernel
theorem dX1_fault_7 : decode cX1_fault 7 = .ok (.lconst 0, 1) := by decide +kernel
theorem dX1_fault_8 : decode cX1_fault 8 = .ok (.aload_n 0, 1) := by decide +kernel
theorem dX1_fault_9 : decode cX1_fault 9 = .ok (.getfield 201, 3) := by decide +kernel
theorem dX1_fault_12 : decode cX1_fault 12 = .ok (.iconst 1, 1) := by decide +kernel
theorem dX1_fault_13 : decode cX1_fault 13 = .ok (.isub, 1) := by decide +kernel
theorem dX1_fault_14 : decode cX1_fault 14 = .ok (.i2l, 1) := by decide +kernel
theorem dX1_fault_15 : decode cX1_fault 15 = .ok (.invokestatic 103, 3) := by decide +kernel
theorem dX1_fault_18 : decode cX1_fault 18 = .ok (.ifCond .eq 11, 3) := by decide +kernel
theorem dX1_fault_21 : decode cX1_fault 21 = .ok (.aload_n 0, 1) := by decide +kernel
theorem dX1_fault_22 : decode cX1_fault 22 = .ok (.iload_n 1, 1) := by decide +kernel
theorem dX1_fault_23 : decode cX1_fault 23 = .ok (.invokevirtual 215, 3) := by decide +kernel
theorem dX1_fault_26 : decode cX1_fault 26 = .ok (.goto 4, 3) := by decide +kernel
theorem dX1_fault_29 : decode cX1_fault 29 = .ok (.iconst (-1), 1) := by decide +kernel
theorem dX1_fault_30 : decode cX1_fault 30 = .ok (.ireturn, 1) := by decide +kernel
theorem dX1_faultOf_0 : decode cX1_faultOf 0 = .ok (.iconst 1, 1) := by decide +kernel
theorem dX1_faultOf_1 : decode cX1_faultOf 1 = .ok (.istore_n 2, 1) := by decide +kernel
theorem dX1_faultOf_2 : decode cX1_faultOf 2 = .ok (.iconst 0, 1) := by decide +kernel
theorem dX1_faultOf_3 : decode cX1_faultOf 3 = .ok (.istore_n 3, 1) := by decide +kernel
theorem dX1_faultOf_4 : decode cX1_faultOf 4 = .ok (.iconst 0, 1) := by decide +kernel
theorem dX1_faultOf_5 : decode cX1_faultOf 5 = .ok (.istore 4, 2) := by decide +kernel
theorem dX1_faultOf_7 : decode cX1_faultOf 7 = .ok (.iload 4, 2) := by decide +kernel
theorem dX1_faultOf_9 : decode cX1_faultOf 9 = .ok (.aload_n 0, 1) := by decide +kernel
theorem dX1_faultOf_10 : decode cX1_faultOf 10 = .ok (.getfield 52, 3) := by decide +kernel
theorem dX1_faultOf_13 : decode cX1_faultOf 13 = .ok (.iload_n 1, 1) := by decide +kernel
theorem dX1_faultOf_14 : decode cX1_faultOf 14 = .ok (.iaload, 1) := by decide +kernel
theorem dX1_faultOf_15 : decode cX1_faultOf 15 = .ok (.if_icmp .ge 131, 3) := by decide +kernel
theorem dX1_faultOf_18 : decode cX1_faultOf 18 = .ok (.aload_n 0, 1) := by decide +kernel
theorem dX1_faultOf_19 : decode cX1_faultOf 19 = .ok (.getfield 55, 3) := by decide +kernel
theorem dX1_faultOf_22 : decode cX1_faultOf 22 = .ok (.bipush 60, 2) := by decide +kernel
theorem dX1_faultOf_24 : decode cX1_faultOf 24 = .ok (.iload_n 1, 1) := by decide +kernel
theorem dX1_faultOf_25 : decode cX1_faultOf 25 = .ok (.imul, 1) := by decide +kernel
theorem dX1_faultOf_26 : decode cX1_faultOf 26 = .ok (.iload 4, 2) := by decide +kernel
theorem dX1_faultOf_28 : decode cX1_faultOf 28 = .ok (.iadd, 1) := by decide +kernel
theorem dX1_faultOf_29 : decode cX1_faultOf 29 = .ok (.iaload, 1) := by decide +kernel
theorem dX1_faultOf_30 : decode cX1_faultOf 30 = .ok (.istore 5, 2) := by decide +kernel
theorem dX1_faultOf_32 : decode cX1_faultOf 32 = .ok (.iload_n 3, 1) := by decide +kernel
theorem dX1_faultOf_33 : decode cX1_faultOf 33 = .ok (.ifCond .le 27, 3) := by decide +kernel
theorem dX1_faultOf_36 : decode cX1_faultOf 36 = .ok (.iload 5, 2) := by decide +kernel
theorem dX1_faultOf_38 : decode cX1_faultOf 38 = .ok (.i2l, 1) := by decide +kernel
theorem dX1_faultOf_39 : decode cX1_faultOf 39 = .ok (.ldc2_w 208, 3) := by decide +kernel
theorem dX1_faultOf_42 : decode cX1_faultOf 42 = .ok (.ldc2_w 210, 3) := by decide +kernel
theorem dX1_faultOf_45 : decode cX1_faultOf 45 = .ok (.invokestatic 103, 3) := by decide +kernel
theorem dX1_faultOf_48 : decode cX1_faultOf 48 = .ok (.ifCond .ne 6, 3) := by decide +kernel
theorem dX1_faultOf_51 : decode cX1_faultOf 51 = .ok (.iload 4, 2) := by decide +kernel
theorem dX1_faultOf_53 : decode cX1_faultOf 53 = .ok (.ireturn, 1) := by decide +kernel
theorem dX1_faultOf_54 : decode cX1_faultOf 54 = .ok (.iinc 3 (-1), 3) := by decide +kernel
theorem dX1_faultOf_57 : decode cX1_faultOf 57 = .ok (.goto 83, 3) := by decide +kernel
theorem dX1_faultOf_60 : decode cX1_faultOf 60 = .ok (.iload_n 2, 1) := by decide +kernel
theorem dX1_faultOf_61 : decode cX1_faultOf 61 = .ok (.ifCond .ne 6, 3) := by decide +kernel
theorem dX1_faultOf_64 : decode cX1_faultOf 64 = .ok (.iload 4, 2) := by decide +kernel
theorem dX1_faultOf_66 : decode cX1_faultOf 66 = .ok (.ireturn, 1) := by decide +kernel
theorem dX1_faultOf_67 : decode cX1_faultOf 67 = .ok (.iload 5, 2) := by decide +kernel
theorem dX1_faultOf_69 : decode cX1_faultOf 69 = .ok (.bipush 38, 2) := by decide +kernel
theorem dX1_faultOf_71 : decode cX1_faultOf 71 = .ok (.if_icmp .eq 10, 3) := by decide +kernel
theorem dX1_faultOf_74 : decode cX1_faultOf 74 = .ok (.iload 5, 2) := by decide +kernel
theorem dX1_faultOf_76 : decode cX1_faultOf 76 = .ok (.bipush 124, 2) := by decide +kernel
theorem dX1_faultOf_78 : decode cX1_faultOf 78 = .ok (.if_icmp .ne 9, 3) := by decide +kernel
theorem dX1_faultOf_81 : decode cX1_faultOf 81 = .ok (.iinc 2 1, 3) := by decide +kernel
theorem dX1_faultOf_84 : decode cX1_faultOf 84 = .ok (.goto 56, 3) := by decide +kernel
theorem dX1_faultOf_87 : decode cX1_faultOf 87 = .ok (.iload 5, 2) := by decide +kernel
theorem dX1_faultOf_89 : decode cX1_faultOf 89 = .ok (.invokestatic 212, 3) := by decide +kernel
theorem dX1_faultOf_92 : decode cX1_faultOf 92 = .ok (.ifCond .eq 11, 3) := by decide +kernel
theorem dX1_faultOf_95 : decode cX1_faultOf 95 = .ok (.iinc 2 (-1), 3) := by decide +kernel
theorem dX1_faultOf_98 : decode cX1_faultOf 98 = .ok (.iconst 2, 1) := by decide +kernel
theorem dX1_faultOf_99 : decode cX1_faultOf 99 = .ok (.istore_n 3, 1) := by decide +kernel
theorem dX1_faultOf_100 : decode cX1_faultOf 100 = .ok (.goto 40, 3) := by decide +kernel
theorem dX1_faultOf_103 : decode cX1_faultOf 103 = .ok (.iload 5, 2) := by decide +kernel
theorem dX1_faultOf_105 : decode cX1_faultOf 105 = .ok (.bipush 112, 2) := by decide +kernel
theorem dX1_faultOf_107 : decode cX1_faultOf 107 = .ok (.if_icmp .eq 17, 3) := by decide +kernel
theorem dX1_faultOf_110 : decode cX1_faultOf 110 = .ok (.iload 5, 2) := by decide +kernel
theorem dX1_faultOf_112 : decode cX1_faultOf 112 = .ok (.bipush 115, 2) := by decide +kernel
theorem dX1_faultOf_114 : decode cX1_faultOf 114 = .ok (.if_icmp .eq 10, 3) := by decide +kernel
theorem dX1_faultOf_117 : decode cX1_faultOf 117 = .ok (.iload 5, 2) := by decide +kernel
theorem dX1_faultOf_119 : decode cX1_faultOf 119 = .ok (.bipush 104, 2) := by decide +kernel
theorem dX1_faultOf_121 : decode cX1_faultOf 121 = .ok (.if_icmp .ne 9, 3) := by decide +kernel
theorem dX1_faultOf_124 : decode cX1_faultOf 124 = .ok (.iinc 2 (-1), 3) := by decide +kernel
theorem dX1_faultOf_127 : decode cX1_faultOf 127 = .ok (.goto 13, 3) := by decide +kernel
theorem dX1_faultOf_130 : decode cX1_faultOf 130 = .ok (.iload 5, 2) := by decide +kernel
theorem dX1_faultOf_132 : decode cX1_faultOf 132 = .ok (.bipush 33, 2) := by decide +kernel
theorem dX1_faultOf_134 : decode cX1_faultOf 134 = .ok (.if_icmp .eq 6, 3) := by decide +kernel
theorem dX1_faultOf_137 : decode cX1_faultOf 137 = .ok (.iload 4, 2) := by decide +kernel
theorem dX1_faultOf_139 : decode cX1_faultOf 139 = .ok (.ireturn, 1) := by decide +kernel
theorem dX1_faultOf_140 : decode cX1_faultOf 140 = .ok (.iinc 4 1, 3) := by decide +kernel
theorem dX1_faultOf_143 : decode cX1_faultOf 143 = .ok (.goto (-136), 3) := by decide +kernel
theorem dX1_faultOf_146 : decode cX1_faultOf 146 = .ok (.iload_n 2, 1) := by decide +kernel
theorem dX1_faultOf_147 : decode cX1_faultOf 147 = .ok (.ifCond .ne 12, 3) := by decide +kernel
theorem dX1_faultOf_150 : decode cX1_faultOf 150 = .ok (.iload_n 3, 1) := by decide +kernel
theorem dX1_faultOf_151 : decode cX1_faultOf 151 = .ok (.ifCond .ne 8, 3) := by decide +kernel
theorem dX1_faultOf_154 : decode cX1_faultOf 154 = .ok (.bipush (-9), 2) := by decide +kernel
theorem dX1_faultOf_156 : decode cX1_faultOf 156 = .ok (.goto 9, 3) := by decide +kernel
theorem dX1_faultOf_159 : decode cX1_faultOf 159 = .ok (.aload_n 0, 1) := by decide +kernel
theorem dX1_faultOf_160 : decode cX1_faultOf 160 = .ok (.getfield 52, 3) := by decide +kernel
theorem dX1_faultOf_163 : decode cX1_faultOf 163 = .ok (.iload_n 1, 1) := by decide +kernel
theorem dX1_faultOf_164 : decode cX1_faultOf 164 = .ok (.iaload, 1) := by decide +kernel
theorem dX1_faultOf_165 : decode cX1_faultOf 165 = .ok (.ireturn, 1) := by decide +kernel
theorem dX1_hasDigits_0 : decode cX1_hasDigits 0 = .ok (.iload_n 0, 1) := by decide +kernel
theorem dX1_hasDigits_1 : decode cX1_hasDigits 1 = .ok (.bipush 97, 2) := by decide +kernel
theorem dX1_hasDigits_3 : decode cX1_hasDigits 3 = .ok (.if_icmp .eq 27, 3) := by decide +kernel
theorem dX1_hasDigits_6 : decode cX1_hasDigits 6 = .ok (.iload_n 0, 1) := by decide +kernel
theorem dX1_hasDigits_7 : decode cX1_hasDigits 7 = .ok (.bipush 65, 2) := by decide +kernel
theorem dX1_hasDigits_9 : decode cX1_hasDigits 9 = .ok (.if_icmp .eq 21, 3) := by decide +kernel
theorem dX1_hasDigits_12 : decode cX1_hasDigits 12 = .ok (.iload_n 0, 1) := by decide +kernel
theorem dX1_hasDigits_13 : decode cX1_hasDigits 13 = .ok (.bipush 121, 2) := by decide +kernel
theorem dX1_hasDigits_15 : decode cX1_hasDigits 15 = .ok (.if_icmp .eq 15, 3) := by decide +kernel
theorem dX1_hasDigits_18 : decode cX1_hasDigits 18 = .ok (.iload_n 0, 1) := by decide +kernel
theorem dX1_hasDigits_19 : decode cX1_hasDigits 19 = .ok (.bipush 89, 2) := by decide +kernel
theorem dX1_hasDigits_21 : decode cX1_hasDigits 21 = .ok (.if_icmp .eq 9, 3) := by decide +kernel
theorem dX1_hasDigits_24 : decode cX1_hasDigits 24 = .ok (.iload_n 0, 1) := by decide +kernel
theorem dX1_hasDigits_25 : decode cX1_hasDigits 25 = .ok (.bipush 116, 2) := by decide +kernel
theorem dX1_hasDigits_27 : decode cX1_hasDigits 27 = .ok (.if_icmp .ne 7, 3) := by decide +kernel
theorem dX1_hasDigits_30 : decode cX1_hasDigits 30 = .ok (.iconst 1, 1) := by decide +kernel
theorem dX1_hasDigits_31 : decode cX1_hasDigits 31 = .ok (.goto 4, 3) := by decide +kernel
theorem dX1_hasDigits_34 : decode cX1_hasDigits 34 = .ok (.iconst 0, 1) := by decide +kernel
theorem dX1_hasDigits_35 : decode cX1_hasDigits 35 = .ok (.ireturn, 1) := by decide +kernel
theorem dX1_force_0 : decode cX1_force 0 = .ok (.aload_n 0, 1) := by decide +kernel
theorem dX1_force_1 : decode cX1_force 1 = .ok (.iconst 0, 1) := by decide +kernel
theorem dX1_force_2 : decode cX1_force 2 = .ok (.putfield 100, 3) := by decide +kernel
theorem dX1_force_5 : decode cX1_force 5 = .ok (.iload_n 1, 1) := by decide +kernel
theorem dX1_force_6 : decode cX1_force 6 = .ok (.invokestatic 194, 3) := by decide +kernel
theorem dX1_force_9 : decode cX1_force 9 = .ok (.ifCond .eq 8, 3) := by decide +kernel
theorem dX1_force_12 : decode cX1_force 12 = .ok (.bipush (-2), 2) := by decide +kernel
theorem dX1_force_14 : decode cX1_force 14 = .ok (.goto 8, 3) := by decide +kernel
theorem dX1_force_17 : decode cX1_force 17 = .ok (.aload_n 0, 1) := by decide +kernel
theorem dX1_force_18 : decode cX1_force 18 = .ok (.iload_n 1, 1) := by decide +kernel
theorem dX1_force_19 : decode cX1_force 19 = .ok (.invokevirtual 218, 3) := by decide +kernel
theorem dX1_force_22 : decode cX1_force 22 = .ok (.ireturn, 1) := by decide +kernel
theorem dX1_forceOf_0 : decode cX1_forceOf 0 = .ok (.bipush (-9), 2) := by decide +kernel
theorem dX1_forceOf_2 : decode cX1_forceOf 2 = .ok (.istore_n 2, 1) := by decide +kernel
theorem dX1_forceOf_3 : decode cX1_forceOf 3 = .ok (.iconst 0, 1) := by decide +kernel
theorem dX1_forceOf_4 : decode cX1_forceOf 4 = .ok (.istore_n 3, 1) := by decide +kernel
theorem dX1_forceOf_5 : decode cX1_forceOf 5 = .ok (.iload_n 3, 1) := by decide +kernel
theorem dX1_forceOf_6 : decode cX1_forceOf 6 = .ok (.aload_n 0, 1) := by decide +kernel
theorem dX1_forceOf_7 : decode cX1_forceOf 7 = .ok (.getfield 201, 3) := by decide +kernel
theorem dX1_forceOf_10 : decode cX1_forceOf 10 = .ok (.if_icmp .ge 68, 3) := by decide +kernel
theorem dX1_forceOf_13 : decode cX1_forceOf 13 = .ok (.aload_n 0, 1) := by decide +kernel
theorem dX1_forceOf_14 : decode cX1_forceOf 14 = .ok (.getfield 49, 3) := by decide +kernel
theorem dX1_forceOf_17 : decode cX1_forceOf 17 = .ok (.iload_n 3, 1) := by decide +kernel
theorem dX1_forceOf_18 : decode cX1_forceOf 18 = .ok (.iaload, 1) := by decide +kernel
theorem dX1_forceOf_19 : decode cX1_forceOf 19 = .ok (.iload_n 1, 1) := by decide +kernel
theorem dX1_forceOf_20 : decode cX1_forceOf 20 = .ok (.if_icmp .gt 17, 3) := by decide +kernel
theorem dX1_forceOf_23 : decode cX1_forceOf 23 = .ok (.aload_n 0, 1) := by decide +kernel
theorem dX1_forceOf_24 : decode cX1_forceOf 24 = .ok (.iload_n 3, 1) := by decide +kernel
theorem dX1_forceOf_25 : decode cX1_forceOf 25 = .ok (.invokevirtual 215, 3) := by decide +kernel
theorem dX1_forceOf_28 : decode cX1_forceOf 28 = .ok (.bipush (-9), 2) := by decide +kernel
theorem dX1_forceOf_30 : decode cX1_forceOf 30 = .ok (.if_icmp .ne 7, 3) := by decide +kernel
theorem dX1_forceOf_33 : decode cX1_forceOf 33 = .ok (.iconst 1, 1) := by decide +kernel
theorem dX1_forceOf_34 : decode cX1_forceOf 34 = .ok (.goto 4, 3) := by decide +kernel
theorem dX1_forceOf_37 : decode cX1_forceOf 37 = .ok (.iconst 0, 1) := by decide +kernel
theorem dX1_forceOf_38 : decode cX1_forceOf 38 = .ok (.istore 4, 2) := by decide +kernel
theorem dX1_forceOf_40 : decode cX1_forceOf 40 = .ok (.iload 4, 2) := by decide +kernel
theorem dX1_forceOf_42 : decode cX1_forceOf 42 = .ok (.ifCond .eq 28, 3) := by decide +kernel
theorem dX1_forceOf_45 : decode cX1_forceOf 45 = .ok (.iload_n 2, 1) := by decide +kernel
theorem dX1_forceOf_46 : decode cX1_forceOf 46 = .ok (.bipush (-9), 2) := by decide +kernel
theorem dX1_forceOf_48 : decode cX1_forceOf 48 = .ok (.if_icmp .eq 18, 3) := by decide +kernel
theorem dX1_forceOf_51 : decode cX1_forceOf 51 = .ok (.aload_n 0, 1) := by decide +kernel
theorem dX1_forceOf_52 : decode cX1_forceOf 52 = .ok (.getfield 49, 3) := by decide +kernel
theorem dX1_forceOf_55 : decode cX1_forceOf 55 = .ok (.iload_n 3, 1) := by decide +kernel
theorem dX1_forceOf_56 : decode cX1_forceOf 56 = .ok (.iaload, 1) := by decide +kernel
theorem dX1_forceOf_57 : decode cX1_forceOf 57 = .ok (.aload_n 0, 1) := by decide +kernel
theorem dX1_forceOf_58 : decode cX1_forceOf 58 = .ok (.getfield 49, 3) := by decide +kernel
theorem dX1_forceOf_61 : decode cX1_forceOf 61 = .ok (.iload_n 2, 1) := by decide +kernel
theorem dX1_forceOf_62 : decode cX1_forceOf 62 = .ok (.iaload, 1) := by decide +kernel
theorem dX1_forceOf_63 : decode cX1_forceOf 63 = .ok (.if_icmp .lt 7, 3) := by decide +kernel
theorem dX1_forceOf_66 : decode cX1_forceOf 66 = .ok (.iload_n 3, 1) := by decide +kernel
theorem dX1_forceOf_67 : decode cX1_forceOf 67 = .ok (.goto 4, 3) := by decide +kernel
theorem dX1_forceOf_70 : decode cX1_forceOf 70 = .ok (.iload_n 2, 1) := by decide +kernel
theorem dX1_forceOf_71 : decode cX1_forceOf 71 = .ok (.istore_n 2, 1) := by decide +kernel
theorem dX1_forceOf_72 : decode cX1_forceOf 72 = .ok (.iinc 3 1, 3) := by decide +kernel
theorem dX1_forceOf_75 : decode cX1_forceOf 75 = .ok (.goto (-70), 3) := by decide +kernel
theorem dX1_forceOf_78 : decode cX1_forceOf 78 = .ok (.iload_n 2, 1) := by decide +kernel
theorem dX1_forceOf_79 : decode cX1_forceOf 79 = .ok (.ireturn, 1) := by decide +kernel
theorem dX1_may_0 : decode cX1_may 0 = .ok (.aload_n 0, 1) := by decide +kernel
theorem dX1_may_1 : decode cX1_may 1 = .ok (.iconst 0, 1) := by decide +kernel
theorem dX1_may_2 : decode cX1_may 2 = .ok (.putfield 100, 3) := by decide +kernel
theorem dX1_may_5 : decode cX1_may 5 = .ok (.aload_n 0, 1) := by decide +kernel
theorem dX1_may_6 : decode cX1_may 6 = .ok (.iload_n 1, 1) := by decide +kernel
theorem dX1_may_7 : decode cX1_may 7 = .ok (.invokevirtual 144, 3) := by decide +kernel
theorem dX1_may_10 : decode cX1_may 10 = .ok (.ifCond .ne 17, 3) := by decide +kernel
theorem dX1_may_13 : decode cX1_may 13 = .ok (.iload_n 2, 1) := by decide +kernel
theorem dX1_may_14 : decode cX1_may 14 = .ok (.bipush (-9), 2) := by decide +kernel
theorem dX1_may_16 : decode cX1_may 16 = .ok (.if_icmp .eq 13, 3) := by decide +kernel
theorem dX1_may_19 : decode cX1_may 19 = .ok (.aload_n 0, 1) := by decide +kernel
theorem dX1_may_20 : decode cX1_may 20 = .ok (.iload_n 2, 1) := by decide +kernel
theorem dX1_may_21 : decode cX1_may 21 = .ok (.invokevirtual 191, 3) := by decide +kernel
theorem dX1_may_24 : decode cX1_may 24 = .ok (.ifCond .eq 5, 3) := by decide +kernel
theorem dX1_may_27 : decode cX1_may 27 = .ok (.iconst (-1), 1) := by decide +kernel
theorem dX1_may_28 : decode cX1_may 28 = .ok (.ireturn, 1) := by decide +kernel
theorem dX1_may_29 : decode cX1_may 29 = .ok (.aload_n 0, 1) := by decide +kernel
theorem dX1_may_30 : decode cX1_may 30 = .ok (.iload_n 1, 1) := by decide +kernel
theorem dX1_may_31 : decode cX1_may 31 = .ok (.iload_n 2, 1) := by decide +kernel
theorem dX1_may_32 : decode cX1_may 32 = .ok (.invokevirtual 229, 3) := by decide +kernel
theorem dX1_may_35 : decode cX1_may 35 = .ok (.ifCond .eq 7, 3) := by decide +kernel
theorem dX1_may_38 : decode cX1_may 38 = .ok (.iconst 1, 1) := by decide +kernel
theorem dX1_may_39 : decode cX1_may 39 = .ok (.goto 4, 3) := by decide +kernel
theorem dX1_may_42 : decode cX1_may 42 = .ok (.iconst 0, 1) := by decide +kernel
theorem dX1_may_43 : decode cX1_may 43 = .ok (.ireturn, 1) := by decide +kernel
theorem dX1_asShown_0 : decode cX1_asShown 0 = .ok (.aload_n 0, 1) := by decide +kernel
theorem dX1_asShown_1 : decode cX1_asShown 1 = .ok (.iload_n 1, 1) := by decide +kernel
theorem dX1_asShown_2 : decode cX1_asShown 2 = .ok (.iload_n 2, 1) := by decide +kernel
theorem dX1_asShown_3 : decode cX1_asShown 3 = .ok (.bipush (-9), 2) := by decide +kernel
theorem dX1_asShown_5 : decode cX1_asShown 5 = .ok (.if_icmp .eq 20, 3) := by decide +kernel
theorem dX1_asShown_8 : decode cX1_asShown 8 = .ok (.aload_n 0, 1) := by decide +kernel
theorem dX1_asShown_9 : decode cX1_asShown 9 = .ok (.iload_n 2, 1) := by decide +kernel
theorem dX1_asShown_10 : decode cX1_asShown 10 = .ok (.iload_n 1, 1) := by decide +kernel
theorem dX1_asShown_11 : decode cX1_asShown 11 = .ok (.aload_n 0, 1) := by decide +kernel
theorem dX1_asShown_12 : decode cX1_asShown 12 = .ok (.getfield 141, 3) := by decide +kernel
theorem dX1_asShown_15 : decode cX1_asShown 15 = .ok (.invokevirtual 197, 3) := by decide +kernel
theorem dX1_asShown_18 : decode cX1_asShown 18 = .ok (.ifCond .le 7, 3) := by decide +kernel
theorem dX1_asShown_21 : decode cX1_asShown 21 = .ok (.iconst 1, 1) := by decide +kernel
theorem dX1_asShown_22 : decode cX1_asShown 22 = .ok (.goto 4, 3) := by decide +kernel
theorem dX1_asShown_25 : decode cX1_asShown 25 = .ok (.iconst 0, 1) := by decide +kernel
theorem dX1_asShown_26 : decode cX1_asShown 26 = .ok (.invokevirtual 225, 3) := by decide +kernel
theorem dX1_asShown_29 : decode cX1_asShown 29 = .ok (.ireturn, 1) := by decide +kernel
theorem dX1_mayBe_0 : decode cX1_mayBe 0 = .ok (.aload_n 0, 1) := by decide +kernel
theorem dX1_mayBe_1 : decode cX1_mayBe 1 = .ok (.aload_n 0, 1) := by decide +kernel
theorem dX1_mayBe_2 : decode cX1_mayBe 2 = .ok (.getfield 141, 3) := by decide +kernel
theorem dX1_mayBe_5 : decode cX1_mayBe 5 = .ok (.invokevirtual 218, 3) := by decide +kernel
theorem dX1_mayBe_8 : decode cX1_mayBe 8 = .ok (.istore_n 3, 1) := by decide +kernel
theorem dX1_mayBe_9 : decode cX1_mayBe 9 = .ok (.iload_n 3, 1) := by decide +kernel
theorem dX1_mayBe_10 : decode cX1_mayBe 10 = .ok (.bipush (-9), 2) := by decide +kernel
theorem dX1_mayBe_12 : decode cX1_mayBe 12 = .ok (.if_icmp .ne 5, 3) := by decide +kernel
theorem dX1_mayBe_15 : decode cX1_mayBe 15 = .ok (.iconst 0, 1) := by decide +kernel
theorem dX1_mayBe_16 : decode cX1_mayBe 16 = .ok (.ireturn, 1) := by decide +kernel
theorem dX1_mayBe_17 : decode cX1_mayBe 17 = .ok (.iconst 0, 1) := by decide +kernel
theorem dX1_mayBe_18 : decode cX1_mayBe 18 = .ok (.istore 4, 2) := by decide +kernel
theorem dX1_mayBe_20 : decode cX1_mayBe 20 = .ok (.iconst 0, 1) := by decide +kernel
theorem dX1_mayBe_21 : decode cX1_mayBe 21 = .ok (.istore 5, 2) := by decide +kernel
theorem dX1_mayBe_23 : decode cX1_mayBe 23 = .ok (.aload_n 0, 1) := by decide +kernel
theorem dX1_mayBe_24 : decode cX1_mayBe 24 = .ok (.getfield 52, 3) := by decide +kernel
theorem dX1_mayBe_27 : decode cX1_mayBe 27 = .ok (.iload_n 3, 1) := by decide +kernel
theorem dX1_mayBe_28 : decode cX1_mayBe 28 = .ok (.iaload, 1) := by decide +kernel
theorem dX1_mayBe_29 : decode cX1_mayBe 29 = .ok (.iconst 1, 1) := by decide +kernel
theorem dX1_mayBe_30 : decode cX1_mayBe 30 = .ok (.isub, 1) := by decide +kernel
theorem dX1_mayBe_31 : decode cX1_mayBe 31 = .ok (.istore 6, 2) := by decide +kernel
theorem dX1_mayBe_33 : decode cX1_mayBe 33 = .ok (.iload 6, 2) := by decide +kernel
theorem dX1_mayBe_35 : decode cX1_mayBe 35 = .ok (.ifCond .lt 248, 3) := by decide +kernel
theorem dX1_mayBe_38 : decode cX1_mayBe 38 = .ok (.aload_n 0, 1) := by decide +kernel
theorem dX1_mayBe_39 : decode cX1_mayBe 39 = .ok (.getfield 55, 3) := by decide +kernel
theorem dX1_mayBe_42 : decode cX1_mayBe 42 = .ok (.bipush 60, 2) := by decide +kernel
theorem dX1_mayBe_44 : decode cX1_mayBe 44 = .ok (.iload_n 3, 1) := by decide +kernel
theorem dX1_mayBe_45 : decode cX1_mayBe 45 = .ok (.imul, 1) := by decide +kernel
theorem dX1_mayBe_46 : decode cX1_mayBe 46 = .ok (.iload 6, 2) := by decide +kernel
theorem dX1_mayBe_48 : decode cX1_mayBe 48 = .ok (.iadd, 1) := by decide +kernel
theorem dX1_mayBe_49 : decode cX1_mayBe 49 = .ok (.iaload, 1) := by decide +kernel
theorem dX1_mayBe_50 : decode cX1_mayBe 50 = .ok (.istore 7, 2) := by decide +kernel
theorem dX1_mayBe_52 : decode cX1_mayBe 52 = .ok (.iload 7, 2) := by decide +kernel
theorem dX1_mayBe_54 : decode cX1_mayBe 54 = .ok (.i2l, 1) := by decide +kernel
theorem dX1_mayBe_55 : decode cX1_mayBe 55 = .ok (.ldc2_w 208, 3) := by decide +kernel
theorem dX1_mayBe_58 : decode cX1_mayBe 58 = .ok (.ldc2_w 210, 3) := by decide +kernel
theorem dX1_mayBe_61 : decode cX1_mayBe 61 = .ok (.invokestatic 103, 3) := by decide +kernel
theorem dX1_mayBe_64 : decode cX1_mayBe 64 = .ok (.ifCond .eq 59, 3) := by decide +kernel
theorem dX1_mayBe_67 : decode cX1_mayBe 67 = .ok (.iload 6, 2) := by decide +kernel
theorem dX1_mayBe_69 : decode cX1_mayBe 69 = .ok (.ifCond .le 38, 3) := by decide +kernel
theorem dX1_mayBe_72 : decode cX1_mayBe 72 = .ok (.aload_n 0, 1) := by decide +kernel
theorem dX1_mayBe_73 : decode cX1_mayBe 73 = .ok (.getfield 55, 3) := by decide +kernel
theorem dX1_mayBe_76 : decode cX1_mayBe 76 = .ok (.bipush 60, 2) := by decide +kernel
theorem dX1_mayBe_78 : decode cX1_mayBe 78 = .ok (.iload_n 3, 1) := by decide +kernel
theorem dX1_mayBe_79 : decode cX1_mayBe 79 = .ok (.imul, 1) := by decide +kernel
theorem dX1_mayBe_80 : decode cX1_mayBe 80 = .ok (.iload 6, 2) := by decide +kernel
theorem dX1_mayBe_82 : decode cX1_mayBe 82 = .ok (.iadd, 1) := by decide +kernel
theorem dX1_mayBe_83 : decode cX1_mayBe 83 = .ok (.iconst 1, 1) := by decide +kernel
theorem dX1_mayBe_84 : decode cX1_mayBe 84 = .ok (.isub, 1) := by decide +kernel
theorem dX1_mayBe_85 : decode cX1_mayBe 85 = .ok (.iaload, 1) := by decide +kernel
theorem dX1_mayBe_86 : decode cX1_mayBe 86 = .ok (.i2l, 1) := by decide +kernel
theorem dX1_mayBe_87 : decode cX1_mayBe 87 = .ok (.ldc2_w 208, 3) := by decide +kernel
theorem dX1_mayBe_90 : decode cX1_mayBe 90 = .ok (.ldc2_w 210, 3) := by decide +kernel
theorem dX1_mayBe_93 : decode cX1_mayBe 93 = .ok (.invokestatic 103, 3) := by decide +kernel
theorem dX1_mayBe_96 : decode cX1_mayBe 96 = .ok (.ifCond .eq 11, 3) := by decide +kernel
theorem dX1_mayBe_99 : decode cX1_mayBe 99 = .ok (.iload 7, 2) := by decide +kernel
theorem dX1_mayBe_101 : decode cX1_mayBe 101 = .ok (.bipush 48, 2) := by decide +kernel
theorem dX1_mayBe_103 : decode cX1_mayBe 103 = .ok (.isub, 1) := by decide +kernel
theorem dX1_mayBe_104 : decode cX1_mayBe 104 = .ok (.goto 14, 3) := by decide +kernel
theorem dX1_mayBe_107 : decode cX1_mayBe 107 = .ok (.iload 5, 2) := by decide +kernel
theorem dX1_mayBe_109 : decode cX1_mayBe 109 = .ok (.bipush 10, 2) := by decide +kernel
theorem dX1_mayBe_111 : decode cX1_mayBe 111 = .ok (.iload 7, 2) := by decide +kernel
theorem dX1_mayBe_113 : decode cX1_mayBe 113 = .ok (.bipush 48, 2) := by decide +kernel
theorem dX1_mayBe_115 : decode cX1_mayBe 115 = .ok (.isub, 1) := by decide +kernel
theorem dX1_mayBe_116 : decode cX1_mayBe 116 = .ok (.imul, 1) := by decide +kernel
theorem dX1_mayBe_117 : decode cX1_mayBe 117 = .ok (.iadd, 1) := by decide +kernel
theorem dX1_mayBe_118 : decode cX1_mayBe 118 = .ok (.istore 5, 2) := by decide +kernel
theorem dX1_mayBe_120 : decode cX1_mayBe 120 = .ok (.goto 157, 3) := by decide +kernel
theorem dX1_mayBe_123 : decode cX1_mayBe 123 = .ok (.iload 7, 2) := by decide +kernel
theorem dX1_mayBe_125 : decode cX1_mayBe 125 = .ok (.bipush 33, 2) := by decide +kernel
theorem dX1_mayBe_127 : decode cX1_mayBe 127 = .ok (.if_icmp .ne 32, 3) := by decide +kernel
theorem dX1_mayBe_130 : decode cX1_mayBe 130 = .ok (.aload_n 0, 1) := by decide +kernel
theorem dX1_mayBe_131 : decode cX1_mayBe 131 = .ok (.getfield 58, 3) := by decide +kernel
theorem dX1_mayBe_134 : decode cX1_mayBe 134 = .ok (.iload 4, 2) := by decide +kernel
theorem dX1_mayBe_136 : decode cX1_mayBe 136 = .ok (.iconst 1, 1) := by decide +kernel
theorem dX1_mayBe_137 : decode cX1_mayBe 137 = .ok (.isub, 1) := by decide +kernel
theorem dX1_mayBe_138 : decode cX1_mayBe 138 = .ok (.aload_n 0, 1) := by decide +kernel
theorem dX1_mayBe_139 : decode cX1_mayBe 139 = .ok (.getfield 58, 3) := by decide +kernel
theorem dX1_mayBe_142 : decode cX1_mayBe 142 = .ok (.iload 4, 2) := by decide +kernel
theorem dX1_mayBe_144 : decode cX1_mayBe 144 = .ok (.iconst 1, 1) := by decide +kernel
theorem dX1_mayBe_145 : decode cX1_mayBe 145 = .ok (.isub, 1) := by decide +kernel
theorem dX1_mayBe_146 : decode cX1_mayBe 146 = .ok (.baload, 1) := by decide +kernel
theorem dX1_mayBe_147 : decode cX1_mayBe 147 = .ok (.ifCond .ne 7, 3) := by decide +kernel
theorem dX1_mayBe_150 : decode cX1_mayBe 150 = .ok (.iconst 1, 1) := by decide +kernel
theorem dX1_mayBe_151 : decode cX1_mayBe 151 = .ok (.goto 4, 3) := by decide +kernel
theorem dX1_mayBe_154 : decode cX1_mayBe 154 = .ok (.iconst 0, 1) := by decide +kernel
theorem dX1_mayBe_155 : decode cX1_mayBe 155 = .ok (.bastore, 1) := by decide +kernel
theorem dX1_mayBe_156 : decode cX1_mayBe 156 = .ok (.goto 121, 3) := by decide +kernel
theorem dX1_mayBe_159 : decode cX1_mayBe 159 = .ok (.iload 7, 2) := by decide +kernel
theorem dX1_mayBe_161 : decode cX1_mayBe 161 = .ok (.bipush 38, 2) := by decide +kernel
theorem dX1_mayBe_163 : decode cX1_mayBe 163 = .ok (.if_icmp .ne 45, 3) := by decide +kernel
theorem dX1_mayBe_166 : decode cX1_mayBe 166 = .ok (.iinc 4 (-1), 3) := by decide +kernel
theorem dX1_mayBe_169 : decode cX1_mayBe 169 = .ok (.aload_n 0, 1) := by decide +kernel
theorem dX1_mayBe_170 : decode cX1_mayBe 170 = .ok (.getfield 58, 3) := by decide +kernel
theorem dX1_mayBe_173 : decode cX1_mayBe 173 = .ok (.iload 4, 2) := by decide +kernel
theorem dX1_mayBe_175 : decode cX1_mayBe 175 = .ok (.iconst 1, 1) := by decide +kernel
theorem dX1_mayBe_176 : decode cX1_mayBe 176 = .ok (.isub, 1) := by decide +kernel
theorem dX1_mayBe_177 : decode cX1_mayBe 177 = .ok (.aload_n 0, 1) := by decide +kernel
theorem dX1_mayBe_178 : decode cX1_mayBe 178 = .ok (.getfield 58, 3) := by decide +kernel
theorem dX1_mayBe_181 : decode cX1_mayBe 181 = .ok (.iload 4, 2) := by decide +kernel
theorem dX1_mayBe_183 : decode cX1_mayBe 183 = .ok (.baload, 1) := by decide +kernel
theorem dX1_mayBe_184 : decode cX1_mayBe 184 = .ok (.ifCond .eq 19, 3) := by decide +kernel
theorem dX1_mayBe_187 : decode cX1_mayBe 187 = .ok (.aload_n 0, 1) := by decide +kernel
theorem dX1_mayBe_188 : decode cX1_mayBe 188 = .ok (.getfield 58, 3) := by decide +kernel
theorem dX1_mayBe_191 : decode cX1_mayBe 191 = .ok (.iload 4, 2) := by decide +kernel
theorem dX1_mayBe_193 : decode cX1_mayBe 193 = .ok (.iconst 1, 1) := by decide +kernel
theorem dX1_mayBe_194 : decode cX1_mayBe 194 = .ok (.isub, 1) := by decide +kernel
theorem dX1_mayBe_195 : decode cX1_mayBe 195 = .ok (.baload, 1) := by decide +kernel
theorem dX1_mayBe_196 : decode cX1_mayBe 196 = .ok (.ifCond .eq 7, 3) := by decide +kernel
theorem dX1_mayBe_199 : decode cX1_mayBe 199 = .ok (.iconst 1, 1) := by decide +kernel
theorem dX1_mayBe_200 : decode cX1_mayBe 200 = .ok (.goto 4, 3) := by decide +kernel
theorem dX1_mayBe_203 : decode cX1_mayBe 203 = .ok (.iconst 0, 1) := by decide +kernel
theorem dX1_mayBe_204 : decode cX1_mayBe 204 = .ok (.bastore, 1) := by decide +kernel
theorem dX1_mayBe_205 : decode cX1_mayBe 205 = .ok (.goto 72, 3) := by decide +kernel
theorem dX1_mayBe_208 : decode cX1_mayBe 208 = .ok (.iload 7, 2) := by decide +kernel
theorem dX1_mayBe_210 : decode cX1_mayBe 210 = .ok (.bipush 124, 2) := by decide +kernel
theorem dX1_mayBe_212 : decode cX1_mayBe 212 = .ok (.if_icmp .ne 45, 3) := by decide +kernel
theorem dX1_mayBe_215 : decode cX1_mayBe 215 = .ok (.iinc 4 (-1), 3) := by decide +kernel
theorem dX1_mayBe_218 : decode cX1_mayBe 218 = .ok (.aload_n 0, 1) := by decide +kernel
theorem dX1_mayBe_219 : decode cX1_mayBe 219 = .ok (.getfield 58, 3) := by decide +kernel
theorem dX1_mayBe_222 : decode cX1_mayBe 222 = .ok (.iload 4, 2) := by decide +kernel
theorem dX1_mayBe_224 : decode cX1_mayBe 224 = .ok (.iconst 1, 1) := by decide +kernel
theorem dX1_mayBe_225 : decode cX1_mayBe 225 = .ok (.isub, 1) := by decide +kernel
theorem dX1_mayBe_226 : decode cX1_mayBe 226 = .ok (.aload_n 0, 1) := by decide +kernel
theorem dX1_mayBe_227 : decode cX1_mayBe 227 = .ok (.getfield 58, 3) := by decide +kernel
theorem dX1_mayBe_230 : decode cX1_mayBe 230 = .ok (.iload 4, 2) := by decide +kernel
theorem dX1_mayBe_232 : decode cX1_mayBe 232 = .ok (.baload, 1) := by decide +kernel
theorem dX1_mayBe_233 : decode cX1_mayBe 233 = .ok (.ifCond .ne 15, 3) := by decide +kernel
theorem dX1_mayBe_236 : decode cX1_mayBe 236 = .ok (.aload_n 0, 1) := by decide +kernel
theorem dX1_mayBe_237 : decode cX1_mayBe 237 = .ok (.getfield 58, 3) := by decide +kernel
theorem dX1_mayBe_240 : decode cX1_mayBe 240 = .ok (.iload 4, 2) := by decide +kernel
theorem dX1_mayBe_242 : decode cX1_mayBe 242 = .ok (.iconst 1, 1) := by decide +kernel
theorem dX1_mayBe_243 : decode cX1_mayBe 243 = .ok (.isub, 1) := by decide +kernel
theorem dX1_mayBe_244 : decode cX1_mayBe 244 = .ok (.baload, 1) := by decide +kernel
theorem dX1_mayBe_245 : decode cX1_mayBe 245 = .ok (.ifCond .eq 7, 3) := by decide +kernel
theorem dX1_mayBe_248 : decode cX1_mayBe 248 = .ok (.iconst 1, 1) := by decide +kernel
theorem dX1_mayBe_249 : decode cX1_mayBe 249 = .ok (.goto 4, 3) := by decide +kernel
theorem dX1_mayBe_252 : decode cX1_mayBe 252 = .ok (.iconst 0, 1) := by decide +kernel
theorem dX1_mayBe_253 : decode cX1_mayBe 253 = .ok (.bastore, 1) := by decide +kernel
theorem dX1_mayBe_254 : decode cX1_mayBe 254 = .ok (.goto 23, 3) := by decide +kernel
theorem dX1_mayBe_257 : decode cX1_mayBe 257 = .ok (.aload_n 0, 1) := by decide +kernel
theorem dX1_mayBe_258 : decode cX1_mayBe 258 = .ok (.getfield 58, 3) := by decide +kernel
theorem dX1_mayBe_261 : decode cX1_mayBe 261 = .ok (.iload 4, 2) := by decide +kernel
theorem dX1_mayBe_263 : decode cX1_mayBe 263 = .ok (.aload_n 0, 1) := by decide +kernel
theorem dX1_mayBe_264 : decode cX1_mayBe 264 = .ok (.iload 7, 2) := by decide +kernel
theorem dX1_mayBe_266 : decode cX1_mayBe 266 = .ok (.iload 5, 2) := by decide +kernel
theorem dX1_mayBe_268 : decode cX1_mayBe 268 = .ok (.iload_n 1, 1) := by decide +kernel
theorem dX1_mayBe_269 : decode cX1_mayBe 269 = .ok (.iload_n 2, 1) := by decide +kernel
theorem dX1_mayBe_270 : decode cX1_mayBe 270 = .ok (.invokevirtual 221, 3) := by decide +kernel
theorem dX1_mayBe_273 : decode cX1_mayBe 273 = .ok (.bastore, 1) := by decide +kernel
theorem dX1_mayBe_274 : decode cX1_mayBe 274 = .ok (.iinc 4 1, 3) := by decide +kernel
theorem dX1_mayBe_277 : decode cX1_mayBe 277 = .ok (.iinc 6 (-1), 3) := by decide +kernel
theorem dX1_mayBe_280 : decode cX1_mayBe 280 = .ok (.goto (-247), 3) := by decide +kernel
theorem dX1_mayBe_283 : decode cX1_mayBe 283 = .ok (.aload_n 0, 1) := by decide +kernel
theorem dX1_mayBe_284 : decode cX1_mayBe 284 = .ok (.getfield 58, 3) := by decide +kernel
theorem dX1_mayBe_287 : decode cX1_mayBe 287 = .ok (.iconst 0, 1) := by decide +kernel
theorem dX1_mayBe_288 : decode cX1_mayBe 288 = .ok (.baload, 1) := by decide +kernel
theorem dX1_mayBe_289 : decode cX1_mayBe 289 = .ok (.ireturn, 1) := by decide +kernel
theorem dX1_test_0 : decode cX1_test 0 = .ok (.iload_n 1, 1) := by decide +kernel
theorem dX1_test_1 : decode cX1_test 1 = .ok (.lookupswitch 180 #[(65, 86), (89, 126), (97, 67), (112, 168), (115, 171), (116, 147), (121, 105)], 67) := by decide +kernel
theorem dX1_test_68 : decode cX1_test 68 = .ok (.aload_n 0, 1) := by decide +kernel
theorem dX1_test_69 : decode cX1_test 69 = .ok (.getfield 21, 3) := by decide +kernel
theorem dX1_test_72 : decode cX1_test 72 = .ok (.bipush 8, 2) := by decide +kernel
theorem dX1_test_74 : decode cX1_test 74 = .ok (.iload_n 3, 1) := by decide +kernel
theorem dX1_test_75 : decode cX1_test 75 = .ok (.imul, 1) := by decide +kernel
theorem dX1_test_76 : decode cX1_test 76 = .ok (.iaload, 1) := by decide +kernel
theorem dX1_test_77 : decode cX1_test 77 = .ok (.iload_n 2, 1) := by decide +kernel
theorem dX1_test_78 : decode cX1_test 78 = .ok (.if_icmp .lt 7, 3) := by decide +kernel
theorem dX1_test_81 : decode cX1_test 81 = .ok (.iconst 1, 1) := by decide +kernel
theorem dX1_test_82 : decode cX1_test 82 = .ok (.goto 4, 3) := by decide +kernel
theorem dX1_test_85 : decode cX1_test 85 = .ok (.iconst 0, 1) := by decide +kernel
theorem dX1_test_86 : decode cX1_test 86 = .ok (.ireturn, 1) := by decide +kernel
theorem dX1_test_87 : decode cX1_test 87 = .ok (.aload_n 0, 1) := by decide +kernel
theorem dX1_test_88 : decode cX1_test 88 = .ok (.getfield 21, 3) := by decide +kernel
theorem dX1_test_91 : decode cX1_test 91 = .ok (.bipush 8, 2) := by decide +kernel
theorem dX1_test_93 : decode cX1_test 93 = .ok (.iload_n 3, 1) := by decide +kernel
theorem dX1_test_94 : decode cX1_test 94 = .ok (.imul, 1) := by decide +kernel
theorem dX1_test_95 : decode cX1_test 95 = .ok (.iaload, 1) := by decide +kernel
theorem dX1_test_96 : decode cX1_test 96 = .ok (.iload_n 2, 1) := by decide +kernel
theorem dX1_test_97 : decode cX1_test 97 = .ok (.if_icmp .ge 7, 3) := by decide +kernel
theorem dX1_test_100 : decode cX1_test 100 = .ok (.iconst 1, 1) := by decide +kernel
theorem dX1_test_101 : decode cX1_test 101 = .ok (.goto 4, 3) := by decide +kernel
theorem dX1_test_104 : decode cX1_test 104 = .ok (.iconst 0, 1) := by decide +kernel
theorem dX1_test_105 : decode cX1_test 105 = .ok (.ireturn, 1) := by decide +kernel
theorem dX1_test_106 : decode cX1_test 106 = .ok (.aload_n 0, 1) := by decide +kernel
theorem dX1_test_107 : decode cX1_test 107 = .ok (.getfield 21, 3) := by decide +kernel
theorem dX1_test_110 : decode cX1_test 110 = .ok (.bipush 8, 2) := by decide +kernel
theorem dX1_test_112 : decode cX1_test 112 = .ok (.iload_n 3, 1) := by decide +kernel
theorem dX1_test_113 : decode cX1_test 113 = .ok (.imul, 1) := by decide +kernel
theorem dX1_test_114 : decode cX1_test 114 = .ok (.iconst 5, 1) := by decide +kernel
theorem dX1_test_115 : decode cX1_test 115 = .ok (.iadd, 1) := by decide +kernel
theorem dX1_test_116 : decode cX1_test 116 = .ok (.iaload, 1) := by decide +kernel
theorem dX1_test_117 : decode cX1_test 117 = .ok (.iload_n 2, 1) := by decide +kernel
theorem dX1_test_118 : decode cX1_test 118 = .ok (.if_icmp .lt 7, 3) := by decide +kernel
theorem dX1_test_121 : decode cX1_test 121 = .ok (.iconst 1, 1) := by decide +kernel
theorem dX1_test_122 : decode cX1_test 122 = .ok (.goto 4, 3) := by decide +kernel
theorem dX1_test_125 : decode cX1_test 125 = .ok (.iconst 0, 1) := by decide +kernel
theorem dX1_test_126 : decode cX1_test 126 = .ok (.ireturn, 1) := by decide +kernel
theorem dX1_test_127 : decode cX1_test 127 = .ok (.aload_n 0, 1) := by decide +kernel
theorem dX1_test_128 : decode cX1_test 128 = .ok (.getfield 21, 3) := by decide +kernel
theorem dX1_test_131 : decode cX1_test 131 = .ok (.bipush 8, 2) := by decide +kernel
theorem dX1_test_133 : decode cX1_test 133 = .ok (.iload_n 3, 1) := by decide +kernel
theorem dX1_test_134 : decode cX1_test 134 = .ok (.imul, 1) := by decide +kernel
theorem dX1_test_135 : decode cX1_test 135 = .ok (.iconst 5, 1) := by decide +kernel
theorem dX1_test_136 : decode cX1_test 136 = .ok (.iadd, 1) := by decide +kernel
theorem dX1_test_137 : decode cX1_test 137 = .ok (.iaload, 1) := by decide +kernel
theorem dX1_test_138 : decode cX1_test 138 = .ok (.iload_n 2, 1) := by decide +kernel
theorem dX1_test_139 : decode cX1_test 139 = .ok (.if_icmp .ge 7, 3) := by decide +kernel
theorem dX1_test_142 : decode cX1_test 142 = .ok (.iconst 1, 1) := by decide +kernel
theorem dX1_test_143 : decode cX1_test 143 = .ok (.goto 4, 3) := by decide +kernel
theorem dX1_test_146 : decode cX1_test 146 = .ok (.iconst 0, 1) := by decide +kernel
theorem dX1_test_147 : decode cX1_test 147 = .ok (.ireturn, 1) := by decide +kernel
theorem dX1_test_148 : decode cX1_test 148 = .ok (.aload_n 0, 1) := by decide +kernel
theorem dX1_test_149 : decode cX1_test 149 = .ok (.getfield 21, 3) := by decide +kernel
theorem dX1_test_152 : decode cX1_test 152 = .ok (.bipush 8, 2) := by decide +kernel
theorem dX1_test_154 : decode cX1_test 154 = .ok (.iload_n 3, 1) := by decide +kernel
theorem dX1_test_155 : decode cX1_test 155 = .ok (.imul, 1) := by decide +kernel
theorem dX1_test_156 : decode cX1_test 156 = .ok (.iconst 4, 1) := by decide +kernel
theorem dX1_test_157 : decode cX1_test 157 = .ok (.iadd, 1) := by decide +kernel
theorem dX1_test_158 : decode cX1_test 158 = .ok (.iaload, 1) := by decide +kernel
theorem dX1_test_159 : decode cX1_test 159 = .ok (.iload_n 2, 1) := by decide +kernel
theorem dX1_test_160 : decode cX1_test 160 = .ok (.if_icmp .ne 7, 3) := by decide +kernel
theorem dX1_test_163 : decode cX1_test 163 = .ok (.iconst 1, 1) := by decide +kernel
theorem dX1_test_164 : decode cX1_test 164 = .ok (.goto 4, 3) := by decide +kernel
theorem dX1_test_167 : decode cX1_test 167 = .ok (.iconst 0, 1) := by decide +kernel
theorem dX1_test_168 : decode cX1_test 168 = .ok (.ireturn, 1) := by decide +kernel
theorem dX1_test_169 : decode cX1_test 169 = .ok (.iload 4, 2) := by decide +kernel
theorem dX1_test_171 : decode cX1_test 171 = .ok (.ireturn, 1) := by decide +kernel
theorem dX1_test_172 : decode cX1_test 172 = .ok (.aload_n 0, 1) := by decide +kernel
theorem dX1_test_173 : decode cX1_test 173 = .ok (.iload_n 3, 1) := by decide +kernel
theorem dX1_test_174 : decode cX1_test 174 = .ok (.invokevirtual 154, 3) := by decide +kernel
theorem dX1_test_177 : decode cX1_test 177 = .ok (.invokestatic 151, 3) := by decide +kernel
theorem dX1_test_180 : decode cX1_test 180 = .ok (.ireturn, 1) := by decide +kernel
theorem dX1_test_181 : decode cX1_test 181 = .ok (.aload_n 0, 1) := by decide +kernel
theorem dX1_test_182 : decode cX1_test 182 = .ok (.iload_n 3, 1) := by decide +kernel
theorem dX1_test_183 : decode cX1_test 183 = .ok (.invokevirtual 154, 3) := by decide +kernel
theorem dX1_test_186 : decode cX1_test 186 = .ok (.aload_n 0, 1) := by decide +kernel
theorem dX1_test_187 : decode cX1_test 187 = .ok (.getfield 21, 3) := by decide +kernel
theorem dX1_test_190 : decode cX1_test 190 = .ok (.bipush 8, 2) := by decide +kernel
theorem dX1_test_192 : decode cX1_test 192 = .ok (.iload_n 3, 1) := by decide +kernel
theorem dX1_test_193 : decode cX1_test 193 = .ok (.imul, 1) := by decide +kernel
theorem dX1_test_194 : decode cX1_test 194 = .ok (.bipush 6, 2) := by decide +kernel
theorem dX1_test_196 : decode cX1_test 196 = .ok (.iadd, 1) := by decide +kernel
theorem dX1_test_197 : decode cX1_test 197 = .ok (.iaload, 1) := by decide +kernel
theorem dX1_test_198 : decode cX1_test 198 = .ok (.if_icmp .ne 7, 3) := by decide +kernel
theorem dX1_test_201 : decode cX1_test 201 = .ok (.iconst 1, 1) := by decide +kernel
theorem dX1_test_202 : decode cX1_test 202 = .ok (.goto 4, 3) := by decide +kernel
theorem dX1_test_205 : decode cX1_test 205 = .ok (.iconst 0, 1) := by decide +kernel
theorem dX1_test_206 : decode cX1_test 206 = .ok (.ireturn, 1) := by decide +kernel
theorem dX1_isAboard_0 : decode cX1_isAboard 0 = .ok (.iload_n 0, 1) := by decide +kernel
theorem dX1_isAboard_1 : decode cX1_isAboard 1 = .ok (.i2l, 1) := by decide +kernel
theorem dX1_isAboard_2 : decode cX1_isAboard 2 = .ok (.ldc2_w 127, 3) := by decide +kernel
theorem dX1_isAboard_5 : decode cX1_isAboard 5 = .ok (.ldc2_w 149, 3) := by decide +kernel
theorem dX1_isAboard_8 : decode cX1_isAboard 8 = .ok (.invokestatic 103, 3) := by decide +kernel
theorem dX1_isAboard_11 : decode cX1_isAboard 11 = .ok (.ireturn, 1) := by decide +kernel
theorem dX1_mayTruly_0 : decode cX1_mayTruly 0 = .ok (.aload_n 0, 1) := by decide +kernel
theorem dX1_mayTruly_1 : decode cX1_mayTruly 1 = .ok (.iconst 0, 1) := by decide +kernel
theorem dX1_mayTruly_2 : decode cX1_mayTruly 2 = .ok (.putfield 100, 3) := by decide +kernel
theorem dX1_mayTruly_5 : decode cX1_mayTruly 5 = .ok (.aload_n 0, 1) := by decide +kernel
theorem dX1_mayTruly_6 : decode cX1_mayTruly 6 = .ok (.iload_n 1, 1) := by decide +kernel
theorem dX1_mayTruly_7 : decode cX1_mayTruly 7 = .ok (.invokevirtual 144, 3) := by decide +kernel
theorem dX1_mayTruly_10 : decode cX1_mayTruly 10 = .ok (.ifCond .eq 7, 3) := by decide +kernel
theorem dX1_mayTruly_13 : decode cX1_mayTruly 13 = .ok (.iconst (-1), 1) := by decide +kernel
theorem dX1_mayTruly_14 : decode cX1_mayTruly 14 = .ok (.goto 16, 3) := by decide +kernel
theorem dX1_mayTruly_17 : decode cX1_mayTruly 17 = .ok (.aload_n 0, 1) := by decide +kernel
theorem dX1_mayTruly_18 : decode cX1_mayTruly 18 = .ok (.iload_n 1, 1) := by decide +kernel
theorem dX1_mayTruly_19 : decode cX1_mayTruly 19 = .ok (.invokevirtual 233, 3) := by decide +kernel
theorem dX1_mayTruly_22 : decode cX1_mayTruly 22 = .ok (.ifCond .eq 7, 3) := by decide +kernel
theorem dX1_mayTruly_25 : decode cX1_mayTruly 25 = .ok (.iconst 1, 1) := by decide +kernel
theorem dX1_mayTruly_26 : decode cX1_mayTruly 26 = .ok (.goto 4, 3) := by decide +kernel
theorem dX1_mayTruly_29 : decode cX1_mayTruly 29 = .ok (.iconst 0, 1) := by decide +kernel
theorem dX1_mayTruly_30 : decode cX1_mayTruly 30 = .ok (.ireturn, 1) := by decide +kernel
theorem dX1_truly_0 : decode cX1_truly 0 = .ok (.iconst 0, 1) := by decide +kernel
theorem dX1_truly_1 : decode cX1_truly 1 = .ok (.istore_n 2, 1) := by decide +kernel
theorem dX1_truly_2 : decode cX1_truly 2 = .ok (.iconst 0, 1) := by decide +kernel
theorem dX1_truly_3 : decode cX1_truly 3 = .ok (.istore_n 3, 1) := by decide +kernel
theorem dX1_truly_4 : decode cX1_truly 4 = .ok (.iload_n 3, 1) := by decide +kernel
theorem dX1_truly_5 : decode cX1_truly 5 = .ok (.aload_n 0, 1) := by decide +kernel
theorem dX1_truly_6 : decode cX1_truly 6 = .ok (.getfield 113, 3) := by decide +kernel
theorem dX1_truly_9 : decode cX1_truly 9 = .ok (.if_icmp .ge 45, 3) := by decide +kernel
theorem dX1_truly_12 : decode cX1_truly 12 = .ok (.iload_n 2, 1) := by decide +kernel
theorem dX1_truly_13 : decode cX1_truly 13 = .ok (.ifCond .ne 29, 3) := by decide +kernel
theorem dX1_truly_16 : decode cX1_truly 16 = .ok (.aload_n 0, 1) := by decide +kernel
theorem dX1_truly_17 : decode cX1_truly 17 = .ok (.getfield 46, 3) := by decide +kernel
theorem dX1_truly_20 : decode cX1_truly 20 = .ok (.bipush 9, 2) := by decide +kernel
theorem dX1_truly_22 : decode cX1_truly 22 = .ok (.iload_n 3, 1) := by decide +kernel
theorem dX1_truly_23 : decode cX1_truly 23 = .ok (.imul, 1) := by decide +kernel
theorem dX1_truly_24 : decode cX1_truly 24 = .ok (.iaload, 1) := by decide +kernel
theorem dX1_truly_25 : decode cX1_truly 25 = .ok (.iload_n 1, 1) := by decide +kernel
theorem dX1_truly_26 : decode cX1_truly 26 = .ok (.if_icmp .ne 20, 3) := by decide +kernel
theorem dX1_truly_29 : decode cX1_truly 29 = .ok (.aload_n 0, 1) := by decide +kernel
theorem dX1_truly_30 : decode cX1_truly 30 = .ok (.iload_n 3, 1) := by decide +kernel
theorem dX1_truly_31 : decode cX1_truly 31 = .ok (.iload_n 1, 1) := by decide +kernel
theorem dX1_truly_32 : decode cX1_truly 32 = .ok (.aload_n 0, 1) := by decide +kernel
theorem dX1_truly_33 : decode cX1_truly 33 = .ok (.getfield 141, 3) := by decide +kernel
theorem dX1_truly_36 : decode cX1_truly 36 = .ok (.invokevirtual 197, 3) := by decide +kernel
theorem dX1_truly_39 : decode cX1_truly 39 = .ok (.ifCond .le 7, 3) := by decide +kernel
theorem dX1_truly_42 : decode cX1_truly 42 = .ok (.iconst 1, 1) := by decide +kernel
theorem dX1_truly_43 : decode cX1_truly 43 = .ok (.goto 4, 3) := by decide +kernel
theorem dX1_truly_46 : decode cX1_truly 46 = .ok (.iconst 0, 1) := by decide +kernel
theorem dX1_truly_47 : decode cX1_truly 47 = .ok (.istore_n 2, 1) := by decide +kernel
theorem dX1_truly_48 : decode cX1_truly 48 = .ok (.iinc 3 1, 3) := by decide +kernel
theorem dX1_truly_51 : decode cX1_truly 51 = .ok (.goto (-47), 3) := by decide +kernel
theorem dX1_truly_54 : decode cX1_truly 54 = .ok (.aload_n 0, 1) := by decide +kernel
theorem dX1_truly_55 : decode cX1_truly 55 = .ok (.iload_n 1, 1) := by decide +kernel
theorem dX1_truly_56 : decode cX1_truly 56 = .ok (.iload_n 2, 1) := by decide +kernel
theorem dX1_truly_57 : decode cX1_truly 57 = .ok (.invokevirtual 225, 3) := by decide +kernel
theorem dX1_truly_60 : decode cX1_truly 60 = .ok (.ireturn, 1) := by decide +kernel
theorem dX1_take_0 : decode cX1_take 0 = .ok (.aload_n 0, 1) := by decide +kernel
theorem dX1_take_1 : decode cX1_take 1 = .ok (.iconst 0, 1) := by decide +kernel
theorem dX1_take_2 : decode cX1_take 2 = .ok (.putfield 100, 3) := by decide +kernel
theorem dX1_take_5 : decode cX1_take 5 = .ok (.aload_n 0, 1) := by decide +kernel
theorem dX1_take_6 : decode cX1_take 6 = .ok (.iload_n 1, 1) := by decide +kernel
theorem dX1_take_7 : decode cX1_take 7 = .ok (.invokevirtual 144, 3) := by decide +kernel
theorem dX1_take_10 : decode cX1_take 10 = .ok (.ifCond .ne 17, 3) := by decide +kernel
theorem dX1_take_13 : decode cX1_take 13 = .ok (.iload_n 2, 1) := by decide +kernel
theorem dX1_take_14 : decode cX1_take 14 = .ok (.bipush (-9), 2) := by decide +kernel
theorem dX1_take_16 : decode cX1_take 16 = .ok (.if_icmp .eq 13, 3) := by decide +kernel
theorem dX1_take_19 : decode cX1_take 19 = .ok (.aload_n 0, 1) := by decide +kernel
theorem dX1_take_20 : decode cX1_take 20 = .ok (.iload_n 2, 1) := by decide +kernel
theorem dX1_take_21 : decode cX1_take 21 = .ok (.invokevirtual 191, 3) := by decide +kernel
theorem dX1_take_24 : decode cX1_take 24 = .ok (.ifCond .eq 5, 3) := by decide +kernel
theorem dX1_take_27 : decode cX1_take 27 = .ok (.iconst (-1), 1) := by decide +kernel
theorem dX1_take_28 : decode cX1_take 28 = .ok (.ireturn, 1) := by decide +kernel
theorem dX1_take_29 : decode cX1_take 29 = .ok (.aload_n 0, 1) := by decide +kernel
theorem dX1_take_30 : decode cX1_take 30 = .ok (.iload_n 1, 1) := by decide +kernel
theorem dX1_take_31 : decode cX1_take 31 = .ok (.invokevirtual 154, 3) := by decide +kernel
theorem dX1_take_34 : decode cX1_take 34 = .ok (.istore_n 3, 1) := by decide +kernel
theorem dX1_take_35 : decode cX1_take 35 = .ok (.iload_n 3, 1) := by decide +kernel
theorem dX1_take_36 : decode cX1_take 36 = .ok (.invokestatic 171, 3) := by decide +kernel
theorem dX1_take_39 : decode cX1_take 39 = .ok (.ifCond .ne 27, 3) := by decide +kernel
theorem dX1_take_42 : decode cX1_take 42 = .ok (.aload_n 0, 1) := by decide +kernel
theorem dX1_take_43 : decode cX1_take 43 = .ok (.iload_n 3, 1) := by decide +kernel
theorem dX1_take_44 : decode cX1_take 44 = .ok (.invokevirtual 236, 3) := by decide +kernel
theorem dX1_take_47 : decode cX1_take 47 = .ok (.ifCond .eq 16, 3) := by decide +kernel
theorem dX1_take_50 : decode cX1_take 50 = .ok (.aload_n 0, 1) := by decide +kernel
theorem dX1_take_51 : decode cX1_take 51 = .ok (.getfield 31, 3) := by decide +kernel
theorem dX1_take_54 : decode cX1_take 54 = .ok (.iload_n 3, 1) := by decide +kernel
theorem dX1_take_55 : decode cX1_take 55 = .ok (.bipush 10, 2) := by decide +kernel
theorem dX1_take_57 : decode cX1_take 57 = .ok (.isub, 1) := by decide +kernel
theorem dX1_take_58 : decode cX1_take 58 = .ok (.iaload, 1) := by decide +kernel
theorem dX1_take_59 : decode cX1_take 59 = .ok (.iconst 1, 1) := by decide +kernel
theorem dX1_take_60 : decode cX1_take 60 = .ok (.if_icmp .eq 6, 3) := by decide +kernel
theorem dX1_take_63 : decode cX1_take 63 = .ok (.bipush (-3), 2) := by decide +kernel
theorem dX1_take_65 : decode cX1_take 65 = .ok (.ireturn, 1) := by decide +kernel
theorem dX1_take_66 : decode cX1_take 66 = .ok (.aload_n 0, 1) := by decide +kernel
theorem dX1_take_67 : decode cX1_take 67 = .ok (.getfield 168, 3) := by decide +kernel
theorem dX1_take_70 : decode cX1_take 70 = .ok (.bipush 60, 2) := by decide +kernel
theorem dX1_take_72 : decode cX1_take 72 = .ok (.if_icmp .ne 6, 3) := by decide +kernel
theorem dX1_take_75 : decode cX1_take 75 = .ok (.bipush (-4), 2) := by decide +kernel
theorem dX1_take_77 : decode cX1_take 77 = .ok (.ireturn, 1) := by decide +kernel
theorem dX1_take_78 : decode cX1_take 78 = .ok (.bipush 6, 2) := by decide +kernel
theorem dX1_take_80 : decode cX1_take 80 = .ok (.aload_n 0, 1) := by decide +kernel
theorem dX1_take_81 : decode cX1_take 81 = .ok (.getfield 168, 3) := by decide +kernel
theorem dX1_take_84 : decode cX1_take 84 = .ok (.imul, 1) := by decide +kernel
theorem dX1_take_85 : decode cX1_take 85 = .ok (.istore 4, 2) := by decide +kernel
theorem dX1_take_87 : decode cX1_take 87 = .ok (.aload_n 0, 1) := by decide +kernel
theorem dX1_take_88 : decode cX1_take 88 = .ok (.getfield 61, 3) := by decide +kernel
theorem dX1_take_91 : decode cX1_take 91 = .ok (.iload 4, 2) := by decide +kernel
theorem dX1_take_93 : decode cX1_take 93 = .ok (.aload_n 0, 1) := by decide +kernel
theorem dX1_take_94 : decode cX1_take 94 = .ok (.getfield 141, 3) := by decide +kernel
theorem dX1_take_97 : decode cX1_take 97 = .ok (.iastore, 1) := by decide +kernel
theorem dX1_take_98 : decode cX1_take 98 = .ok (.aload_n 0, 1) := by decide +kernel
theorem dX1_take_99 : decode cX1_take 99 = .ok (.getfield 61, 3) := by decide +kernel
theorem dX1_take_102 : decode cX1_take 102 = .ok (.iload 4, 2) := by decide +kernel
theorem dX1_take_104 : decode cX1_take 104 = .ok (.iconst 1, 1) := by decide +kernel
theorem dX1_take_105 : decode cX1_take 105 = .ok (.iadd, 1) := by decide +kernel
theorem dX1_take_106 : decode cX1_take 106 = .ok (.iload_n 1, 1) := by decide +kernel
theorem dX1_take_107 : decode cX1_take 107 = .ok (.iastore, 1) := by decide +kernel
theorem dX1_take_108 : decode cX1_take 108 = .ok (.aload_n 0, 1) := by decide +kernel
theorem dX1_take_109 : decode cX1_take 109 = .ok (.getfield 61, 3) := by decide +kernel
theorem dX1_take_112 : decode cX1_take 112 = .ok (.iload 4, 2) := by decide +kernel
theorem dX1_take_114 : decode cX1_take 114 = .ok (.iconst 2, 1) := by decide +kernel
theorem dX1_take_115 : decode cX1_take 115 = .ok (.iadd, 1) := by decide +kernel
theorem dX1_take_116 : decode cX1_take 116 = .ok (.iload_n 2, 1) := by decide +kernel
theorem dX1_take_117 : decode cX1_take 117 = .ok (.iastore, 1) := by decide +kernel
theorem dX1_take_118 : decode cX1_take 118 = .ok (.aload_n 0, 1) := by decide +kernel
theorem dX1_take_119 : decode cX1_take 119 = .ok (.getfield 61, 3) := by decide +kernel
theorem dX1_take_122 : decode cX1_take 122 = .ok (.iload 4, 2) := by decide +kernel
theorem dX1_take_124 : decode cX1_take 124 = .ok (.iconst 3, 1) := by decide +kernel
theorem dX1_take_125 : decode cX1_take 125 = .ok (.iadd, 1) := by decide +kernel
theorem dX1_take_126 : decode cX1_take 126 = .ok (.iload_n 3, 1) := by decide +kernel
theorem dX1_take_127 : decode cX1_take 127 = .ok (.iastore, 1) := by decide +kernel
theorem dX1_take_128 : decode cX1_take 128 = .ok (.aload_n 0, 1) := by decide +kernel
theorem dX1_take_129 : decode cX1_take 129 = .ok (.getfield 61, 3) := by decide +kernel
theorem dX1_take_132 : decode cX1_take 132 = .ok (.iload 4, 2) := by decide +kernel
theorem dX1_take_134 : decode cX1_take 134 = .ok (.iconst 4, 1) := by decide +kernel
theorem dX1_take_135 : decode cX1_take 135 = .ok (.iadd, 1) := by decide +kernel
theorem dX1_take_136 : decode cX1_take 136 = .ok (.aload_n 0, 1) := by decide +kernel
theorem dX1_take_137 : decode cX1_take 137 = .ok (.iload_n 1, 1) := by decide +kernel
theorem dX1_take_138 : decode cX1_take 138 = .ok (.iload_n 2, 1) := by decide +kernel
theorem dX1_take_139 : decode cX1_take 139 = .ok (.invokevirtual 229, 3) := by decide +kernel
theorem dX1_take_142 : decode cX1_take 142 = .ok (.ifCond .eq 7, 3) := by decide +kernel
theorem dX1_take_145 : decode cX1_take 145 = .ok (.iconst 1, 1) := by decide +kernel
theorem dX1_take_146 : decode cX1_take 146 = .ok (.goto 4, 3) := by decide +kernel
theorem dX1_take_149 : decode cX1_take 149 = .ok (.iconst 0, 1) := by decide +kernel
theorem dX1_take_150 : decode cX1_take 150 = .ok (.iastore, 1) := by decide +kernel
theorem dX1_take_151 : decode cX1_take 151 = .ok (.aload_n 0, 1) := by decide +kernel
theorem dX1_take_152 : decode cX1_take 152 = .ok (.getfield 61, 3) := by decide +kernel
theorem dX1_take_155 : decode cX1_take 155 = .ok (.iload 4, 2) := by decide +kernel
theorem dX1_take_157 : decode cX1_take 157 = .ok (.iconst 5, 1) := by decide +kernel
theorem dX1_take_158 : decode cX1_take 158 = .ok (.iadd, 1) := by decide +kernel
theorem dX1_take_159 : decode cX1_take 159 = .ok (.aload_n 0, 1) := by decide +kernel
theorem dX1_take_160 : decode cX1_take 160 = .ok (.iload_n 1, 1) := by decide +kernel
theorem dX1_take_161 : decode cX1_take 161 = .ok (.invokevirtual 233, 3) := by decide +kernel
theorem dX1_take_164 : decode cX1_take 164 = .ok (.ifCond .eq 7, 3) := by decide +kernel
theorem dX1_take_167 : decode cX1_take 167 = .ok (.iconst 1, 1) := by decide +kernel
theorem dX1_take_168 : decode cX1_take 168 = .ok (.goto 4, 3) := by decide +kernel
theorem dX1_take_171 : decode cX1_take 171 = .ok (.iconst 0, 1) := by decide +kernel
theorem dX1_take_172 : decode cX1_take 172 = .ok (.iastore, 1) := by decide +kernel
theorem dX1_take_173 : decode cX1_take 173 = .ok (.aload_n 0, 1) := by decide +kernel
theorem dX1_take_174 : decode cX1_take 174 = .ok (.dup, 1) := by decide +kernel
theorem dX1_take_175 : decode cX1_take 175 = .ok (.getfield 168, 3) := by decide +kernel
theorem dX1_take_178 : decode cX1_take 178 = .ok (.iconst 1, 1) := by decide +kernel
theorem dX1_take_179 : decode cX1_take 179 = .ok (.iadd, 1) := by decide +kernel
theorem dX1_take_180 : decode cX1_take 180 = .ok (.putfield 168, 3) := by decide +kernel
theorem dX1_take_183 : decode cX1_take 183 = .ok (.aload_n 0, 1) := by decide +kernel
theorem dX1_take_184 : decode cX1_take 184 = .ok (.iload_n 1, 1) := by decide +kernel
theorem dX1_take_185 : decode cX1_take 185 = .ok (.bipush 20, 2) := by decide +kernel
theorem dX1_take_187 : decode cX1_take 187 = .ok (.invokevirtual 177, 3) := by decide +kernel
theorem dX1_take_190 : decode cX1_take 190 = .ok (.aload_n 0, 1) := by decide +kernel
theorem dX1_take_191 : decode cX1_take 191 = .ok (.getfield 168, 3) := by decide +kernel
theorem dX1_take_194 : decode cX1_take 194 = .ok (.iconst 1, 1) := by decide +kernel
theorem dX1_take_195 : decode cX1_take 195 = .ok (.isub, 1) := by decide +kernel
theorem dX1_take_196 : decode cX1_take 196 = .ok (.ireturn, 1) := by decide +kernel
theorem dX1_isHere_0 : decode cX1_isHere 0 = .ok (.iload_n 1, 1) := by decide +kernel
theorem dX1_isHere_1 : decode cX1_isHere 1 = .ok (.invokestatic 151, 3) := by decide +kernel
theorem dX1_isHere_4 : decode cX1_isHere 4 = .ok (.ifCond .eq 19, 3) := by decide +kernel
theorem dX1_isHere_7 : decode cX1_isHere 7 = .ok (.aload_n 0, 1) := by decide +kernel
theorem dX1_isHere_8 : decode cX1_isHere 8 = .ok (.getfield 43, 3) := by decide +kernel
theorem dX1_isHere_11 : decode cX1_isHere 11 = .ok (.iload_n 1, 1) := by decide +kernel
theorem dX1_isHere_12 : decode cX1_isHere 12 = .ok (.bipush 10, 2) := by decide +kernel
theorem dX1_isHere_14 : decode cX1_isHere 14 = .ok (.isub, 1) := by decide +kernel
theorem dX1_isHere_15 : decode cX1_isHere 15 = .ok (.baload, 1) := by decide +kernel
theorem dX1_isHere_16 : decode cX1_isHere 16 = .ok (.ifCond .ne 7, 3) := by decide +kernel
theorem dX1_isHere_19 : decode cX1_isHere 19 = .ok (.iconst 1, 1) := by decide +kernel
theorem dX1_isHere_20 : decode cX1_isHere 20 = .ok (.goto 4, 3) := by decide +kernel
theorem dX1_isHere_23 : decode cX1_isHere 23 = .ok (.iconst 0, 1) := by decide +kernel
theorem dX1_isHere_24 : decode cX1_isHere 24 = .ok (.ireturn, 1) := by decide +kernel
theorem dX1_taking_0 : decode cX1_taking 0 = .ok (.aload_n 0, 1) := by decide +kernel
theorem dX1_taking_1 : decode cX1_taking 1 = .ok (.iconst 0, 1) := by decide +kernel
theorem dX1_taking_2 : decode cX1_taking 2 = .ok (.putfield 100, 3) := by decide +kernel
theorem dX1_taking_5 : decode cX1_taking 5 = .ok (.iload_n 1, 1) := by decide +kernel
theorem dX1_taking_6 : decode cX1_taking 6 = .ok (.i2l, 1) := by decide +kernel
theorem dX1_taking_7 : decode cX1_taking 7 = .ok (.lconst 0, 1) := by decide +kernel
theorem dX1_taking_8 : decode cX1_taking 8 = .ok (.aload_n 0, 1) := by decide +kernel
theorem dX1_taking_9 : decode cX1_taking 9 = .ok (.getfield 168, 3) := by decide +kernel
theorem dX1_taking_12 : decode cX1_taking 12 = .ok (.iconst 1, 1) := by decide +kernel
theorem dX1_taking_13 : decode cX1_taking 13 = .ok (.isub, 1) := by decide +kernel
theorem dX1_taking_14 : decode cX1_taking 14 = .ok (.i2l, 1) := by decide +kernel
theorem dX1_taking_15 : decode cX1_taking 15 = .ok (.invokestatic 103, 3) := by decide +kernel
theorem dX1_taking_18 : decode cX1_taking 18 = .ok (.ifCond .ne 5, 3) := by decide +kernel
theorem dX1_taking_21 : decode cX1_taking 21 = .ok (.iconst (-1), 1) := by decide +kernel
theorem dX1_taking_22 : decode cX1_taking 22 = .ok (.ireturn, 1) := by decide +kernel
theorem dX1_taking_23 : decode cX1_taking 23 = .ok (.iload_n 2, 1) := by decide +kernel
theorem dX1_taking_24 : decode cX1_taking 24 = .ok (.i2l, 1) := by decide +kernel
theorem dX1_taking_25 : decode cX1_taking 25 = .ok (.lconst 0, 1) := by decide +kernel
theorem dX1_taking_26 : decode cX1_taking 26 = .ok (.ldc2_w 137, 3) := by decide +kernel
theorem dX1_taking_29 : decode cX1_taking 29 = .ok (.invokestatic 103, 3) := by decide +kernel
theorem dX1_taking_32 : decode cX1_taking 32 = .ok (.ifCond .eq 17, 3) := by decide +kernel
theorem dX1_taking_35 : decode cX1_taking 35 = .ok (.aload_n 0, 1) := by decide +kernel
theorem dX1_taking_36 : decode cX1_taking 36 = .ok (.getfield 61, 3) := by decide +kernel
theorem dX1_taking_39 : decode cX1_taking 39 = .ok (.bipush 6, 2) := by decide +kernel
theorem dX1_taking_41 : decode cX1_taking 41 = .ok (.iload_n 1, 1) := by decide +kernel
theorem dX1_taking_42 : decode cX1_taking 42 = .ok (.imul, 1) := by decide +kernel
theorem dX1_taking_43 : decode cX1_taking 43 = .ok (.iload_n 2, 1) := by decide +kernel
theorem dX1_taking_44 : decode cX1_taking 44 = .ok (.iadd, 1) := by decide +kernel
theorem dX1_taking_45 : decode cX1_taking 45 = .ok (.iaload, 1) := by decide +kernel
theorem dX1_taking_46 : decode cX1_taking 46 = .ok (.goto 5, 3) := by decide +kernel
theorem dX1_taking_49 : decode cX1_taking 49 = .ok (.bipush (-2), 2) := by decide +kernel
theorem dX1_taking_51 : decode cX1_taking 51 = .ok (.ireturn, 1) := by decide +kernel
theorem dX1_wronged_0 : decode cX1_wronged 0 = .ok (.aload_n 0, 1) := by decide +kernel
theorem dX1_wronged_1 : decode cX1_wronged 1 = .ok (.iconst 0, 1) := by decide +kernel
theorem dX1_wronged_2 : decode cX1_wronged 2 = .ok (.putfield 100, 3) := by decide +kernel
theorem dX1_wronged_5 : decode cX1_wronged 5 = .ok (.iconst 0, 1) := by decide +kernel
theorem dX1_wronged_6 : decode cX1_wronged 6 = .ok (.istore_n 1, 1) := by decide +kernel
theorem dX1_wronged_7 : decode cX1_wronged 7 = .ok (.iconst 0, 1) := by decide +kernel
theorem dX1_wronged_8 : decode cX1_wronged 8 = .ok (.istore_n 2, 1) := by decide +kernel
theorem dX1_wronged_9 : decode cX1_wronged 9 = .ok (.iload_n 2, 1) := by decide +kernel
theorem dX1_wronged_10 : decode cX1_wronged 10 = .ok (.aload_n 0, 1) := by decide +kernel
theorem dX1_wronged_11 : decode cX1_wronged 11 = .ok (.getfield 107, 3) := by decide +kernel
theorem dX1_wronged_14 : decode cX1_wronged 14 = .ok (.if_icmp .ge 25, 3) := by decide +kernel
theorem dX1_wronged_17 : decode cX1_wronged 17 = .ok (.iload_n 1, 1) := by decide +kernel
theorem dX1_wronged_18 : decode cX1_wronged 18 = .ok (.aload_n 0, 1) := by decide +kernel
theorem dX1_wronged_19 : decode cX1_wronged 19 = .ok (.iload_n 2, 1) := by decide +kernel
theorem dX1_wronged_20 : decode cX1_wronged 20 = .ok (.invokevirtual 239, 3) := by decide +kernel
theorem dX1_wronged_23 : decode cX1_wronged 23 = .ok (.ifCond .eq 7, 3) := by decide +kernel
theorem dX1_wronged_26 : decode cX1_wronged 26 = .ok (.iconst 1, 1) := by decide +kernel
theorem dX1_wronged_27 : decode cX1_wronged 27 = .ok (.goto 4, 3) := by decide +kernel
theorem dX1_wronged_30 : decode cX1_wronged 30 = .ok (.iconst 0, 1) := by decide +kernel
theorem dX1_wronged_31 : decode cX1_wronged 31 = .ok (.iadd, 1) := by decide +kernel
theorem dX1_wronged_32 : decode cX1_wronged 32 = .ok (.istore_n 1, 1) := by decide +kernel
theorem dX1_wronged_33 : decode cX1_wronged 33 = .ok (.iinc 2 1, 3) := by decide +kernel
theorem dX1_wronged_36 : decode cX1_wronged 36 = .ok (.goto (-27), 3) := by decide +kernel
theorem dX1_wronged_39 : decode cX1_wronged 39 = .ok (.iload_n 1, 1) := by decide +kernel
theorem dX1_wronged_40 : decode cX1_wronged 40 = .ok (.ireturn, 1) := by decide +kernel
theorem dX1_isWronged_0 : decode cX1_isWronged 0 = .ok (.bipush (-9), 2) := by decide +kernel
theorem dX1_isWronged_2 : decode cX1_isWronged 2 = .ok (.istore_n 2, 1) := by decide +kernel
theorem dX1_isWronged_3 : decode cX1_isWronged 3 = .ok (.iconst 0, 1) := by decide +kernel
theorem dX1_isWronged_4 : decode cX1_isWronged 4 = .ok (.istore_n 3, 1) := by decide +kernel
theorem dX1_isWronged_5 : decode cX1_isWronged 5 = .ok (.iload_n 3, 1) := by decide +kernel
theorem dX1_isWronged_6 : decode cX1_isWronged 6 = .ok (.aload_n 0, 1) := by decide +kernel
theorem dX1_isWronged_7 : decode cX1_isWronged 7 = .ok (.getfield 168, 3) := by decide +kernel
theorem dX1_isWronged_10 : decode cX1_isWronged 10 = .ok (.if_icmp .ge 30, 3) := by decide +kernel
theorem dX1_isWronged_13 : decode cX1_isWronged 13 = .ok (.aload_n 0, 1) := by decide +kernel
theorem dX1_isWronged_14 : decode cX1_isWronged 14 = .ok (.getfield 61, 3) := by decide +kernel
theorem dX1_isWronged_17 : decode cX1_isWronged 17 = .ok (.bipush 6, 2) := by decide +kernel
theorem dX1_isWronged_19 : decode cX1_isWronged 19 = .ok (.iload_n 3, 1) := by decide +kernel
theorem dX1_isWronged_20 : decode cX1_isWronged 20 = .ok (.imul, 1) := by decide +kernel
theorem dX1_isWronged_21 : decode cX1_isWronged 21 = .ok (.iconst 1, 1) := by decide +kernel
theorem dX1_isWronged_22 : decode cX1_isWronged 22 = .ok (.iadd, 1) := by decide +kernel
theorem dX1_isWronged_23 : decode cX1_isWronged 23 = .ok (.iaload, 1) := by decide +kernel
theorem dX1_isWronged_24 : decode cX1_isWronged 24 = .ok (.iload_n 1, 1) := by decide +kernel
theorem dX1_isWronged_25 : decode cX1_isWronged 25 = .ok (.if_icmp .ne 7, 3) := by decide +kernel
theorem dX1_isWronged_28 : decode cX1_isWronged 28 = .ok (.iload_n 3, 1) := by decide +kernel
theorem dX1_isWronged_29 : decode cX1_isWronged 29 = .ok (.goto 4, 3) := by decide +kernel
theorem dX1_isWronged_32 : decode cX1_isWronged 32 = .ok (.iload_n 2, 1) := by decide +kernel
theorem dX1_isWronged_33 : decode cX1_isWronged 33 = .ok (.istore_n 2, 1) := by decide +kernel
theorem dX1_isWronged_34 : decode cX1_isWronged 34 = .ok (.iinc 3 1, 3) := by decide +kernel
theorem dX1_isWronged_37 : decode cX1_isWronged 37 = .ok (.goto (-32), 3) := by decide +kernel
theorem dX1_isWronged_40 : decode cX1_isWronged 40 = .ok (.aload_n 0, 1) := by decide +kernel
theorem dX1_isWronged_41 : decode cX1_isWronged 41 = .ok (.iload_n 1, 1) := by decide +kernel
theorem dX1_isWronged_42 : decode cX1_isWronged 42 = .ok (.invokevirtual 154, 3) := by decide +kernel
theorem dX1_isWronged_45 : decode cX1_isWronged 45 = .ok (.istore_n 3, 1) := by decide +kernel
theorem dX1_isWronged_46 : decode cX1_isWronged 46 = .ok (.iload_n 3, 1) := by decide +kernel
theorem dX1_isWronged_47 : decode cX1_isWronged 47 = .ok (.bipush 20, 2) := by decide +kernel
theorem dX1_isWronged_49 : decode cX1_isWronged 49 = .ok (.if_icmp .eq 28, 3) := by decide +kernel
theorem dX1_isWronged_52 : decode cX1_isWronged 52 = .ok (.iload_n 3, 1) := by decide +kernel
theorem dX1_isWronged_53 : decode cX1_isWronged 53 = .ok (.bipush 21, 2) := by decide +kernel
theorem dX1_isWronged_55 : decode cX1_isWronged 55 = .ok (.if_icmp .eq 22, 3) := by decide +kernel
theorem dX1_isWronged_58 : decode cX1_isWronged 58 = .ok (.iload_n 3, 1) := by decide +kernel
theorem dX1_isWronged_59 : decode cX1_isWronged 59 = .ok (.invokestatic 151, 3) := by decide +kernel
theorem dX1_isWronged_62 : decode cX1_isWronged 62 = .ok (.ifCond .eq 19, 3) := by decide +kernel
theorem dX1_isWronged_65 : decode cX1_isWronged 65 = .ok (.aload_n 0, 1) := by decide +kernel
theorem dX1_isWronged_66 : decode cX1_isWronged 66 = .ok (.getfield 31, 3) := by decide +kernel
theorem dX1_isWronged_69 : decode cX1_isWronged 69 = .ok (.iload_n 3, 1) := by decide +kernel
theorem dX1_isWronged_70 : decode cX1_isWronged 70 = .ok (.bipush 10, 2) := by decide +kernel
theorem dX1_isWronged_72 : decode cX1_isWronged 72 = .ok (.isub, 1) := by decide +kernel
theorem dX1_isWronged_73 : decode cX1_isWronged 73 = .ok (.iaload, 1) := by decide +kernel
theorem dX1_isWronged_74 : decode cX1_isWronged 74 = .ok (.ifCond .ne 7, 3) := by decide +kernel
theorem dX1_isWronged_77 : decode cX1_isWronged 77 = .ok (.iconst 1, 1) := by decide +kernel
theorem dX1_isWronged_78 : decode cX1_isWronged 78 = .ok (.goto 4, 3) := by decide +kernel
theorem dX1_isWronged_81 : decode cX1_isWronged 81 = .ok (.iconst 0, 1) := by decide +kernel
theorem dX1_isWronged_82 : decode cX1_isWronged 82 = .ok (.istore 4, 2) := by decide +kernel
theorem dX1_isWronged_84 : decode cX1_isWronged 84 = .ok (.iload_n 2, 1) := by decide +kernel
theorem dX1_isWronged_85 : decode cX1_isWronged 85 = .ok (.bipush (-9), 2) := by decide +kernel
theorem dX1_isWronged_87 : decode cX1_isWronged 87 = .ok (.if_icmp .eq 26, 3) := by decide +kernel
theorem dX1_isWronged_90 : decode cX1_isWronged 90 = .ok (.aload_n 0, 1) := by decide +kernel
theorem dX1_isWronged_91 : decode cX1_isWronged 91 = .ok (.getfield 61, 3) := by decide +kernel
theorem dX1_isWronged_94 : decode cX1_isWronged 94 = .ok (.bipush 6, 2) := by decide +kernel
theorem dX1_isWronged_96 : decode cX1_isWronged 96 = .ok (.iload_n 2, 1) := by decide +kernel
theorem dX1_isWronged_97 : decode cX1_isWronged 97 = .ok (.imul, 1) := by decide +kernel
theorem dX1_isWronged_98 : decode cX1_isWronged 98 = .ok (.iconst 5, 1) := by decide +kernel
theorem dX1_isWronged_99 : decode cX1_isWronged 99 = .ok (.iadd, 1) := by decide +kernel
theorem dX1_isWronged_100 : decode cX1_isWronged 100 = .ok (.iaload, 1) := by decide +kernel
theorem dX1_isWronged_101 : decode cX1_isWronged 101 = .ok (.ifCond .ne 12, 3) := by decide +kernel
theorem dX1_isWronged_104 : decode cX1_isWronged 104 = .ok (.iload 4, 2) := by decide +kernel
theorem dX1_isWronged_106 : decode cX1_isWronged 106 = .ok (.ifCond .eq 7, 3) := by decide +kernel
theorem dX1_isWronged_109 : decode cX1_isWronged 109 = .ok (.iconst 1, 1) := by decide +kernel
theorem dX1_isWronged_110 : decode cX1_isWronged 110 = .ok (.goto 4, 3) := by decide +kernel
theorem dX1_isWronged_113 : decode cX1_isWronged 113 = .ok (.iconst 0, 1) := by decide +kernel
theorem dX1_isWronged_114 : decode cX1_isWronged 114 = .ok (.ireturn, 1) := by decide +kernel
theorem dX1_wrongedMan_0 : decode cX1_wrongedMan 0 = .ok (.aload_n 0, 1) := by decide +kernel
theorem dX1_wrongedMan_1 : decode cX1_wrongedMan 1 = .ok (.iconst 0, 1) := by decide +kernel
theorem dX1_wrongedMan_2 : decode cX1_wrongedMan 2 = .ok (.putfield 100, 3) := by decide +kernel
theorem dX1_wrongedMan_5 : decode cX1_wrongedMan 5 = .ok (.iconst 0, 1) := by decide +kernel
theorem dX1_wrongedMan_6 : decode cX1_wrongedMan 6 = .ok (.istore_n 2, 1) := by decide +kernel
theorem dX1_wrongedMan_7 : decode cX1_wrongedMan 7 = .ok (.iconst 0, 1) := by decide +kernel
theorem dX1_wrongedMan_8 : decode cX1_wrongedMan 8 = .ok (.istore_n 3, 1) := by decide +kernel
theorem dX1_wrongedMan_9 : decode cX1_wrongedMan 9 = .ok (.iload_n 3, 1) := by decide +kernel
theorem dX1_wrongedMan_10 : decode cX1_wrongedMan 10 = .ok (.aload_n 0, 1) := by decide +kernel
theorem dX1_wrongedMan_11 : decode cX1_wrongedMan 11 = .ok (.getfield 107, 3) := by decide +kernel
theorem dX1_wrongedMan_14 : decode cX1_wrongedMan 14 = .ok (.if_icmp .ge 27, 3) := by decide +kernel
theorem dX1_wrongedMan_17 : decode cX1_wrongedMan 17 = .ok (.aload_n 0, 1) := by decide +kernel
theorem dX1_wrongedMan_18 : decode cX1_wrongedMan 18 = .ok (.iload_n 3, 1) := by decide +kernel
theorem dX1_wrongedMan_19 : decode cX1_wrongedMan 19 = .ok (.invokevirtual 239, 3) := by decide +kernel
theorem dX1_wrongedMan_22 : decode cX1_wrongedMan 22 = .ok (.ifCond .eq 13, 3) := by decide +kernel
theorem dX1_wrongedMan_25 : decode cX1_wrongedMan 25 = .ok (.iload_n 2, 1) := by decide +kernel
theorem dX1_wrongedMan_26 : decode cX1_wrongedMan 26 = .ok (.iload_n 1, 1) := by decide +kernel
theorem dX1_wrongedMan_27 : decode cX1_wrongedMan 27 = .ok (.if_icmp .ne 5, 3) := by decide +kernel
theorem dX1_wrongedMan_30 : decode cX1_wrongedMan 30 = .ok (.iload_n 3, 1) := by decide +kernel
theorem dX1_wrongedMan_31 : decode cX1_wrongedMan 31 = .ok (.ireturn, 1) := by decide +kernel
theorem dX1_wrongedMan_32 : decode cX1_wrongedMan 32 = .ok (.iinc 2 1, 3) := by decide +kernel
theorem dX1_wrongedMan_35 : decode cX1_wrongedMan 35 = .ok (.iinc 3 1, 3) := by decide +kernel
theorem dX1_wrongedMan_38 : decode cX1_wrongedMan 38 = .ok (.goto (-29), 3) := by decide +kernel
theorem dX1_wrongedMan_41 : decode cX1_wrongedMan 41 = .ok (.bipush (-9), 2) := by decide +kernel
theorem dX1_wrongedMan_43 : decode cX1_wrongedMan 43 = .ok (.ireturn, 1) := by decide +kernel
theorem dX1_letGo_0 : decode cX1_letGo 0 = .ok (.aload_n 0, 1) := by decide +kernel
theorem dX1_letGo_1 : decode cX1_letGo 1 = .ok (.iconst 0, 1) := by decide +kernel
theorem dX1_letGo_2 : decode cX1_letGo 2 = .ok (.putfield 100, 3) := by decide +kernel
theorem dX1_letGo_5 : decode cX1_letGo 5 = .ok (.aload_n 0, 1) := by decide +kernel
theorem dX1_letGo_6 : decode cX1_letGo 6 = .ok (.iload_n 1, 1) := by decide +kernel
theorem dX1_letGo_7 : decode cX1_letGo 7 = .ok (.invokevirtual 144, 3) := by decide +kernel
theorem dX1_letGo_10 : decode cX1_letGo 10 = .ok (.ifCond .eq 5, 3) := by decide +kernel
theorem dX1_letGo_13 : decode cX1_letGo 13 = .ok (.iconst (-1), 1) := by decide +kernel
theorem dX1_letGo_14 : decode cX1_letGo 14 = .ok (.ireturn, 1) := by decide +kernel
theorem dX1_letGo_15 : decode cX1_letGo 15 = .ok (.aload_n 0, 1) := by decide +kernel
theorem dX1_letGo_16 : decode cX1_letGo 16 = .ok (.iload_n 1, 1) := by decide +kernel
theorem dX1_letGo_17 : decode cX1_letGo 17 = .ok (.invokevirtual 154, 3) := by decide +kernel
theorem dX1_letGo_20 : decode cX1_letGo 20 = .ok (.istore_n 2, 1) := by decide +kernel
theorem dX1_letGo_21 : decode cX1_letGo 21 = .ok (.iload_n 2, 1) := by decide +kernel
theorem dX1_letGo_22 : decode cX1_letGo 22 = .ok (.bipush 20, 2) := by decide +kernel
theorem dX1_letGo_24 : decode cX1_letGo 24 = .ok (.if_icmp .eq 20, 3) := by decide +kernel
theorem dX1_letGo_27 : decode cX1_letGo 27 = .ok (.iload_n 2, 1) := by decide +kernel
theorem dX1_letGo_28 : decode cX1_letGo 28 = .ok (.bipush 21, 2) := by decide +kernel
theorem dX1_letGo_30 : decode cX1_letGo 30 = .ok (.if_icmp .eq 14, 3) := by decide +kernel
theorem dX1_letGo_33 : decode cX1_letGo 33 = .ok (.aload_n 0, 1) := by decide +kernel
theorem dX1_letGo_34 : decode cX1_letGo 34 = .ok (.iload_n 2, 1) := by decide +kernel
theorem dX1_letGo_35 : decode cX1_letGo 35 = .ok (.invokevirtual 236, 3) := by decide +kernel
theorem dX1_letGo_38 : decode cX1_letGo 38 = .ok (.ifCond .ne 6, 3) := by decide +kernel
theorem dX1_letGo_41 : decode cX1_letGo 41 = .ok (.bipush (-3), 2) := by decide +kernel
theorem dX1_letGo_43 : decode cX1_letGo 43 = .ok (.ireturn, 1) := by decide +kernel
theorem dX1_letGo_44 : decode cX1_letGo 44 = .ok (.aload_n 0, 1) := by decide +kernel
theorem dX1_letGo_45 : decode cX1_letGo 45 = .ok (.iload_n 1, 1) := by decide +kernel
theorem dX1_letGo_46 : decode cX1_letGo 46 = .ok (.aload_n 0, 1) := by decide +kernel
theorem dX1_letGo_47 : decode cX1_letGo 47 = .ok (.getfield 21, 3) := by decide +kernel
theorem dX1_letGo_50 : decode cX1_letGo 50 = .ok (.bipush 8, 2) := by decide +kernel
theorem dX1_letGo_52 : decode cX1_letGo 52 = .ok (.iload_n 1, 1) := by decide +kernel
theorem dX1_letGo_53 : decode cX1_letGo 53 = .ok (.imul, 1) := by decide +kernel
theorem dX1_letGo_54 : decode cX1_letGo 54 = .ok (.bipush 6, 2) := by decide +kernel
theorem dX1_letGo_56 : decode cX1_letGo 56 = .ok (.iadd, 1) := by decide +kernel
theorem dX1_letGo_57 : decode cX1_letGo 57 = .ok (.iaload, 1) := by decide +kernel
theorem dX1_letGo_58 : decode cX1_letGo 58 = .ok (.invokevirtual 177, 3) := by decide +kernel
theorem dX1_letGo_61 : decode cX1_letGo 61 = .ok (.iload_n 2, 1) := by decide +kernel
theorem dX1_letGo_62 : decode cX1_letGo 62 = .ok (.ireturn, 1) := by decide +kernel
theorem dX1_quiet_0 : decode cX1_quiet 0 = .ok (.aload_n 0, 1) := by decide +kernel
theorem dX1_quiet_1 : decode cX1_quiet 1 = .ok (.iconst 0, 1) := by decide +kernel
theorem dX1_quiet_2 : decode cX1_quiet 2 = .ok (.putfield 100, 3) := by decide +kernel
theorem dX1_quiet_5 : decode cX1_quiet 5 = .ok (.iconst 0, 1) := by decide +kernel
theorem dX1_quiet_6 : decode cX1_quiet 6 = .ok (.istore_n 1, 1) := by decide +kernel
theorem dX1_quiet_7 : decode cX1_quiet 7 = .ok (.aload_n 0, 1) := by decide +kernel
theorem dX1_quiet_8 : decode cX1_quiet 8 = .ok (.getfield 165, 3) := by decide +kernel
theorem dX1_quiet_11 : decode cX1_quiet 11 = .ok (.istore_n 2, 1) := by decide +kernel
theorem dX1_quiet_12 : decode cX1_quiet 12 = .ok (.iload_n 2, 1) := by decide +kernel
theorem dX1_quiet_13 : decode cX1_quiet 13 = .ok (.aload_n 0, 1) := by decide +kernel
theorem dX1_quiet_14 : decode cX1_quiet 14 = .ok (.getfield 168, 3) := by decide +kernel
theorem dX1_quiet_17 : decode cX1_quiet 17 = .ok (.if_icmp .ge 34, 3) := by decide +kernel
theorem dX1_quiet_20 : decode cX1_quiet 20 = .ok (.iload_n 1, 1) := by decide +kernel
theorem dX1_quiet_21 : decode cX1_quiet 21 = .ok (.aload_n 0, 1) := by decide +kernel
theorem dX1_quiet_22 : decode cX1_quiet 22 = .ok (.getfield 61, 3) := by decide +kernel
theorem dX1_quiet_25 : decode cX1_quiet 25 = .ok (.bipush 6, 2) := by decide +kernel
theorem dX1_quiet_27 : decode cX1_quiet 27 = .ok (.iload_n 2, 1) := by decide +kernel
theorem dX1_quiet_28 : decode cX1_quiet 28 = .ok (.imul, 1) := by decide +kernel
theorem dX1_quiet_29 : decode cX1_quiet 29 = .ok (.iconst 3, 1) := by decide +kernel
theorem dX1_quiet_30 : decode cX1_quiet 30 = .ok (.iadd, 1) := by decide +kernel
theorem dX1_quiet_31 : decode cX1_quiet 31 = .ok (.iaload, 1) := by decide +kernel
theorem dX1_quiet_32 : decode cX1_quiet 32 = .ok (.invokestatic 171, 3) := by decide +kernel
theorem dX1_quiet_35 : decode cX1_quiet 35 = .ok (.ifCond .eq 7, 3) := by decide +kernel
theorem dX1_quiet_38 : decode cX1_quiet 38 = .ok (.iconst 1, 1) := by decide +kernel
theorem dX1_quiet_39 : decode cX1_quiet 39 = .ok (.goto 4, 3) := by decide +kernel
theorem dX1_quiet_42 : decode cX1_quiet 42 = .ok (.iconst 0, 1) := by decide +kernel
theorem dX1_quiet_43 : decode cX1_quiet 43 = .ok (.iadd, 1) := by decide +kernel
theorem dX1_quiet_44 : decode cX1_quiet 44 = .ok (.istore_n 1, 1) := by decide +kernel
theorem dX1_quiet_45 : decode cX1_quiet 45 = .ok (.iinc 2 1, 3) := by decide +kernel
theorem dX1_quiet_48 : decode cX1_quiet 48 = .ok (.goto (-36), 3) := by decide +kernel
theorem dX1_quiet_51 : decode cX1_quiet 51 = .ok (.aload_n 0, 1) := by decide +kernel
theorem dX1_quiet_52 : decode cX1_quiet 52 = .ok (.aload_n 0, 1) := by decide +kernel
theorem dX1_quiet_53 : decode cX1_quiet 53 = .ok (.getfield 168, 3) := by decide +kernel
theorem dX1_quiet_56 : decode cX1_quiet 56 = .ok (.putfield 165, 3) := by decide +kernel
theorem dX1_quiet_59 : decode cX1_quiet 59 = .ok (.iload_n 1, 1) := by decide +kernel
theorem dX1_quiet_60 : decode cX1_quiet 60 = .ok (.ireturn, 1) := by decide +kernel
theorem dX1_heard_0 : decode cX1_heard 0 = .ok (.aload_n 0, 1) := by decide +kernel
theorem dX1_heard_1 : decode cX1_heard 1 = .ok (.iconst 0, 1) := by decide +kernel
theorem dX1_heard_2 : decode cX1_heard 2 = .ok (.putfield 100, 3) := by decide +kernel
theorem dX1_heard_5 : decode cX1_heard 5 = .ok (.aload_n 0, 1) := by decide +kernel
theorem dX1_heard_6 : decode cX1_heard 6 = .ok (.iload_n 1, 1) := by decide +kernel
theorem dX1_heard_7 : decode cX1_heard 7 = .ok (.invokevirtual 120, 3) := by decide +kernel
theorem dX1_heard_10 : decode cX1_heard 10 = .ok (.ifCond .eq 5, 3) := by decide +kernel
theorem dX1_heard_13 : decode cX1_heard 13 = .ok (.iconst (-1), 1) := by decide +kernel
theorem dX1_heard_14 : decode cX1_heard 14 = .ok (.ireturn, 1) := by decide +kernel
theorem dX1_heard_15 : decode cX1_heard 15 = .ok (.aload_n 0, 1) := by decide +kernel
theorem dX1_heard_16 : decode cX1_heard 16 = .ok (.invokevirtual 124, 3) := by decide +kernel
theorem dX1_heard_19 : decode cX1_heard 19 = .ok (.aload_n 0, 1) := by decide +kernel
theorem dX1_heard_20 : decode cX1_heard 20 = .ok (.iload_n 1, 1) := by decide +kernel
theorem dX1_heard_21 : decode cX1_heard 21 = .ok (.invokevirtual 174, 3) := by decide +kernel
theorem dX1_heard_24 : decode cX1_heard 24 = .ok (.ireturn, 1) := by decide +kernel
theorem dX1_tender_0 : decode cX1_tender 0 = .ok (.aload_n 0, 1) := by decide +kernel
theorem dX1_tender_1 : decode cX1_tender 1 = .ok (.iconst 0, 1) := by decide +kernel
theorem dX1_tender_2 : decode cX1_tender 2 = .ok (.putfield 100, 3) := by decide +kernel
theorem dX1_tender_5 : decode cX1_tender 5 = .ok (.iload_n 1, 1) := by decide +kernel
theorem dX1_tender_6 : decode cX1_tender 6 = .ok (.i2l, 1) := by decide +kernel
theorem dX1_tender_7 : decode cX1_tender 7 = .ok (.lconst 0, 1) := by decide +kernel
theorem dX1_tender_8 : decode cX1_tender 8 = .ok (.lconst 1, 1) := by decide +kernel
theorem dX1_tender_9 : decode cX1_tender 9 = .ok (.invokestatic 103, 3) := by decide +kernel
theorem dX1_tender_12 : decode cX1_tender 12 = .ok (.ifCond .eq 25, 3) := by decide +kernel
theorem dX1_tender_15 : decode cX1_tender 15 = .ok (.iload_n 2, 1) := by decide +kernel
theorem dX1_tender_16 : decode cX1_tender 16 = .ok (.i2l, 1) := by decide +kernel
theorem dX1_tender_17 : decode cX1_tender 17 = .ok (.lconst 0, 1) := by decide +kernel
theorem dX1_tender_18 : decode cX1_tender 18 = .ok (.iload_n 1, 1) := by decide +kernel
theorem dX1_tender_19 : decode cX1_tender 19 = .ok (.ifCond .ne 9, 3) := by decide +kernel
theorem dX1_tender_22 : decode cX1_tender 22 = .ok (.ldc2_w 139, 3) := by decide +kernel
theorem dX1_tender_25 : decode cX1_tender 25 = .ok (.goto 6, 3) := by decide +kernel
theorem dX1_tender_28 : decode cX1_tender 28 = .ok (.ldc2_w 242, 3) := by decide +kernel
theorem dX1_tender_31 : decode cX1_tender 31 = .ok (.invokestatic 103, 3) := by decide +kernel
theorem dX1_tender_34 : decode cX1_tender 34 = .ok (.ifCond .ne 6, 3) := by decide +kernel
theorem dX1_tender_37 : decode cX1_tender 37 = .ok (.bipush (-2), 2) := by decide +kernel
theorem dX1_tender_39 : decode cX1_tender 39 = .ok (.ireturn, 1) := by decide +kernel
theorem dX1_tender_40 : decode cX1_tender 40 = .ok (.iload_n 1, 1) := by decide +kernel
theorem dX1_tender_41 : decode cX1_tender 41 = .ok (.ifCond .ne 10, 3) := by decide +kernel
theorem dX1_tender_44 : decode cX1_tender 44 = .ok (.aload_n 0, 1) := by decide +kernel
theorem dX1_tender_45 : decode cX1_tender 45 = .ok (.getfield 64, 3) := by decide +kernel
theorem dX1_tender_48 : decode cX1_tender 48 = .ok (.goto 7, 3) := by decide +kernel
theorem dX1_tender_51 : decode cX1_tender 51 = .ok (.aload_n 0, 1) := by decide +kernel
theorem dX1_tender_52 : decode cX1_tender 52 = .ok (.getfield 67, 3) := by decide +kernel
theorem dX1_tender_55 : decode cX1_tender 55 = .ok (.istore_n 3, 1) := by decide +kernel
theorem dX1_tender_56 : decode cX1_tender 56 = .ok (.iload_n 1, 1) := by decide +kernel
theorem dX1_tender_57 : decode cX1_tender 57 = .ok (.ifCond .ne 11, 3) := by decide +kernel
theorem dX1_tender_60 : decode cX1_tender 60 = .ok (.aload_n 0, 1) := by decide +kernel
theorem dX1_tender_61 : decode cX1_tender 61 = .ok (.iload_n 2, 1) := by decide +kernel
theorem dX1_tender_62 : decode cX1_tender 62 = .ok (.putfield 64, 3) := by decide +kernel
theorem dX1_tender_65 : decode cX1_tender 65 = .ok (.goto 8, 3) := by decide +kernel
theorem dX1_tender_68 : decode cX1_tender 68 = .ok (.aload_n 0, 1) := by decide +kernel
theorem dX1_tender_69 : decode cX1_tender 69 = .ok (.iload_n 2, 1) := by decide +kernel
theorem dX1_tender_70 : decode cX1_tender 70 = .ok (.putfield 67, 3) := by decide +kernel
theorem dX1_tender_73 : decode cX1_tender 73 = .ok (.iload_n 3, 1) := by decide +kernel
theorem dX1_tender_74 : decode cX1_tender 74 = .ok (.ireturn, 1) := by decide +kernel
theorem dX1_met_0 : decode cX1_met 0 = .ok (.aload_n 0, 1) := by decide +kernel
theorem dX1_met_1 : decode cX1_met 1 = .ok (.iconst 0, 1) := by decide +kernel
theorem dX1_met_2 : decode cX1_met 2 = .ok (.putfield 100, 3) := by decide +kernel
theorem dX1_met_5 : decode cX1_met 5 = .ok (.iload_n 1, 1) := by decide +kernel
theorem dX1_met_6 : decode cX1_met 6 = .ok (.iload_n 2, 1) := by decide +kernel
theorem dX1_met_7 : decode cX1_met 7 = .ok (.invokestatic 252, 3) := by decide +kernel
theorem dX1_met_10 : decode cX1_met 10 = .ok (.ifCond .eq 8, 3) := by decide +kernel
theorem dX1_met_13 : decode cX1_met 13 = .ok (.bipush (-2), 2) := by decide +kernel
theorem dX1_met_15 : decode cX1_met 15 = .ok (.goto 9, 3) := by decide +kernel
theorem dX1_met_18 : decode cX1_met 18 = .ok (.aload_n 0, 1) := by decide +kernel
theorem dX1_met_19 : decode cX1_met 19 = .ok (.iload_n 1, 1) := by decide +kernel
theorem dX1_met_20 : decode cX1_met 20 = .ok (.iload_n 2, 1) := by decide +kernel
theorem dX1_met_21 : decode cX1_met 21 = .ok (.invokevirtual 255, 3) := by decide +kernel
theorem dX1_met_24 : decode cX1_met 24 = .ok (.ireturn, 1) := by decide +kernel
theorem dX1_badGangs_0 : decode cX1_badGangs 0 = .ok (.iload_n 0, 1) := by decide +kernel
theorem dX1_badGangs_1 : decode cX1_badGangs 1 = .ok (.i2l, 1) := by decide +kernel
theorem dX1_badGangs_2 : decode cX1_badGangs 2 = .ok (.lconst 1, 1) := by decide +kernel
theorem dX1_badGangs_3 : decode cX1_badGangs 3 = .ok (.ldc2_w 250, 3) := by decide +kernel
theorem dX1_badGangs_6 : decode cX1_badGangs 6 = .ok (.invokestatic 103, 3) := by decide +kernel
theorem dX1_badGangs_9 : decode cX1_badGangs 9 = .ok (.ifCond .eq 15, 3) := by decide +kernel
theorem dX1_badGangs_12 : decode cX1_badGangs 12 = .ok (.iload_n 1, 1) := by decide +kernel
theorem dX1_badGangs_13 : decode cX1_badGangs 13 = .ok (.i2l, 1) := by decide +kernel
theorem dX1_badGangs_14 : decode cX1_badGangs 14 = .ok (.lconst 1, 1) := by decide +kernel
theorem dX1_badGangs_15 : decode cX1_badGangs 15 = .ok (.ldc2_w 131, 3) := by decide +kernel
theorem dX1_badGangs_18 : decode cX1_badGangs 18 = .ok (.invokestatic 103, 3) := by decide +kernel
theorem dX1_badGangs_21 : decode cX1_badGangs 21 = .ok (.ifCond .ne 7, 3) := by decide +kernel
theorem dX1_badGangs_24 : decode cX1_badGangs 24 = .ok (.iconst 1, 1) := by decide +kernel
theorem dX1_badGangs_25 : decode cX1_badGangs 25 = .ok (.goto 4, 3) := by decide +kernel
theorem dX1_badGangs_28 : decode cX1_badGangs 28 = .ok (.iconst 0, 1) := by decide +kernel
theorem dX1_badGangs_29 : decode cX1_badGangs 29 = .ok (.ireturn, 1) := by decide +kernel
theorem dX1_look_0 : decode cX1_look 0 = .ok (.aload_n 0, 1) := by decide +kernel
theorem dX1_look_1 : decode cX1_look 1 = .ok (.invokevirtual 124, 3) := by decide +kernel
theorem dX1_look_4 : decode cX1_look 4 = .ok (.iconst 0, 1) := by decide +kernel
theorem dX1_look_5 : decode cX1_look 5 = .ok (.istore_n 3, 1) := by decide +kernel
theorem dX1_look_6 : decode cX1_look 6 = .ok (.iload_n 3, 1) := by decide +kernel
theorem dX1_look_7 : decode cX1_look 7 = .ok (.bipush 8, 2) := by decide +kernel
theorem dX1_look_9 : decode cX1_look 9 = .ok (.if_icmp .ge 16, 3) := by decide +kernel
theorem dX1_look_12 : decode cX1_look 12 = .ok (.aload_n 0, 1) := by decide +kernel
theorem dX1_look_13 : decode cX1_look 13 = .ok (.getfield 70, 3) := by decide +kernel
theorem dX1_look_16 : decode cX1_look 16 = .ok (.iload_n 3, 1) := by decide +kernel
theorem dX1_look_17 : decode cX1_look 17 = .ok (.iconst 0, 1) := by decide +kernel
theorem dX1_look_18 : decode cX1_look 18 = .ok (.iastore, 1) := by decide +kernel
theorem dX1_look_19 : decode cX1_look 19 = .ok (.iinc 3 1, 3) := by decide +kernel
theorem dX1_look_22 : decode cX1_look 22 = .ok (.goto (-16), 3) := by decide +kernel
theorem dX1_look_25 : decode cX1_look 25 = .ok (.iconst 0, 1) := by decide +kernel
theorem dX1_look_26 : decode cX1_look 26 = .ok (.istore_n 3, 1) := by decide +kernel
theorem dX1_look_27 : decode cX1_look 27 = .ok (.iload_n 3, 1) := by decide +kernel
theorem dX1_look_28 : decode cX1_look 28 = .ok (.aload_n 0, 1) := by decide +kernel
theorem dX1_look_29 : decode cX1_look 29 = .ok (.getfield 107, 3) := by decide +kernel
theorem dX1_look_32 : decode cX1_look 32 = .ok (.if_icmp .ge 42, 3) := by decide +kernel
theorem dX1_look_35 : decode cX1_look 35 = .ok (.aload_n 0, 1) := by decide +kernel
theorem dX1_look_36 : decode cX1_look 36 = .ok (.iload_n 3, 1) := by decide +kernel
theorem dX1_look_37 : decode cX1_look 37 = .ok (.invokevirtual 154, 3) := by decide +kernel
theorem dX1_look_40 : decode cX1_look 40 = .ok (.invokestatic 171, 3) := by decide +kernel
theorem dX1_look_43 : decode cX1_look 43 = .ok (.ifCond .eq 25, 3) := by decide +kernel
theorem dX1_look_46 : decode cX1_look 46 = .ok (.aload_n 0, 1) := by decide +kernel
theorem dX1_look_47 : decode cX1_look 47 = .ok (.iload_n 3, 1) := by decide +kernel
theorem dX1_look_48 : decode cX1_look 48 = .ok (.invokevirtual 233, 3) := by decide +kernel
theorem dX1_look_51 : decode cX1_look 51 = .ok (.ifCond .eq 17, 3) := by decide +kernel
theorem dX1_look_54 : decode cX1_look 54 = .ok (.aload_n 0, 1) := by decide +kernel
theorem dX1_look_55 : decode cX1_look 55 = .ok (.getfield 70, 3) := by decide +kernel
theorem dX1_look_58 : decode cX1_look 58 = .ok (.aload_n 0, 1) := by decide +kernel
theorem dX1_look_59 : decode cX1_look 59 = .ok (.iload_n 3, 1) := by decide +kernel
theorem dX1_look_60 : decode cX1_look 60 = .ok (.invokevirtual 154, 3) := by decide +kernel
theorem dX1_look_63 : decode cX1_look 63 = .ok (.dup2, 1) := by decide +kernel
theorem dX1_look_64 : decode cX1_look 64 = .ok (.iaload, 1) := by decide +kernel
theorem dX1_look_65 : decode cX1_look 65 = .ok (.iconst 1, 1) := by decide +kernel
theorem dX1_look_66 : decode cX1_look 66 = .ok (.iadd, 1) := by decide +kernel
theorem dX1_look_67 : decode cX1_look 67 = .ok (.iastore, 1) := by decide +kernel
theorem dX1_look_68 : decode cX1_look 68 = .ok (.iinc 3 1, 3) := by decide +kernel
theorem dX1_look_71 : decode cX1_look 71 = .ok (.goto (-44), 3) := by decide +kernel
theorem dX1_look_74 : decode cX1_look 74 = .ok (.iconst 1, 1) := by decide +kernel
theorem dX1_look_75 : decode cX1_look 75 = .ok (.istore_n 3, 1) := by decide +kernel
theorem dX1_look_76 : decode cX1_look 76 = .ok (.iconst 0, 1) := by decide +kernel
theorem dX1_look_77 : decode cX1_look 77 = .ok (.istore 4, 2) := by decide +kernel
theorem dX1_look_79 : decode cX1_look 79 = .ok (.iload 4, 2) := by decide +kernel
theorem dX1_look_81 : decode cX1_look 81 = .ok (.iload_n 1, 1) := by decide +kernel
theorem dX1_look_82 : decode cX1_look 82 = .ok (.iload_n 2, 1) := by decide +kernel
theorem dX1_look_83 : decode cX1_look 83 = .ok (.imul, 1) := by decide +kernel
theorem dX1_look_84 : decode cX1_look 84 = .ok (.if_icmp .ge 16, 3) := by decide +kernel
theorem dX1_look_87 : decode cX1_look 87 = .ok (.iload_n 3, 1) := by decide +kernel
theorem dX1_look_88 : decode cX1_look 88 = .ok (.aload_n 0, 1) := by decide +kernel
theorem dX1_look_89 : decode cX1_look 89 = .ok (.getfield 7, 3) := by decide +kernel
theorem dX1_look_92 : decode cX1_look 92 = .ok (.imul, 1) := by decide +kernel
theorem dX1_look_93 : decode cX1_look 93 = .ok (.istore_n 3, 1) := by decide +kernel
theorem dX1_look_94 : decode cX1_look 94 = .ok (.iinc 4 1, 3) := by decide +kernel
theorem dX1_look_97 : decode cX1_look 97 = .ok (.goto (-18), 3) := by decide +kernel
theorem dX1_look_100 : decode cX1_look 100 = .ok (.bipush (-9), 2) := by decide +kernel
theorem dX1_look_102 : decode cX1_look 102 = .ok (.istore 4, 2) := by decide +kernel
theorem dX1_look_104 : decode cX1_look 104 = .ok (.iconst 0, 1) := by decide +kernel
theorem dX1_look_105 : decode cX1_look 105 = .ok (.istore 5, 2) := by decide +kernel
theorem dX1_look_107 : decode cX1_look 107 = .ok (.iload 5, 2) := by decide +kernel
theorem dX1_look_109 : decode cX1_look 109 = .ok (.iload_n 3, 1) := by decide +kernel
theorem dX1_look_110 : decode cX1_look 110 = .ok (.if_icmp .ge 36, 3) := by decide +kernel
theorem dX1_look_113 : decode cX1_look 113 = .ok (.aload_n 0, 1) := by decide +kernel
theorem dX1_look_114 : decode cX1_look 114 = .ok (.iload 5, 2) := by decide +kernel
theorem dX1_look_116 : decode cX1_look 116 = .ok (.iload_n 1, 1) := by decide +kernel
theorem dX1_look_117 : decode cX1_look 117 = .ok (.iload_n 2, 1) := by decide +kernel
theorem dX1_look_118 : decode cX1_look 118 = .ok (.invokevirtual 244, 3) := by decide +kernel
theorem dX1_look_121 : decode cX1_look 121 = .ok (.istore 6, 2) := by decide +kernel
theorem dX1_look_123 : decode cX1_look 123 = .ok (.iload 6, 2) := by decide +kernel
theorem dX1_look_125 : decode cX1_look 125 = .ok (.iload 4, 2) := by decide +kernel
theorem dX1_look_127 : decode cX1_look 127 = .ok (.if_icmp .le 13, 3) := by decide +kernel
theorem dX1_look_130 : decode cX1_look 130 = .ok (.iload 6, 2) := by decide +kernel
theorem dX1_look_132 : decode cX1_look 132 = .ok (.istore 4, 2) := by decide +kernel
theorem dX1_look_134 : decode cX1_look 134 = .ok (.aload_n 0, 1) := by decide +kernel
theorem dX1_look_135 : decode cX1_look 135 = .ok (.iload 5, 2) := by decide +kernel
theorem dX1_look_137 : decode cX1_look 137 = .ok (.putfield 247, 3) := by decide +kernel
theorem dX1_look_140 : decode cX1_look 140 = .ok (.iinc 5 1, 3) := by decide +kernel
theorem dX1_look_143 : decode cX1_look 143 = .ok (.goto (-36), 3) := by decide +kernel
theorem dX1_look_146 : decode cX1_look 146 = .ok (.iload 4, 2) := by decide +kernel
theorem dX1_look_148 : decode cX1_look 148 = .ok (.ireturn, 1) := by decide +kernel
theorem dX1_meet_0 : decode cX1_meet 0 = .ok (.iload_n 1, 1) := by decide +kernel
theorem dX1_meet_1 : decode cX1_meet 1 = .ok (.istore 4, 2) := by decide +kernel
theorem dX1_meet_3 : decode cX1_meet 3 = .ok (.iload_n 2, 1) := by decide +kernel
theorem dX1_meet_4 : decode cX1_meet 4 = .ok (.iload_n 3, 1) := by decide +kernel
theorem dX1_meet_5 : decode cX1_meet 5 = .ok (.imul, 1) := by decide +kernel
theorem dX1_meet_6 : decode cX1_meet 6 = .ok (.iconst 1, 1) := by decide +kernel
theorem dX1_meet_7 : decode cX1_meet 7 = .ok (.isub, 1) := by decide +kernel
theorem dX1_meet_8 : decode cX1_meet 8 = .ok (.istore 5, 2) := by decide +kernel
theorem dX1_meet_10 : decode cX1_meet 10 = .ok (.iload 5, 2) := by decide +kernel
theorem dX1_meet_12 : decode cX1_meet 12 = .ok (.ifCond .lt 32, 3) := by decide +kernel
theorem dX1_meet_15 : decode cX1_meet 15 = .ok (.aload_n 0, 1) := by decide +kernel
theorem dX1_meet_16 : decode cX1_meet 16 = .ok (.getfield 73, 3) := by decide +kernel
theorem dX1_meet_19 : decode cX1_meet 19 = .ok (.iload 5, 2) := by decide +kernel
theorem dX1_meet_21 : decode cX1_meet 21 = .ok (.iload 4, 2) := by decide +kernel
theorem dX1_meet_23 : decode cX1_meet 23 = .ok (.aload_n 0, 1) := by decide +kernel
theorem dX1_meet_24 : decode cX1_meet 24 = .ok (.getfield 7, 3) := by decide +kernel
theorem dX1_meet_27 : decode cX1_meet 27 = .ok (.irem, 1) := by decide +kernel
theorem dX1_meet_28 : decode cX1_meet 28 = .ok (.iastore, 1) := by decide +kernel
theorem dX1_meet_29 : decode cX1_meet 29 = .ok (.iload 4, 2) := by decide +kernel
theorem dX1_meet_31 : decode cX1_meet 31 = .ok (.aload_n 0, 1) := by decide +kernel
theorem dX1_meet_32 : decode cX1_meet 32 = .ok (.getfield 7, 3) := by decide +kernel
theorem dX1_meet_35 : decode cX1_meet 35 = .ok (.idiv, 1) := by decide +kernel
theorem dX1_meet_36 : decode cX1_meet 36 = .ok (.istore 4, 2) := by decide +kernel
theorem dX1_meet_38 : decode cX1_meet 38 = .ok (.iinc 5 (-1), 3) := by decide +kernel
theorem dX1_meet_41 : decode cX1_meet 41 = .ok (.goto (-31), 3) := by decide +kernel
theorem dX1_meet_44 : decode cX1_meet 44 = .ok (.iconst 0, 1) := by decide +kernel
theorem dX1_meet_45 : decode cX1_meet 45 = .ok (.istore 5, 2) := by decide +kernel
theorem dX1_meet_47 : decode cX1_meet 47 = .ok (.iload 5, 2) := by decide +kernel
theorem dX1_meet_49 : decode cX1_meet 49 = .ok (.iload_n 2, 1) := by decide +kernel
theorem dX1_meet_50 : decode cX1_meet 50 = .ok (.iload_n 3, 1) := by decide +kernel
theorem dX1_meet_51 : decode cX1_meet 51 = .ok (.imul, 1) := by decide +kernel
theorem dX1_meet_52 : decode cX1_meet 52 = .ok (.if_icmp .ge 48, 3) := by decide +kernel
theorem dX1_meet_55 : decode cX1_meet 55 = .ok (.iload 5, 2) := by decide +kernel
theorem dX1_meet_57 : decode cX1_meet 57 = .ok (.iload_n 3, 1) := by decide +kernel
theorem dX1_meet_58 : decode cX1_meet 58 = .ok (.irem, 1) := by decide +kernel
theorem dX1_meet_59 : decode cX1_meet 59 = .ok (.ifCond .le 35, 3) := by decide +kernel
theorem dX1_meet_62 : decode cX1_meet 62 = .ok (.aload_n 0, 1) := by decide +kernel
theorem dX1_meet_63 : decode cX1_meet 63 = .ok (.getfield 17, 3) := by decide +kernel
theorem dX1_meet_66 : decode cX1_meet 66 = .ok (.bipush 8, 2) := by decide +kernel
theorem dX1_meet_68 : decode cX1_meet 68 = .ok (.aload_n 0, 1) := by decide +kernel
theorem dX1_meet_69 : decode cX1_meet 69 = .ok (.getfield 73, 3) := by decide +kernel
theorem dX1_meet_72 : decode cX1_meet 72 = .ok (.iload 5, 2) := by decide +kernel
theorem dX1_meet_74 : decode cX1_meet 74 = .ok (.iconst 1, 1) := by decide +kernel
theorem dX1_meet_75 : decode cX1_meet 75 = .ok (.isub, 1) := by decide +kernel
theorem dX1_meet_76 : decode cX1_meet 76 = .ok (.iaload, 1) := by decide +kernel
theorem dX1_meet_77 : decode cX1_meet 77 = .ok (.imul, 1) := by decide +kernel
theorem dX1_meet_78 : decode cX1_meet 78 = .ok (.aload_n 0, 1) := by decide +kernel
theorem dX1_meet_79 : decode cX1_meet 79 = .ok (.getfield 73, 3) := by decide +kernel
theorem dX1_meet_82 : decode cX1_meet 82 = .ok (.iload 5, 2) := by decide +kernel
theorem dX1_meet_84 : decode cX1_meet 84 = .ok (.iaload, 1) := by decide +kernel
theorem dX1_meet_85 : decode cX1_meet 85 = .ok (.iadd, 1) := by decide +kernel
theorem dX1_meet_86 : decode cX1_meet 86 = .ok (.iaload, 1) := by decide +kernel
theorem dX1_meet_87 : decode cX1_meet 87 = .ok (.iconst 1, 1) := by decide +kernel
theorem dX1_meet_88 : decode cX1_meet 88 = .ok (.if_icmp .le 6, 3) := by decide +kernel
theorem dX1_meet_91 : decode cX1_meet 91 = .ok (.bipush (-9), 2) := by decide +kernel
theorem dX1_meet_93 : decode cX1_meet 93 = .ok (.ireturn, 1) := by decide +kernel
theorem dX1_meet_94 : decode cX1_meet 94 = .ok (.iinc 5 1, 3) := by decide +kernel
theorem dX1_meet_97 : decode cX1_meet 97 = .ok (.goto (-50), 3) := by decide +kernel
theorem dX1_meet_100 : decode cX1_meet 100 = .ok (.iconst 0, 1) := by decide +kernel
theorem dX1_meet_101 : decode cX1_meet 101 = .ok (.istore 5, 2) := by decide +kernel
theorem dX1_meet_103 : decode cX1_meet 103 = .ok (.iload 5, 2) := by decide +kernel
theorem dX1_meet_105 : decode cX1_meet 105 = .ok (.bipush 8, 2) := by decide +kernel
theorem dX1_meet_107 : decode cX1_meet 107 = .ok (.if_icmp .ge 18, 3) := by decide +kernel
theorem dX1_meet_110 : decode cX1_meet 110 = .ok (.aload_n 0, 1) := by decide +kernel
theorem dX1_meet_111 : decode cX1_meet 111 = .ok (.getfield 76, 3) := by decide +kernel
theorem dX1_meet_114 : decode cX1_meet 114 = .ok (.iload 5, 2) := by decide +kernel
theorem dX1_meet_116 : decode cX1_meet 116 = .ok (.bipush (-9), 2) := by decide +kernel
theorem dX1_meet_118 : decode cX1_meet 118 = .ok (.iastore, 1) := by decide +kernel
theorem dX1_meet_119 : decode cX1_meet 119 = .ok (.iinc 5 1, 3) := by decide +kernel
theorem dX1_meet_122 : decode cX1_meet 122 = .ok (.goto (-19), 3) := by decide +kernel
theorem dX1_meet_125 : decode cX1_meet 125 = .ok (.iconst 0, 1) := by decide +kernel
theorem dX1_meet_126 : decode cX1_meet 126 = .ok (.istore 5, 2) := by decide +kernel
theorem dX1_meet_128 : decode cX1_meet 128 = .ok (.iconst 0, 1) := by decide +kernel
theorem dX1_meet_129 : decode cX1_meet 129 = .ok (.istore 6, 2) := by decide +kernel
theorem dX1_meet_131 : decode cX1_meet 131 = .ok (.iload 6, 2) := by decide +kernel
theorem dX1_meet_133 : decode cX1_meet 133 = .ok (.iload_n 3, 1) := by decide +kernel
theorem dX1_meet_134 : decode cX1_meet 134 = .ok (.if_icmp .ge 173, 3) := by decide +kernel
theorem dX1_meet_137 : decode cX1_meet 137 = .ok (.iconst 0, 1) := by decide +kernel
theorem dX1_meet_138 : decode cX1_meet 138 = .ok (.istore 7, 2) := by decide +kernel
theorem dX1_meet_140 : decode cX1_meet 140 = .ok (.iload 7, 2) := by decide +kernel
theorem dX1_meet_142 : decode cX1_meet 142 = .ok (.iload_n 2, 1) := by decide +kernel
theorem dX1_meet_143 : decode cX1_meet 143 = .ok (.if_icmp .ge 158, 3) := by decide +kernel
theorem dX1_meet_146 : decode cX1_meet 146 = .ok (.aload_n 0, 1) := by decide +kernel
theorem dX1_meet_147 : decode cX1_meet 147 = .ok (.getfield 73, 3) := by decide +kernel
theorem dX1_meet_150 : decode cX1_meet 150 = .ok (.iload 7, 2) := by decide +kernel
theorem dX1_meet_152 : decode cX1_meet 152 = .ok (.iload_n 3, 1) := by decide +kernel
theorem dX1_meet_153 : decode cX1_meet 153 = .ok (.imul, 1) := by decide +kernel
theorem dX1_meet_154 : decode cX1_meet 154 = .ok (.iload 6, 2) := by decide +kernel
theorem dX1_meet_156 : decode cX1_meet 156 = .ok (.iadd, 1) := by decide +kernel
theorem dX1_meet_157 : decode cX1_meet 157 = .ok (.iaload, 1) := by decide +kernel
theorem dX1_meet_158 : decode cX1_meet 158 = .ok (.istore 8, 2) := by decide +kernel
theorem dX1_meet_160 : decode cX1_meet 160 = .ok (.aload_n 0, 1) := by decide +kernel
theorem dX1_meet_161 : decode cX1_meet 161 = .ok (.getfield 70, 3) := by decide +kernel
theorem dX1_meet_164 : decode cX1_meet 164 = .ok (.iload 8, 2) := by decide +kernel
theorem dX1_meet_166 : decode cX1_meet 166 = .ok (.iaload, 1) := by decide +kernel
theorem dX1_meet_167 : decode cX1_meet 167 = .ok (.ifCond .le 19, 3) := by decide +kernel
theorem dX1_meet_170 : decode cX1_meet 170 = .ok (.aload_n 0, 1) := by decide +kernel
theorem dX1_meet_171 : decode cX1_meet 171 = .ok (.getfield 76, 3) := by decide +kernel
theorem dX1_meet_174 : decode cX1_meet 174 = .ok (.iload 8, 2) := by decide +kernel
theorem dX1_meet_176 : decode cX1_meet 176 = .ok (.iaload, 1) := by decide +kernel
theorem dX1_meet_177 : decode cX1_meet 177 = .ok (.bipush (-9), 2) := by decide +kernel
theorem dX1_meet_179 : decode cX1_meet 179 = .ok (.if_icmp .ne 7, 3) := by decide +kernel
theorem dX1_meet_182 : decode cX1_meet 182 = .ok (.iconst 1, 1) := by decide +kernel
theorem dX1_meet_183 : decode cX1_meet 183 = .ok (.goto 4, 3) := by decide +kernel
theorem dX1_meet_186 : decode cX1_meet 186 = .ok (.iconst 0, 1) := by decide +kernel
theorem dX1_meet_187 : decode cX1_meet 187 = .ok (.istore 9, 2) := by decide +kernel
theorem dX1_meet_189 : decode cX1_meet 189 = .ok (.iconst 0, 1) := by decide +kernel
theorem dX1_meet_190 : decode cX1_meet 190 = .ok (.istore 10, 2) := by decide +kernel
theorem dX1_meet_192 : decode cX1_meet 192 = .ok (.iload 10, 2) := by decide +kernel
theorem dX1_meet_194 : decode cX1_meet 194 = .ok (.aload_n 0, 1) := by decide +kernel
theorem dX1_meet_195 : decode cX1_meet 195 = .ok (.getfield 7, 3) := by decide +kernel
theorem dX1_meet_198 : decode cX1_meet 198 = .ok (.if_icmp .ge 71, 3) := by decide +kernel
theorem dX1_meet_201 : decode cX1_meet 201 = .ok (.iload 9, 2) := by decide +kernel
theorem dX1_meet_203 : decode cX1_meet 203 = .ok (.ifCond .eq 57, 3) := by decide +kernel
theorem dX1_meet_206 : decode cX1_meet 206 = .ok (.aload_n 0, 1) := by decide +kernel
theorem dX1_meet_207 : decode cX1_meet 207 = .ok (.getfield 76, 3) := by decide +kernel
theorem dX1_meet_210 : decode cX1_meet 210 = .ok (.iload 10, 2) := by decide +kernel
theorem dX1_meet_212 : decode cX1_meet 212 = .ok (.iaload, 1) := by decide +kernel
theorem dX1_meet_213 : decode cX1_meet 213 = .ok (.bipush (-9), 2) := by decide +kernel
theorem dX1_meet_215 : decode cX1_meet 215 = .ok (.if_icmp .eq 41, 3) := by decide +kernel
theorem dX1_meet_218 : decode cX1_meet 218 = .ok (.aload_n 0, 1) := by decide +kernel
theorem dX1_meet_219 : decode cX1_meet 219 = .ok (.getfield 76, 3) := by decide +kernel
theorem dX1_meet_222 : decode cX1_meet 222 = .ok (.iload 10, 2) := by decide +kernel
theorem dX1_meet_224 : decode cX1_meet 224 = .ok (.iaload, 1) := by decide +kernel
theorem dX1_meet_225 : decode cX1_meet 225 = .ok (.iload 6, 2) := by decide +kernel
theorem dX1_meet_227 : decode cX1_meet 227 = .ok (.if_icmp .eq 29, 3) := by decide +kernel
theorem dX1_meet_230 : decode cX1_meet 230 = .ok (.iload 6, 2) := by decide +kernel
theorem dX1_meet_232 : decode cX1_meet 232 = .ok (.aload_n 0, 1) := by decide +kernel
theorem dX1_meet_233 : decode cX1_meet 233 = .ok (.getfield 76, 3) := by decide +kernel
theorem dX1_meet_236 : decode cX1_meet 236 = .ok (.iload 10, 2) := by decide +kernel
theorem dX1_meet_238 : decode cX1_meet 238 = .ok (.iaload, 1) := by decide +kernel
theorem dX1_meet_239 : decode cX1_meet 239 = .ok (.isub, 1) := by decide +kernel
theorem dX1_meet_240 : decode cX1_meet 240 = .ok (.aload_n 0, 1) := by decide +kernel
theorem dX1_meet_241 : decode cX1_meet 241 = .ok (.getfield 17, 3) := by decide +kernel
theorem dX1_meet_244 : decode cX1_meet 244 = .ok (.bipush 8, 2) := by decide +kernel
theorem dX1_meet_246 : decode cX1_meet 246 = .ok (.iload 10, 2) := by decide +kernel
theorem dX1_meet_248 : decode cX1_meet 248 = .ok (.imul, 1) := by decide +kernel
theorem dX1_meet_249 : decode cX1_meet 249 = .ok (.iload 8, 2) := by decide +kernel
theorem dX1_meet_251 : decode cX1_meet 251 = .ok (.iadd, 1) := by decide +kernel
theorem dX1_meet_252 : decode cX1_meet 252 = .ok (.iaload, 1) := by decide +kernel
theorem dX1_meet_253 : decode cX1_meet 253 = .ok (.if_icmp .ge 7, 3) := by decide +kernel
theorem dX1_meet_256 : decode cX1_meet 256 = .ok (.iconst 1, 1) := by decide +kernel
theorem dX1_meet_257 : decode cX1_meet 257 = .ok (.goto 4, 3) := by decide +kernel
theorem dX1_meet_260 : decode cX1_meet 260 = .ok (.iconst 0, 1) := by decide +kernel
theorem dX1_meet_261 : decode cX1_meet 261 = .ok (.istore 9, 2) := by decide +kernel
theorem dX1_meet_263 : decode cX1_meet 263 = .ok (.iinc 10 1, 3) := by decide +kernel
theorem dX1_meet_266 : decode cX1_meet 266 = .ok (.goto (-74), 3) := by decide +kernel
theorem dX1_meet_269 : decode cX1_meet 269 = .ok (.iload 9, 2) := by decide +kernel
theorem dX1_meet_271 : decode cX1_meet 271 = .ok (.ifCond .eq 24, 3) := by decide +kernel
theorem dX1_meet_274 : decode cX1_meet 274 = .ok (.aload_n 0, 1) := by decide +kernel
theorem dX1_meet_275 : decode cX1_meet 275 = .ok (.getfield 76, 3) := by decide +kernel
theorem dX1_meet_278 : decode cX1_meet 278 = .ok (.iload 8, 2) := by decide +kernel
theorem dX1_meet_280 : decode cX1_meet 280 = .ok (.iload 6, 2) := by decide +kernel
theorem dX1_meet_282 : decode cX1_meet 282 = .ok (.iastore, 1) := by decide +kernel
theorem dX1_meet_283 : decode cX1_meet 283 = .ok (.iload 5, 2) := by decide +kernel
theorem dX1_meet_285 : decode cX1_meet 285 = .ok (.aload_n 0, 1) := by decide +kernel
theorem dX1_meet_286 : decode cX1_meet 286 = .ok (.getfield 70, 3) := by decide +kernel
theorem dX1_meet_289 : decode cX1_meet 289 = .ok (.iload 8, 2) := by decide +kernel
theorem dX1_meet_291 : decode cX1_meet 291 = .ok (.iaload, 1) := by decide +kernel
theorem dX1_meet_292 : decode cX1_meet 292 = .ok (.iadd, 1) := by decide +kernel
theorem dX1_meet_293 : decode cX1_meet 293 = .ok (.istore 5, 2) := by decide +kernel
theorem dX1_meet_295 : decode cX1_meet 295 = .ok (.iinc 7 1, 3) := by decide +kernel
theorem dX1_meet_298 : decode cX1_meet 298 = .ok (.goto (-158), 3) := by decide +kernel
theorem dX1_meet_301 : decode cX1_meet 301 = .ok (.iinc 6 1, 3) := by decide +kernel
theorem dX1_meet_304 : decode cX1_meet 304 = .ok (.goto (-173), 3) := by decide +kernel
theorem dX1_meet_307 : decode cX1_meet 307 = .ok (.iload 5, 2) := by decide +kernel
theorem dX1_meet_309 : decode cX1_meet 309 = .ok (.ireturn, 1) := by decide +kernel
theorem dX1_laid_0 : decode cX1_laid 0 = .ok (.aload_n 0, 1) := by decide +kernel
theorem dX1_laid_1 : decode cX1_laid 1 = .ok (.iconst 0, 1) := by decide +kernel
theorem dX1_laid_2 : decode cX1_laid 2 = .ok (.putfield 100, 3) := by decide +kernel
theorem dX1_laid_5 : decode cX1_laid 5 = .ok (.iload_n 1, 1) := by decide +kernel
theorem dX1_laid_6 : decode cX1_laid 6 = .ok (.iload_n 2, 1) := by decide +kernel
theorem dX1_laid_7 : decode cX1_laid 7 = .ok (.invokestatic 252, 3) := by decide +kernel
theorem dX1_laid_10 : decode cX1_laid 10 = .ok (.ifCond .ne 30, 3) := by decide +kernel
theorem dX1_laid_13 : decode cX1_laid 13 = .ok (.iload_n 3, 1) := by decide +kernel
theorem dX1_laid_14 : decode cX1_laid 14 = .ok (.i2l, 1) := by decide +kernel
theorem dX1_laid_15 : decode cX1_laid 15 = .ok (.lconst 0, 1) := by decide +kernel
theorem dX1_laid_16 : decode cX1_laid 16 = .ok (.iload_n 1, 1) := by decide +kernel
theorem dX1_laid_17 : decode cX1_laid 17 = .ok (.iconst 1, 1) := by decide +kernel
theorem dX1_laid_18 : decode cX1_laid 18 = .ok (.isub, 1) := by decide +kernel
theorem dX1_laid_19 : decode cX1_laid 19 = .ok (.i2l, 1) := by decide +kernel
theorem dX1_laid_20 : decode cX1_laid 20 = .ok (.invokestatic 103, 3) := by decide +kernel
theorem dX1_laid_23 : decode cX1_laid 23 = .ok (.ifCond .eq 17, 3) := by decide +kernel
theorem dX1_laid_26 : decode cX1_laid 26 = .ok (.iload 4, 2) := by decide +kernel
theorem dX1_laid_28 : decode cX1_laid 28 = .ok (.i2l, 1) := by decide +kernel
theorem dX1_laid_29 : decode cX1_laid 29 = .ok (.lconst 0, 1) := by decide +kernel
theorem dX1_laid_30 : decode cX1_laid 30 = .ok (.iload_n 2, 1) := by decide +kernel
theorem dX1_laid_31 : decode cX1_laid 31 = .ok (.iconst 1, 1) := by decide +kernel
theorem dX1_laid_32 : decode cX1_laid 32 = .ok (.isub, 1) := by decide +kernel
theorem dX1_laid_33 : decode cX1_laid 33 = .ok (.i2l, 1) := by decide +kernel
theorem dX1_laid_34 : decode cX1_laid 34 = .ok (.invokestatic 103, 3) := by decide +kernel
theorem dX1_laid_37 : decode cX1_laid 37 = .ok (.ifCond .ne 6, 3) := by decide +kernel
theorem dX1_laid_40 : decode cX1_laid 40 = .ok (.bipush (-2), 2) := by decide +kernel
theorem dX1_laid_42 : decode cX1_laid 42 = .ok (.ireturn, 1) := by decide +kernel
theorem dX1_laid_43 : decode cX1_laid 43 = .ok (.aload_n 0, 1) := by decide +kernel
theorem dX1_laid_44 : decode cX1_laid 44 = .ok (.iload_n 1, 1) := by decide +kernel
theorem dX1_laid_45 : decode cX1_laid 45 = .ok (.iload_n 2, 1) := by decide +kernel
theorem dX1_laid_46 : decode cX1_laid 46 = .ok (.invokevirtual 255, 3) := by decide +kernel
theorem dX1_laid_49 : decode cX1_laid 49 = .ok (.pop, 1) := by decide +kernel
theorem dX1_laid_50 : decode cX1_laid 50 = .ok (.aload_n 0, 1) := by decide +kernel
theorem dX1_laid_51 : decode cX1_laid 51 = .ok (.aload_n 0, 1) := by decide +kernel
theorem dX1_laid_52 : decode cX1_laid 52 = .ok (.getfield 247, 3) := by decide +kernel
theorem dX1_laid_55 : decode cX1_laid 55 = .ok (.iload_n 1, 1) := by decide +kernel
theorem dX1_laid_56 : decode cX1_laid 56 = .ok (.iload_n 2, 1) := by decide +kernel
theorem dX1_laid_57 : decode cX1_laid 57 = .ok (.invokevirtual 244, 3) := by decide +kernel
theorem dX1_laid_60 : decode cX1_laid 60 = .ok (.pop, 1) := by decide +kernel
theorem dX1_laid_61 : decode cX1_laid 61 = .ok (.aload_n 0, 1) := by decide +kernel
theorem dX1_laid_62 : decode cX1_laid 62 = .ok (.getfield 73, 3) := by decide +kernel
theorem dX1_laid_65 : decode cX1_laid 65 = .ok (.iload_n 3, 1) := by decide +kernel
theorem dX1_laid_66 : decode cX1_laid 66 = .ok (.iload_n 2, 1) := by decide +kernel
theorem dX1_laid_67 : decode cX1_laid 67 = .ok (.imul, 1) := by decide +kernel
theorem dX1_laid_68 : decode cX1_laid 68 = .ok (.iload 4, 2) := by decide +kernel
theorem dX1_laid_70 : decode cX1_laid 70 = .ok (.iadd, 1) := by decide +kernel
theorem dX1_laid_71 : decode cX1_laid 71 = .ok (.iaload, 1) := by decide +kernel
theorem dX1_laid_72 : decode cX1_laid 72 = .ok (.ireturn, 1) := by decide +kernel
theorem dX1_ship_0 : decode cX1_ship 0 = .ok (.aload_n 0, 1) := by decide +kernel
theorem dX1_ship_1 : decode cX1_ship 1 = .ok (.iconst 0, 1) := by decide +kernel
theorem dX1_ship_2 : decode cX1_ship 2 = .ok (.putfield 100, 3) := by decide +kernel
theorem dX1_ship_5 : decode cX1_ship 5 = .ok (.iload_n 1, 1) := by decide +kernel
theorem dX1_ship_6 : decode cX1_ship 6 = .ok (.i2l, 1) := by decide +kernel
theorem dX1_ship_7 : decode cX1_ship 7 = .ok (.lconst 0, 1) := by decide +kernel
theorem dX1_ship_8 : decode cX1_ship 8 = .ok (.lconst 1, 1) := by decide +kernel
theorem dX1_ship_9 : decode cX1_ship 9 = .ok (.invokestatic 103, 3) := by decide +kernel
theorem dX1_ship_12 : decode cX1_ship 12 = .ok (.ifCond .eq 39, 3) := by decide +kernel
theorem dX1_ship_15 : decode cX1_ship 15 = .ok (.iload_n 2, 1) := by decide +kernel
theorem dX1_ship_16 : decode cX1_ship 16 = .ok (.i2l, 1) := by decide +kernel
theorem dX1_ship_17 : decode cX1_ship 17 = .ok (.lconst 1, 1) := by decide +kernel
theorem dX1_ship_18 : decode cX1_ship 18 = .ok (.ldc2_w 158, 3) := by decide +kernel
theorem dX1_ship_21 : decode cX1_ship 21 = .ok (.invokestatic 103, 3) := by decide +kernel
theorem dX1_ship_24 : decode cX1_ship 24 = .ok (.ifCond .eq 27, 3) := by decide +kernel
theorem dX1_ship_27 : decode cX1_ship 27 = .ok (.iload_n 3, 1) := by decide +kernel
theorem dX1_ship_28 : decode cX1_ship 28 = .ok (.i2l, 1) := by decide +kernel
theorem dX1_ship_29 : decode cX1_ship 29 = .ok (.lconst 0, 1) := by decide +kernel
theorem dX1_ship_30 : decode cX1_ship 30 = .ok (.iload_n 2, 1) := by decide +kernel
theorem dX1_ship_31 : decode cX1_ship 31 = .ok (.i2l, 1) := by decide +kernel
theorem dX1_ship_32 : decode cX1_ship 32 = .ok (.invokestatic 103, 3) := by decide +kernel
theorem dX1_ship_35 : decode cX1_ship 35 = .ok (.ifCond .eq 16, 3) := by decide +kernel
theorem dX1_ship_38 : decode cX1_ship 38 = .ok (.iload 4, 2) := by decide +kernel
theorem dX1_ship_40 : decode cX1_ship 40 = .ok (.i2l, 1) := by decide +kernel
theorem dX1_ship_41 : decode cX1_ship 41 = .ok (.lconst 0, 1) := by decide +kernel
theorem dX1_ship_42 : decode cX1_ship 42 = .ok (.ldc2_w 158, 3) := by decide +kernel
theorem dX1_ship_45 : decode cX1_ship 45 = .ok (.invokestatic 103, 3) := by decide +kernel
theorem dX1_ship_48 : decode cX1_ship 48 = .ok (.ifCond .ne 6, 3) := by decide +kernel
theorem dX1_ship_51 : decode cX1_ship 51 = .ok (.bipush (-2), 2) := by decide +kernel
theorem dX1_ship_53 : decode cX1_ship 53 = .ok (.ireturn, 1) := by decide +kernel
theorem dX1_ship_54 : decode cX1_ship 54 = .ok (.aload_n 0, 1) := by decide +kernel
theorem dX1_ship_55 : decode cX1_ship 55 = .ok (.getfield 110, 3) := by decide +kernel
theorem dX1_ship_58 : decode cX1_ship 58 = .ok (.bipush 10, 2) := by decide +kernel
theorem dX1_ship_60 : decode cX1_ship 60 = .ok (.if_icmp .ne 6, 3) := by decide +kernel
theorem dX1_ship_63 : decode cX1_ship 63 = .ok (.bipush (-4), 2) := by decide +kernel
theorem dX1_ship_65 : decode cX1_ship 65 = .ok (.ireturn, 1) := by decide +kernel
theorem dX1_ship_66 : decode cX1_ship 66 = .ok (.aload_n 0, 1) := by decide +kernel
theorem dX1_ship_67 : decode cX1_ship 67 = .ok (.getfield 31, 3) := by decide +kernel
theorem dX1_ship_70 : decode cX1_ship 70 = .ok (.aload_n 0, 1) := by decide +kernel
theorem dX1_ship_71 : decode cX1_ship 71 = .ok (.getfield 110, 3) := by decide +kernel
theorem dX1_ship_74 : decode cX1_ship 74 = .ok (.iload_n 1, 1) := by decide +kernel
theorem dX1_ship_75 : decode cX1_ship 75 = .ok (.iastore, 1) := by decide +kernel
theorem dX1_ship_76 : decode cX1_ship 76 = .ok (.aload_n 0, 1) := by decide +kernel
theorem dX1_ship_77 : decode cX1_ship 77 = .ok (.getfield 34, 3) := by decide +kernel
theorem dX1_ship_80 : decode cX1_ship 80 = .ok (.aload_n 0, 1) := by decide +kernel
theorem dX1_ship_81 : decode cX1_ship 81 = .ok (.getfield 110, 3) := by decide +kernel
theorem dX1_ship_84 : decode cX1_ship 84 = .ok (.iload_n 2, 1) := by decide +kernel
theorem dX1_ship_85 : decode cX1_ship 85 = .ok (.iastore, 1) := by decide +kernel
theorem dX1_ship_86 : decode cX1_ship 86 = .ok (.aload_n 0, 1) := by decide +kernel
theorem dX1_ship_87 : decode cX1_ship 87 = .ok (.getfield 37, 3) := by decide +kernel
theorem dX1_ship_90 : decode cX1_ship 90 = .ok (.aload_n 0, 1) := by decide +kernel
theorem dX1_ship_91 : decode cX1_ship 91 = .ok (.getfield 110, 3) := by decide +kernel
theorem dX1_ship_94 : decode cX1_ship 94 = .ok (.iload_n 3, 1) := by decide +kernel
theorem dX1_ship_95 : decode cX1_ship 95 = .ok (.iastore, 1) := by decide +kernel
theorem dX1_ship_96 : decode cX1_ship 96 = .ok (.aload_n 0, 1) := by decide +kernel
theorem dX1_ship_97 : decode cX1_ship 97 = .ok (.getfield 40, 3) := by decide +kernel
theorem dX1_ship_100 : decode cX1_ship 100 = .ok (.aload_n 0, 1) := by decide +kernel
theorem dX1_ship_101 : decode cX1_ship 101 = .ok (.getfield 110, 3) := by decide +kernel
theorem dX1_ship_104 : decode cX1_ship 104 = .ok (.iload 4, 2) := by decide +kernel
theorem dX1_ship_106 : decode cX1_ship 106 = .ok (.iastore, 1) := by decide +kernel
theorem dX1_ship_107 : decode cX1_ship 107 = .ok (.aload_n 0, 1) := by decide +kernel
theorem dX1_ship_108 : decode cX1_ship 108 = .ok (.dup, 1) := by decide +kernel
theorem dX1_ship_109 : decode cX1_ship 109 = .ok (.getfield 110, 3) := by decide +kernel
theorem dX1_ship_112 : decode cX1_ship 112 = .ok (.iconst 1, 1) := by decide +kernel
theorem dX1_ship_113 : decode cX1_ship 113 = .ok (.iadd, 1) := by decide +kernel
theorem dX1_ship_114 : decode cX1_ship 114 = .ok (.putfield 110, 3) := by decide +kernel
theorem dX1_ship_117 : decode cX1_ship 117 = .ok (.aload_n 0, 1) := by decide +kernel
theorem dX1_ship_118 : decode cX1_ship 118 = .ok (.getfield 110, 3) := by decide +kernel
theorem dX1_ship_121 : decode cX1_ship 121 = .ok (.iconst 1, 1) := by decide +kernel
theorem dX1_ship_122 : decode cX1_ship 122 = .ok (.isub, 1) := by decide +kernel
theorem dX1_ship_123 : decode cX1_ship 123 = .ok (.ireturn, 1) := by decide +kernel
theorem dX1_of_0 : decode cX1_of 0 = .ok (.aload_n 0, 1) := by decide +kernel
theorem dX1_of_1 : decode cX1_of 1 = .ok (.iconst 0, 1) := by decide +kernel
theorem dX1_of_2 : decode cX1_of 2 = .ok (.putfield 100, 3) := by decide +kernel
theorem dX1_of_5 : decode cX1_of 5 = .ok (.aload_n 0, 1) := by decide +kernel
theorem dX1_of_6 : decode cX1_of 6 = .ok (.iload_n 1, 1) := by decide +kernel
theorem dX1_of_7 : decode cX1_of 7 = .ok (.invokevirtual 259, 3) := by decide +kernel
theorem dX1_of_10 : decode cX1_of 10 = .ok (.ifCond .eq 5, 3) := by decide +kernel
theorem dX1_of_13 : decode cX1_of 13 = .ok (.iconst (-1), 1) := by decide +kernel
theorem dX1_of_14 : decode cX1_of 14 = .ok (.ireturn, 1) := by decide +kernel
theorem dX1_of_15 : decode cX1_of 15 = .ok (.iload_n 2, 1) := by decide +kernel
theorem dX1_of_16 : decode cX1_of 16 = .ok (.tableswitch 105 0 6 #[44, 51, 58, 65, 72, 87, 96], 44) := by decide +kernel
theorem dX1_of_60 : decode cX1_of 60 = .ok (.aload_n 0, 1) := by decide +kernel
theorem dX1_of_61 : decode cX1_of 61 = .ok (.getfield 31, 3) := by decide +kernel
theorem dX1_of_64 : decode cX1_of 64 = .ok (.iload_n 1, 1) := by decide +kernel
theorem dX1_of_65 : decode cX1_of 65 = .ok (.iaload, 1) := by decide +kernel
theorem dX1_of_66 : decode cX1_of 66 = .ok (.ireturn, 1) := by decide +kernel
theorem dX1_of_67 : decode cX1_of 67 = .ok (.aload_n 0, 1) := by decide +kernel
theorem dX1_of_68 : decode cX1_of 68 = .ok (.getfield 34, 3) := by decide +kernel
theorem dX1_of_71 : decode cX1_of 71 = .ok (.iload_n 1, 1) := by decide +kernel
theorem dX1_of_72 : decode cX1_of 72 = .ok (.iaload, 1) := by decide +kernel
theorem dX1_of_73 : decode cX1_of 73 = .ok (.ireturn, 1) := by decide +kernel
theorem dX1_of_74 : decode cX1_of 74 = .ok (.aload_n 0, 1) := by decide +kernel
theorem dX1_of_75 : decode cX1_of 75 = .ok (.getfield 37, 3) := by decide +kernel
theorem dX1_of_78 : decode cX1_of 78 = .ok (.iload_n 1, 1) := by decide +kernel
theorem dX1_of_79 : decode cX1_of 79 = .ok (.iaload, 1) := by decide +kernel
theorem dX1_of_80 : decode cX1_of 80 = .ok (.ireturn, 1) := by decide +kernel
theorem dX1_of_81 : decode cX1_of 81 = .ok (.aload_n 0, 1) := by decide +kernel
theorem dX1_of_82 : decode cX1_of 82 = .ok (.getfield 40, 3) := by decide +kernel
theorem dX1_of_85 : decode cX1_of 85 = .ok (.iload_n 1, 1) := by decide +kernel
theorem dX1_of_86 : decode cX1_of 86 = .ok (.iaload, 1) := by decide +kernel
theorem dX1_of_87 : decode cX1_of 87 = .ok (.ireturn, 1) := by decide +kernel
theorem dX1_of_88 : decode cX1_of 88 = .ok (.aload_n 0, 1) := by decide +kernel
theorem dX1_of_89 : decode cX1_of 89 = .ok (.getfield 43, 3) := by decide +kernel
theorem dX1_of_92 : decode cX1_of 92 = .ok (.iload_n 1, 1) := by decide +kernel
theorem dX1_of_93 : decode cX1_of 93 = .ok (.baload, 1) := by decide +kernel
theorem dX1_of_94 : decode cX1_of 94 = .ok (.ifCond .eq 7, 3) := by decide +kernel
theorem dX1_of_97 : decode cX1_of 97 = .ok (.iconst 0, 1) := by decide +kernel
theorem dX1_of_98 : decode cX1_of 98 = .ok (.goto 4, 3) := by decide +kernel
theorem dX1_of_101 : decode cX1_of 101 = .ok (.iconst 1, 1) := by decide +kernel
theorem dX1_of_102 : decode cX1_of 102 = .ok (.ireturn, 1) := by decide +kernel
theorem dX1_of_103 : decode cX1_of 103 = .ok (.aload_n 0, 1) := by decide +kernel
theorem dX1_of_104 : decode cX1_of 104 = .ok (.bipush 10, 2) := by decide +kernel
theorem dX1_of_106 : decode cX1_of 106 = .ok (.iload_n 1, 1) := by decide +kernel
theorem dX1_of_107 : decode cX1_of 107 = .ok (.iadd, 1) := by decide +kernel
theorem dX1_of_108 : decode cX1_of 108 = .ok (.invokevirtual 162, 3) := by decide +kernel
theorem dX1_of_111 : decode cX1_of 111 = .ok (.ireturn, 1) := by decide +kernel
theorem dX1_of_112 : decode cX1_of 112 = .ok (.aload_n 0, 1) := by decide +kernel
theorem dX1_of_113 : decode cX1_of 113 = .ok (.bipush 10, 2) := by decide +kernel
theorem dX1_of_115 : decode cX1_of 115 = .ok (.iload_n 1, 1) := by decide +kernel
theorem dX1_of_116 : decode cX1_of 116 = .ok (.iadd, 1) := by decide +kernel
theorem dX1_of_117 : decode cX1_of 117 = .ok (.invokevirtual 262, 3) := by decide +kernel
theorem dX1_of_120 : decode cX1_of 120 = .ok (.ireturn, 1) := by decide +kernel
theorem dX1_of_121 : decode cX1_of 121 = .ok (.bipush (-2), 2) := by decide +kernel
theorem dX1_of_123 : decode cX1_of 123 = .ok (.ireturn, 1) := by decide +kernel
theorem dX1_noShip_0 : decode cX1_noShip 0 = .ok (.iload_n 1, 1) := by decide +kernel
theorem dX1_noShip_1 : decode cX1_noShip 1 = .ok (.i2l, 1) := by decide +kernel
theorem dX1_noShip_2 : decode cX1_noShip 2 = .ok (.lconst 0, 1) := by decide +kernel
theorem dX1_noShip_3 : decode cX1_noShip 3 = .ok (.aload_n 0, 1) := by decide +kernel
theorem dX1_noShip_4 : decode cX1_noShip 4 = .ok (.getfield 110, 3) := by decide +kernel
theorem dX1_noShip_7 : decode cX1_noShip 7 = .ok (.iconst 1, 1) := by decide +kernel
theorem dX1_noShip_8 : decode cX1_noShip 8 = .ok (.isub, 1) := by decide +kernel
