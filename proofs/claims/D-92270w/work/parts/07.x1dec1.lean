set_option maxRecDepth 100000
theorem dX1_init_0 : decode cX1_init 0 = .ok (.aload_n 0, 1) := by decide +kernel
theorem dX1_init_1 : decode cX1_init 1 = .ok (.invokespecial 1, 3) := by decide +kernel
theorem dX1_init_4 : decode cX1_init 4 = .ok (.aload_n 0, 1) := by decide +kernel
theorem dX1_init_5 : decode cX1_init 5 = .ok (.iconst 4, 1) := by decide +kernel
theorem dX1_init_6 : decode cX1_init 6 = .ok (.putfield 7, 3) := by decide +kernel
theorem dX1_init_9 : decode cX1_init 9 = .ok (.aload_n 0, 1) := by decide +kernel
theorem dX1_init_10 : decode cX1_init 10 = .ok (.bipush 64, 2) := by decide +kernel
theorem dX1_init_12 : decode cX1_init 12 = .ok (.newarray .boolean, 2) := by decide +kernel
theorem dX1_init_14 : decode cX1_init 14 = .ok (.putfield 13, 3) := by decide +kernel
theorem dX1_init_17 : decode cX1_init 17 = .ok (.aload_n 0, 1) := by decide +kernel
theorem dX1_init_18 : decode cX1_init 18 = .ok (.bipush 64, 2) := by decide +kernel
theorem dX1_init_20 : decode cX1_init 20 = .ok (.newarray .int, 2) := by decide +kernel
theorem dX1_init_22 : decode cX1_init 22 = .ok (.putfield 17, 3) := by decide +kernel
theorem dX1_init_25 : decode cX1_init 25 = .ok (.aload_n 0, 1) := by decide +kernel
theorem dX1_init_26 : decode cX1_init 26 = .ok (.sipush 320, 3) := by decide +kernel
theorem dX1_init_29 : decode cX1_init 29 = .ok (.newarray .int, 2) := by decide +kernel
theorem dX1_init_31 : decode cX1_init 31 = .ok (.putfield 21, 3) := by decide +kernel
theorem dX1_init_34 : decode cX1_init 34 = .ok (.aload_n 0, 1) := by decide +kernel
theorem dX1_init_35 : decode cX1_init 35 = .ok (.bipush 40, 2) := by decide +kernel
theorem dX1_init_37 : decode cX1_init 37 = .ok (.newarray .int, 2) := by decide +kernel
theorem dX1_init_39 : decode cX1_init 39 = .ok (.putfield 24, 3) := by decide +kernel
theorem dX1_init_42 : decode cX1_init 42 = .ok (.aload_n 0, 1) := by decide +kernel
theorem dX1_init_43 : decode cX1_init 43 = .ok (.ldc 27, 2) := by decide +kernel
theorem dX1_init_45 : decode cX1_init 45 = .ok (.newarray .int, 2) := by decide +kernel
theorem dX1_init_47 : decode cX1_init 47 = .ok (.putfield 28, 3) := by decide +kernel
theorem dX1_init_50 : decode cX1_init 50 = .ok (.aload_n 0, 1) := by decide +kernel
theorem dX1_init_51 : decode cX1_init 51 = .ok (.bipush 10, 2) := by decide +kernel
theorem dX1_init_53 : decode cX1_init 53 = .ok (.newarray .int, 2) := by decide +kernel
theorem dX1_init_55 : decode cX1_init 55 = .ok (.putfield 31, 3) := by decide +kernel
theorem dX1_init_58 : decode cX1_init 58 = .ok (.aload_n 0, 1) := by decide +kernel
theorem dX1_init_59 : decode cX1_init 59 = .ok (.bipush 10, 2) := by decide +kernel
theorem dX1_init_61 : decode cX1_init 61 = .ok (.newarray .int, 2) := by decide +kernel
theorem dX1_init_63 : decode cX1_init 63 = .ok (.putfield 34, 3) := by decide +kernel
theorem dX1_init_66 : decode cX1_init 66 = .ok (.aload_n 0, 1) := by decide +kernel
theorem dX1_init_67 : decode cX1_init 67 = .ok (.bipush 10, 2) := by decide +kernel
theorem dX1_init_69 : decode cX1_init 69 = .ok (.newarray .int, 2) := by decide +kernel
theorem dX1_init_71 : decode cX1_init 71 = .ok (.putfield 37, 3) := by decide +kernel
theorem dX1_init_74 : decode cX1_init 74 = .ok (.aload_n 0, 1) := by decide +kernel
theorem dX1_init_75 : decode cX1_init 75 = .ok (.bipush 10, 2) := by decide +kernel
theorem dX1_init_77 : decode cX1_init 77 = .ok (.newarray .int, 2) := by decide +kernel
theorem dX1_init_79 : decode cX1_init 79 = .ok (.putfield 40, 3) := by decide +kernel
theorem dX1_init_82 : decode cX1_init 82 = .ok (.aload_n 0, 1) := by decide +kernel
theorem dX1_init_83 : decode cX1_init 83 = .ok (.bipush 10, 2) := by decide +kernel
theorem dX1_init_85 : decode cX1_init 85 = .ok (.newarray .boolean, 2) := by decide +kernel
theorem dX1_init_87 : decode cX1_init 87 = .ok (.putfield 43, 3) := by decide +kernel
theorem dX1_init_90 : decode cX1_init 90 = .ok (.aload_n 0, 1) := by decide +kernel
theorem dX1_init_91 : decode cX1_init 91 = .ok (.sipush 540, 3) := by decide +kernel
theorem dX1_init_94 : decode cX1_init 94 = .ok (.newarray .int, 2) := by decide +kernel
theorem dX1_init_96 : decode cX1_init 96 = .ok (.putfield 46, 3) := by decide +kernel
theorem dX1_init_99 : decode cX1_init 99 = .ok (.aload_n 0, 1) := by decide +kernel
theorem dX1_init_100 : decode cX1_init 100 = .ok (.bipush 8, 2) := by decide +kernel
theorem dX1_init_102 : decode cX1_init 102 = .ok (.newarray .int, 2) := by decide +kernel
theorem dX1_init_104 : decode cX1_init 104 = .ok (.putfield 49, 3) := by decide +kernel
theorem dX1_init_107 : decode cX1_init 107 = .ok (.aload_n 0, 1) := by decide +kernel
theorem dX1_init_108 : decode cX1_init 108 = .ok (.bipush 8, 2) := by decide +kernel
theorem dX1_init_110 : decode cX1_init 110 = .ok (.newarray .int, 2) := by decide +kernel
theorem dX1_init_112 : decode cX1_init 112 = .ok (.putfield 52, 3) := by decide +kernel
theorem dX1_init_115 : decode cX1_init 115 = .ok (.aload_n 0, 1) := by decide +kernel
theorem dX1_init_116 : decode cX1_init 116 = .ok (.sipush 480, 3) := by decide +kernel
theorem dX1_init_119 : decode cX1_init 119 = .ok (.newarray .int, 2) := by decide +kernel
theorem dX1_init_121 : decode cX1_init 121 = .ok (.putfield 55, 3) := by decide +kernel
theorem dX1_init_124 : decode cX1_init 124 = .ok (.aload_n 0, 1) := by decide +kernel
theorem dX1_init_125 : decode cX1_init 125 = .ok (.bipush 64, 2) := by decide +kernel
theorem dX1_init_127 : decode cX1_init 127 = .ok (.newarray .boolean, 2) := by decide +kernel
theorem dX1_init_129 : decode cX1_init 129 = .ok (.putfield 58, 3) := by decide +kernel
theorem dX1_init_132 : decode cX1_init 132 = .ok (.aload_n 0, 1) := by decide +kernel
theorem dX1_init_133 : decode cX1_init 133 = .ok (.sipush 360, 3) := by decide +kernel
theorem dX1_init_136 : decode cX1_init 136 = .ok (.newarray .int, 2) := by decide +kernel
theorem dX1_init_138 : decode cX1_init 138 = .ok (.putfield 61, 3) := by decide +kernel
theorem dX1_init_141 : decode cX1_init 141 = .ok (.aload_n 0, 1) := by decide +kernel
theorem dX1_init_142 : decode cX1_init 142 = .ok (.bipush 10, 2) := by decide +kernel
theorem dX1_init_144 : decode cX1_init 144 = .ok (.putfield 64, 3) := by decide +kernel
theorem dX1_init_147 : decode cX1_init 147 = .ok (.aload_n 0, 1) := by decide +kernel
theorem dX1_init_148 : decode cX1_init 148 = .ok (.bipush 50, 2) := by decide +kernel
theorem dX1_init_150 : decode cX1_init 150 = .ok (.putfield 67, 3) := by decide +kernel
theorem dX1_init_153 : decode cX1_init 153 = .ok (.aload_n 0, 1) := by decide +kernel
theorem dX1_init_154 : decode cX1_init 154 = .ok (.bipush 8, 2) := by decide +kernel
theorem dX1_init_156 : decode cX1_init 156 = .ok (.newarray .int, 2) := by decide +kernel
theorem dX1_init_158 : decode cX1_init 158 = .ok (.putfield 70, 3) := by decide +kernel
theorem dX1_init_161 : decode cX1_init 161 = .ok (.aload_n 0, 1) := by decide +kernel
theorem dX1_init_162 : decode cX1_init 162 = .ok (.bipush 6, 2) := by decide +kernel
theorem dX1_init_164 : decode cX1_init 164 = .ok (.newarray .int, 2) := by decide +kernel
theorem dX1_init_166 : decode cX1_init 166 = .ok (.putfield 73, 3) := by decide +kernel
theorem dX1_init_169 : decode cX1_init 169 = .ok (.aload_n 0, 1) := by decide +kernel
theorem dX1_init_170 : decode cX1_init 170 = .ok (.bipush 8, 2) := by decide +kernel
theorem dX1_init_172 : decode cX1_init 172 = .ok (.newarray .int, 2) := by decide +kernel
theorem dX1_init_174 : decode cX1_init 174 = .ok (.putfield 76, 3) := by decide +kernel
theorem dX1_init_177 : decode cX1_init 177 = .ok (.aload_n 0, 1) := by decide +kernel
theorem dX1_init_178 : decode cX1_init 178 = .ok (.bipush 40, 2) := by decide +kernel
theorem dX1_init_180 : decode cX1_init 180 = .ok (.newarray .int, 2) := by decide +kernel
theorem dX1_init_182 : decode cX1_init 182 = .ok (.putfield 79, 3) := by decide +kernel
theorem dX1_init_185 : decode cX1_init 185 = .ok (.aload_n 0, 1) := by decide +kernel
theorem dX1_init_186 : decode cX1_init 186 = .ok (.bipush 40, 2) := by decide +kernel
theorem dX1_init_188 : decode cX1_init 188 = .ok (.newarray .int, 2) := by decide +kernel
theorem dX1_init_190 : decode cX1_init 190 = .ok (.putfield 82, 3) := by decide +kernel
theorem dX1_init_193 : decode cX1_init 193 = .ok (.aload_n 0, 1) := by decide +kernel
theorem dX1_init_194 : decode cX1_init 194 = .ok (.bipush 40, 2) := by decide +kernel
theorem dX1_init_196 : decode cX1_init 196 = .ok (.newarray .int, 2) := by decide +kernel
theorem dX1_init_198 : decode cX1_init 198 = .ok (.putfield 85, 3) := by decide +kernel
theorem dX1_init_201 : decode cX1_init 201 = .ok (.aload_n 0, 1) := by decide +kernel
theorem dX1_init_202 : decode cX1_init 202 = .ok (.bipush 40, 2) := by decide +kernel
theorem dX1_init_204 : decode cX1_init 204 = .ok (.newarray .boolean, 2) := by decide +kernel
theorem dX1_init_206 : decode cX1_init 206 = .ok (.putfield 88, 3) := by decide +kernel
theorem dX1_init_209 : decode cX1_init 209 = .ok (.aload_n 0, 1) := by decide +kernel
theorem dX1_init_210 : decode cX1_init 210 = .ok (.bipush 40, 2) := by decide +kernel
theorem dX1_init_212 : decode cX1_init 212 = .ok (.newarray .int, 2) := by decide +kernel
theorem dX1_init_214 : decode cX1_init 214 = .ok (.putfield 91, 3) := by decide +kernel
theorem dX1_init_217 : decode cX1_init 217 = .ok (.aload_n 0, 1) := by decide +kernel
theorem dX1_init_218 : decode cX1_init 218 = .ok (.bipush 10, 2) := by decide +kernel
theorem dX1_init_220 : decode cX1_init 220 = .ok (.newarray .int, 2) := by decide +kernel
theorem dX1_init_222 : decode cX1_init 222 = .ok (.putfield 94, 3) := by decide +kernel
theorem dX1_init_225 : decode cX1_init 225 = .ok (.aload_n 0, 1) := by decide +kernel
theorem dX1_init_226 : decode cX1_init 226 = .ok (.bipush 40, 2) := by decide +kernel
theorem dX1_init_228 : decode cX1_init 228 = .ok (.newarray .int, 2) := by decide +kernel
theorem dX1_init_230 : decode cX1_init 230 = .ok (.putfield 97, 3) := by decide +kernel
theorem dX1_init_233 : decode cX1_init 233 = .ok (.return_, 1) := by decide +kernel
theorem dX1_streets_0 : decode cX1_streets 0 = .ok (.aload_n 0, 1) := by decide +kernel
theorem dX1_streets_1 : decode cX1_streets 1 = .ok (.iconst 0, 1) := by decide +kernel
theorem dX1_streets_2 : decode cX1_streets 2 = .ok (.putfield 100, 3) := by decide +kernel
theorem dX1_streets_5 : decode cX1_streets 5 = .ok (.iload_n 1, 1) := by decide +kernel
theorem dX1_streets_6 : decode cX1_streets 6 = .ok (.i2l, 1) := by decide +kernel
theorem dX1_streets_7 : decode cX1_streets 7 = .ok (.lconst 1, 1) := by decide +kernel
theorem dX1_streets_8 : decode cX1_streets 8 = .ok (.ldc2_w 118, 3) := by decide +kernel
theorem dX1_streets_11 : decode cX1_streets 11 = .ok (.invokestatic 103, 3) := by decide +kernel
theorem dX1_streets_14 : decode cX1_streets 14 = .ok (.ifCond .ne 6, 3) := by decide +kernel
theorem dX1_streets_17 : decode cX1_streets 17 = .ok (.bipush (-2), 2) := by decide +kernel
theorem dX1_streets_19 : decode cX1_streets 19 = .ok (.ireturn, 1) := by decide +kernel
theorem dX1_streets_20 : decode cX1_streets 20 = .ok (.aload_n 0, 1) := by decide +kernel
theorem dX1_streets_21 : decode cX1_streets 21 = .ok (.getfield 107, 3) := by decide +kernel
theorem dX1_streets_24 : decode cX1_streets 24 = .ok (.ifCond .le 6, 3) := by decide +kernel
theorem dX1_streets_27 : decode cX1_streets 27 = .ok (.bipush (-3), 2) := by decide +kernel
theorem dX1_streets_29 : decode cX1_streets 29 = .ok (.ireturn, 1) := by decide +kernel
theorem dX1_streets_30 : decode cX1_streets 30 = .ok (.aload_n 0, 1) := by decide +kernel
theorem dX1_streets_31 : decode cX1_streets 31 = .ok (.getfield 7, 3) := by decide +kernel
theorem dX1_streets_34 : decode cX1_streets 34 = .ok (.istore_n 2, 1) := by decide +kernel
theorem dX1_streets_35 : decode cX1_streets 35 = .ok (.aload_n 0, 1) := by decide +kernel
theorem dX1_streets_36 : decode cX1_streets 36 = .ok (.iload_n 1, 1) := by decide +kernel
theorem dX1_streets_37 : decode cX1_streets 37 = .ok (.putfield 7, 3) := by decide +kernel
theorem dX1_streets_40 : decode cX1_streets 40 = .ok (.iconst 0, 1) := by decide +kernel
theorem dX1_streets_41 : decode cX1_streets 41 = .ok (.istore_n 3, 1) := by decide +kernel
theorem dX1_streets_42 : decode cX1_streets 42 = .ok (.iload_n 3, 1) := by decide +kernel
theorem dX1_streets_43 : decode cX1_streets 43 = .ok (.bipush 8, 2) := by decide +kernel
theorem dX1_streets_45 : decode cX1_streets 45 = .ok (.if_icmp .ge 68, 3) := by decide +kernel
theorem dX1_streets_48 : decode cX1_streets 48 = .ok (.iconst 0, 1) := by decide +kernel
theorem dX1_streets_49 : decode cX1_streets 49 = .ok (.istore 4, 2) := by decide +kernel
theorem dX1_streets_51 : decode cX1_streets 51 = .ok (.iload 4, 2) := by decide +kernel
theorem dX1_streets_53 : decode cX1_streets 53 = .ok (.bipush 8, 2) := by decide +kernel
theorem dX1_streets_55 : decode cX1_streets 55 = .ok (.if_icmp .ge 52, 3) := by decide +kernel
theorem dX1_streets_58 : decode cX1_streets 58 = .ok (.aload_n 0, 1) := by decide +kernel
theorem dX1_streets_59 : decode cX1_streets 59 = .ok (.getfield 13, 3) := by decide +kernel
theorem dX1_streets_62 : decode cX1_streets 62 = .ok (.bipush 8, 2) := by decide +kernel
theorem dX1_streets_64 : decode cX1_streets 64 = .ok (.iload_n 3, 1) := by decide +kernel
theorem dX1_streets_65 : decode cX1_streets 65 = .ok (.imul, 1) := by decide +kernel
theorem dX1_streets_66 : decode cX1_streets 66 = .ok (.iload 4, 2) := by decide +kernel
theorem dX1_streets_68 : decode cX1_streets 68 = .ok (.iadd, 1) := by decide +kernel
theorem dX1_streets_69 : decode cX1_streets 69 = .ok (.aload_n 0, 1) := by decide +kernel
theorem dX1_streets_70 : decode cX1_streets 70 = .ok (.getfield 13, 3) := by decide +kernel
theorem dX1_streets_73 : decode cX1_streets 73 = .ok (.bipush 8, 2) := by decide +kernel
theorem dX1_streets_75 : decode cX1_streets 75 = .ok (.iload_n 3, 1) := by decide +kernel
theorem dX1_streets_76 : decode cX1_streets 76 = .ok (.imul, 1) := by decide +kernel
theorem dX1_streets_77 : decode cX1_streets 77 = .ok (.iload 4, 2) := by decide +kernel
theorem dX1_streets_79 : decode cX1_streets 79 = .ok (.iadd, 1) := by decide +kernel
theorem dX1_streets_80 : decode cX1_streets 80 = .ok (.baload, 1) := by decide +kernel
theorem dX1_streets_81 : decode cX1_streets 81 = .ok (.ifCond .eq 18, 3) := by decide +kernel
theorem dX1_streets_84 : decode cX1_streets 84 = .ok (.iload_n 3, 1) := by decide +kernel
theorem dX1_streets_85 : decode cX1_streets 85 = .ok (.iload_n 1, 1) := by decide +kernel
theorem dX1_streets_86 : decode cX1_streets 86 = .ok (.if_icmp .ge 13, 3) := by decide +kernel
theorem dX1_streets_89 : decode cX1_streets 89 = .ok (.iload 4, 2) := by decide +kernel
theorem dX1_streets_91 : decode cX1_streets 91 = .ok (.iload_n 1, 1) := by decide +kernel
theorem dX1_streets_92 : decode cX1_streets 92 = .ok (.if_icmp .ge 7, 3) := by decide +kernel
theorem dX1_streets_95 : decode cX1_streets 95 = .ok (.iconst 1, 1) := by decide +kernel
theorem dX1_streets_96 : decode cX1_streets 96 = .ok (.goto 4, 3) := by decide +kernel
theorem dX1_streets_99 : decode cX1_streets 99 = .ok (.iconst 0, 1) := by decide +kernel
theorem dX1_streets_100 : decode cX1_streets 100 = .ok (.bastore, 1) := by decide +kernel
theorem dX1_streets_101 : decode cX1_streets 101 = .ok (.iinc 4 1, 3) := by decide +kernel
theorem dX1_streets_104 : decode cX1_streets 104 = .ok (.goto (-53), 3) := by decide +kernel
theorem dX1_streets_107 : decode cX1_streets 107 = .ok (.iinc 3 1, 3) := by decide +kernel
theorem dX1_streets_110 : decode cX1_streets 110 = .ok (.goto (-68), 3) := by decide +kernel
theorem dX1_streets_113 : decode cX1_streets 113 = .ok (.iload_n 2, 1) := by decide +kernel
theorem dX1_streets_114 : decode cX1_streets 114 = .ok (.ireturn, 1) := by decide +kernel
theorem dX1_in_0 : decode cX1_in 0 = .ok (.lload_n 0, 1) := by decide +kernel
theorem dX1_in_1 : decode cX1_in 1 = .ok (.lload_n 2, 1) := by decide +kernel
theorem dX1_in_2 : decode cX1_in 2 = .ok (.lcmp, 1) := by decide +kernel
theorem dX1_in_3 : decode cX1_in 3 = .ok (.ifCond .lt 14, 3) := by decide +kernel
theorem dX1_in_6 : decode cX1_in 6 = .ok (.lload_n 0, 1) := by decide +kernel
theorem dX1_in_7 : decode cX1_in 7 = .ok (.lload 4, 2) := by decide +kernel
theorem dX1_in_9 : decode cX1_in 9 = .ok (.lcmp, 1) := by decide +kernel
theorem dX1_in_10 : decode cX1_in 10 = .ok (.ifCond .gt 7, 3) := by decide +kernel
theorem dX1_in_13 : decode cX1_in 13 = .ok (.iconst 1, 1) := by decide +kernel
theorem dX1_in_14 : decode cX1_in 14 = .ok (.goto 4, 3) := by decide +kernel
theorem dX1_in_17 : decode cX1_in 17 = .ok (.iconst 0, 1) := by decide +kernel
theorem dX1_in_18 : decode cX1_in 18 = .ok (.ireturn, 1) := by decide +kernel
theorem dX1_way_0 : decode cX1_way 0 = .ok (.aload_n 0, 1) := by decide +kernel
theorem dX1_way_1 : decode cX1_way 1 = .ok (.iconst 0, 1) := by decide +kernel
theorem dX1_way_2 : decode cX1_way 2 = .ok (.putfield 100, 3) := by decide +kernel
theorem dX1_way_5 : decode cX1_way 5 = .ok (.aload_n 0, 1) := by decide +kernel
theorem dX1_way_6 : decode cX1_way 6 = .ok (.iload_n 1, 1) := by decide +kernel
theorem dX1_way_7 : decode cX1_way 7 = .ok (.invokevirtual 120, 3) := by decide +kernel
theorem dX1_way_10 : decode cX1_way 10 = .ok (.ifCond .ne 11, 3) := by decide +kernel
theorem dX1_way_13 : decode cX1_way 13 = .ok (.aload_n 0, 1) := by decide +kernel
theorem dX1_way_14 : decode cX1_way 14 = .ok (.iload_n 2, 1) := by decide +kernel
theorem dX1_way_15 : decode cX1_way 15 = .ok (.invokevirtual 120, 3) := by decide +kernel
theorem dX1_way_18 : decode cX1_way 18 = .ok (.ifCond .eq 5, 3) := by decide +kernel
theorem dX1_way_21 : decode cX1_way 21 = .ok (.iconst (-1), 1) := by decide +kernel
theorem dX1_way_22 : decode cX1_way 22 = .ok (.ireturn, 1) := by decide +kernel
theorem dX1_way_23 : decode cX1_way 23 = .ok (.iload_n 1, 1) := by decide +kernel
theorem dX1_way_24 : decode cX1_way 24 = .ok (.iload_n 2, 1) := by decide +kernel
theorem dX1_way_25 : decode cX1_way 25 = .ok (.if_icmp .ne 6, 3) := by decide +kernel
theorem dX1_way_28 : decode cX1_way 28 = .ok (.bipush (-2), 2) := by decide +kernel
theorem dX1_way_30 : decode cX1_way 30 = .ok (.ireturn, 1) := by decide +kernel
theorem dX1_way_31 : decode cX1_way 31 = .ok (.aload_n 0, 1) := by decide +kernel
theorem dX1_way_32 : decode cX1_way 32 = .ok (.getfield 13, 3) := by decide +kernel
theorem dX1_way_35 : decode cX1_way 35 = .ok (.bipush 8, 2) := by decide +kernel
theorem dX1_way_37 : decode cX1_way 37 = .ok (.iload_n 1, 1) := by decide +kernel
theorem dX1_way_38 : decode cX1_way 38 = .ok (.imul, 1) := by decide +kernel
theorem dX1_way_39 : decode cX1_way 39 = .ok (.iload_n 2, 1) := by decide +kernel
theorem dX1_way_40 : decode cX1_way 40 = .ok (.iadd, 1) := by decide +kernel
theorem dX1_way_41 : decode cX1_way 41 = .ok (.baload, 1) := by decide +kernel
theorem dX1_way_42 : decode cX1_way 42 = .ok (.ifCond .eq 7, 3) := by decide +kernel
theorem dX1_way_45 : decode cX1_way 45 = .ok (.iconst 1, 1) := by decide +kernel
theorem dX1_way_46 : decode cX1_way 46 = .ok (.goto 4, 3) := by decide +kernel
theorem dX1_way_49 : decode cX1_way 49 = .ok (.iconst 0, 1) := by decide +kernel
theorem dX1_way_50 : decode cX1_way 50 = .ok (.istore 4, 2) := by decide +kernel
theorem dX1_way_52 : decode cX1_way 52 = .ok (.aload_n 0, 1) := by decide +kernel
theorem dX1_way_53 : decode cX1_way 53 = .ok (.getfield 13, 3) := by decide +kernel
theorem dX1_way_56 : decode cX1_way 56 = .ok (.bipush 8, 2) := by decide +kernel
theorem dX1_way_58 : decode cX1_way 58 = .ok (.iload_n 1, 1) := by decide +kernel
theorem dX1_way_59 : decode cX1_way 59 = .ok (.imul, 1) := by decide +kernel
theorem dX1_way_60 : decode cX1_way 60 = .ok (.iload_n 2, 1) := by decide +kernel
theorem dX1_way_61 : decode cX1_way 61 = .ok (.iadd, 1) := by decide +kernel
theorem dX1_way_62 : decode cX1_way 62 = .ok (.iload_n 3, 1) := by decide +kernel
theorem dX1_way_63 : decode cX1_way 63 = .ok (.bastore, 1) := by decide +kernel
theorem dX1_way_64 : decode cX1_way 64 = .ok (.aload_n 0, 1) := by decide +kernel
theorem dX1_way_65 : decode cX1_way 65 = .ok (.getfield 13, 3) := by decide +kernel
theorem dX1_way_68 : decode cX1_way 68 = .ok (.bipush 8, 2) := by decide +kernel
theorem dX1_way_70 : decode cX1_way 70 = .ok (.iload_n 2, 1) := by decide +kernel
theorem dX1_way_71 : decode cX1_way 71 = .ok (.imul, 1) := by decide +kernel
theorem dX1_way_72 : decode cX1_way 72 = .ok (.iload_n 1, 1) := by decide +kernel
theorem dX1_way_73 : decode cX1_way 73 = .ok (.iadd, 1) := by decide +kernel
theorem dX1_way_74 : decode cX1_way 74 = .ok (.iload_n 3, 1) := by decide +kernel
theorem dX1_way_75 : decode cX1_way 75 = .ok (.bastore, 1) := by decide +kernel
theorem dX1_way_76 : decode cX1_way 76 = .ok (.iload 4, 2) := by decide +kernel
theorem dX1_way_78 : decode cX1_way 78 = .ok (.ireturn, 1) := by decide +kernel
theorem dX1_noStreet_0 : decode cX1_noStreet 0 = .ok (.iload_n 1, 1) := by decide +kernel
theorem dX1_noStreet_1 : decode cX1_noStreet 1 = .ok (.i2l, 1) := by decide +kernel
theorem dX1_noStreet_2 : decode cX1_noStreet 2 = .ok (.lconst 0, 1) := by decide +kernel
theorem dX1_noStreet_3 : decode cX1_noStreet 3 = .ok (.aload_n 0, 1) := by decide +kernel
theorem dX1_noStreet_4 : decode cX1_noStreet 4 = .ok (.getfield 7, 3) := by decide +kernel
theorem dX1_noStreet_7 : decode cX1_noStreet 7 = .ok (.iconst 1, 1) := by decide +kernel
theorem dX1_noStreet_8 : decode cX1_noStreet 8 = .ok (.isub, 1) := by decide +kernel
theorem dX1_noStreet_9 : decode cX1_noStreet 9 = .ok (.i2l, 1) := by decide +kernel
theorem dX1_noStreet_10 : decode cX1_noStreet 10 = .ok (.invokestatic 103, 3) := by decide +kernel
theorem dX1_noStreet_13 : decode cX1_noStreet 13 = .ok (.ifCond .ne 7, 3) := by decide +kernel
theorem dX1_noStreet_16 : decode cX1_noStreet 16 = .ok (.iconst 1, 1) := by decide +kernel
theorem dX1_noStreet_17 : decode cX1_noStreet 17 = .ok (.goto 4, 3) := by decide +kernel
theorem dX1_noStreet_20 : decode cX1_noStreet 20 = .ok (.iconst 0, 1) := by decide +kernel
theorem dX1_noStreet_21 : decode cX1_noStreet 21 = .ok (.ireturn, 1) := by decide +kernel
theorem dX1_far_0 : decode cX1_far 0 = .ok (.aload_n 0, 1) := by decide +kernel
theorem dX1_far_1 : decode cX1_far 1 = .ok (.iconst 0, 1) := by decide +kernel
theorem dX1_far_2 : decode cX1_far 2 = .ok (.putfield 100, 3) := by decide +kernel
theorem dX1_far_5 : decode cX1_far 5 = .ok (.aload_n 0, 1) := by decide +kernel
theorem dX1_far_6 : decode cX1_far 6 = .ok (.iload_n 1, 1) := by decide +kernel
theorem dX1_far_7 : decode cX1_far 7 = .ok (.invokevirtual 120, 3) := by decide +kernel
theorem dX1_far_10 : decode cX1_far 10 = .ok (.ifCond .ne 11, 3) := by decide +kernel
theorem dX1_far_13 : decode cX1_far 13 = .ok (.aload_n 0, 1) := by decide +kernel
theorem dX1_far_14 : decode cX1_far 14 = .ok (.iload_n 2, 1) := by decide +kernel
theorem dX1_far_15 : decode cX1_far 15 = .ok (.invokevirtual 120, 3) := by decide +kernel
theorem dX1_far_18 : decode cX1_far 18 = .ok (.ifCond .eq 5, 3) := by decide +kernel
theorem dX1_far_21 : decode cX1_far 21 = .ok (.iconst (-1), 1) := by decide +kernel
theorem dX1_far_22 : decode cX1_far 22 = .ok (.ireturn, 1) := by decide +kernel
theorem dX1_far_23 : decode cX1_far 23 = .ok (.aload_n 0, 1) := by decide +kernel
theorem dX1_far_24 : decode cX1_far 24 = .ok (.invokevirtual 124, 3) := by decide +kernel
theorem dX1_far_27 : decode cX1_far 27 = .ok (.aload_n 0, 1) := by decide +kernel
theorem dX1_far_28 : decode cX1_far 28 = .ok (.getfield 17, 3) := by decide +kernel
theorem dX1_far_31 : decode cX1_far 31 = .ok (.bipush 8, 2) := by decide +kernel
theorem dX1_far_33 : decode cX1_far 33 = .ok (.iload_n 1, 1) := by decide +kernel
theorem dX1_far_34 : decode cX1_far 34 = .ok (.imul, 1) := by decide +kernel
theorem dX1_far_35 : decode cX1_far 35 = .ok (.iload_n 2, 1) := by decide +kernel
theorem dX1_far_36 : decode cX1_far 36 = .ok (.iadd, 1) := by decide +kernel
theorem dX1_far_37 : decode cX1_far 37 = .ok (.iaload, 1) := by decide +kernel
theorem dX1_far_38 : decode cX1_far 38 = .ok (.bipush 100, 2) := by decide +kernel
theorem dX1_far_40 : decode cX1_far 40 = .ok (.if_icmp .ge 17, 3) := by decide +kernel
theorem dX1_far_43 : decode cX1_far 43 = .ok (.aload_n 0, 1) := by decide +kernel
theorem dX1_far_44 : decode cX1_far 44 = .ok (.getfield 17, 3) := by decide +kernel
theorem dX1_far_47 : decode cX1_far 47 = .ok (.bipush 8, 2) := by decide +kernel
theorem dX1_far_49 : decode cX1_far 49 = .ok (.iload_n 1, 1) := by decide +kernel
theorem dX1_far_50 : decode cX1_far 50 = .ok (.imul, 1) := by decide +kernel
theorem dX1_far_51 : decode cX1_far 51 = .ok (.iload_n 2, 1) := by decide +kernel
theorem dX1_far_52 : decode cX1_far 52 = .ok (.iadd, 1) := by decide +kernel
theorem dX1_far_53 : decode cX1_far 53 = .ok (.iaload, 1) := by decide +kernel
theorem dX1_far_54 : decode cX1_far 54 = .ok (.goto 5, 3) := by decide +kernel
theorem dX1_far_57 : decode cX1_far 57 = .ok (.bipush (-9), 2) := by decide +kernel
theorem dX1_far_59 : decode cX1_far 59 = .ok (.ireturn, 1) := by decide +kernel
theorem dX1_measure_0 : decode cX1_measure 0 = .ok (.iconst 0, 1) := by decide +kernel
theorem dX1_measure_1 : decode cX1_measure 1 = .ok (.istore_n 1, 1) := by decide +kernel
theorem dX1_measure_2 : decode cX1_measure 2 = .ok (.iload_n 1, 1) := by decide +kernel
theorem dX1_measure_3 : decode cX1_measure 3 = .ok (.bipush 64, 2) := by decide +kernel
theorem dX1_measure_5 : decode cX1_measure 5 = .ok (.if_icmp .ge 45, 3) := by decide +kernel
theorem dX1_measure_8 : decode cX1_measure 8 = .ok (.aload_n 0, 1) := by decide +kernel
theorem dX1_measure_9 : decode cX1_measure 9 = .ok (.getfield 17, 3) := by decide +kernel
theorem dX1_measure_12 : decode cX1_measure 12 = .ok (.iload_n 1, 1) := by decide +kernel
theorem dX1_measure_13 : decode cX1_measure 13 = .ok (.iload_n 1, 1) := by decide +kernel
theorem dX1_measure_14 : decode cX1_measure 14 = .ok (.bipush 8, 2) := by decide +kernel
theorem dX1_measure_16 : decode cX1_measure 16 = .ok (.idiv, 1) := by decide +kernel
theorem dX1_measure_17 : decode cX1_measure 17 = .ok (.iload_n 1, 1) := by decide +kernel
theorem dX1_measure_18 : decode cX1_measure 18 = .ok (.bipush 8, 2) := by decide +kernel
theorem dX1_measure_20 : decode cX1_measure 20 = .ok (.irem, 1) := by decide +kernel
theorem dX1_measure_21 : decode cX1_measure 21 = .ok (.if_icmp .ne 7, 3) := by decide +kernel
theorem dX1_measure_24 : decode cX1_measure 24 = .ok (.iconst 0, 1) := by decide +kernel
theorem dX1_measure_25 : decode cX1_measure 25 = .ok (.goto 18, 3) := by decide +kernel
theorem dX1_measure_28 : decode cX1_measure 28 = .ok (.aload_n 0, 1) := by decide +kernel
theorem dX1_measure_29 : decode cX1_measure 29 = .ok (.getfield 13, 3) := by decide +kernel
theorem dX1_measure_32 : decode cX1_measure 32 = .ok (.iload_n 1, 1) := by decide +kernel
theorem dX1_measure_33 : decode cX1_measure 33 = .ok (.baload, 1) := by decide +kernel
theorem dX1_measure_34 : decode cX1_measure 34 = .ok (.ifCond .eq 7, 3) := by decide +kernel
theorem dX1_measure_37 : decode cX1_measure 37 = .ok (.iconst 1, 1) := by decide +kernel
theorem dX1_measure_38 : decode cX1_measure 38 = .ok (.goto 5, 3) := by decide +kernel
theorem dX1_measure_41 : decode cX1_measure 41 = .ok (.bipush 100, 2) := by decide +kernel
theorem dX1_measure_43 : decode cX1_measure 43 = .ok (.iastore, 1) := by decide +kernel
theorem dX1_measure_44 : decode cX1_measure 44 = .ok (.iinc 1 1, 3) := by decide +kernel
theorem dX1_measure_47 : decode cX1_measure 47 = .ok (.goto (-45), 3) := by decide +kernel
theorem dX1_measure_50 : decode cX1_measure 50 = .ok (.iconst 0, 1) := by decide +kernel
theorem dX1_measure_51 : decode cX1_measure 51 = .ok (.istore_n 1, 1) := by decide +kernel
theorem dX1_measure_52 : decode cX1_measure 52 = .ok (.iload_n 1, 1) := by decide +kernel
theorem dX1_measure_53 : decode cX1_measure 53 = .ok (.bipush 8, 2) := by decide +kernel
theorem dX1_measure_55 : decode cX1_measure 55 = .ok (.if_icmp .ge 105, 3) := by decide +kernel
theorem dX1_measure_58 : decode cX1_measure 58 = .ok (.iconst 0, 1) := by decide +kernel
theorem dX1_measure_59 : decode cX1_measure 59 = .ok (.istore_n 2, 1) := by decide +kernel
theorem dX1_measure_60 : decode cX1_measure 60 = .ok (.iload_n 2, 1) := by decide +kernel
theorem dX1_measure_61 : decode cX1_measure 61 = .ok (.bipush 8, 2) := by decide +kernel
theorem dX1_measure_63 : decode cX1_measure 63 = .ok (.if_icmp .ge 91, 3) := by decide +kernel
theorem dX1_measure_66 : decode cX1_measure 66 = .ok (.iconst 0, 1) := by decide +kernel
theorem dX1_measure_67 : decode cX1_measure 67 = .ok (.istore_n 3, 1) := by decide +kernel
theorem dX1_measure_68 : decode cX1_measure 68 = .ok (.iload_n 3, 1) := by decide +kernel
theorem dX1_measure_69 : decode cX1_measure 69 = .ok (.bipush 8, 2) := by decide +kernel
theorem dX1_measure_71 : decode cX1_measure 71 = .ok (.if_icmp .ge 77, 3) := by decide +kernel
theorem dX1_measure_74 : decode cX1_measure 74 = .ok (.aload_n 0, 1) := by decide +kernel
theorem dX1_measure_75 : decode cX1_measure 75 = .ok (.getfield 17, 3) := by decide +kernel
theorem dX1_measure_78 : decode cX1_measure 78 = .ok (.bipush 8, 2) := by decide +kernel
theorem dX1_measure_80 : decode cX1_measure 80 = .ok (.iload_n 2, 1) := by decide +kernel
theorem dX1_measure_81 : decode cX1_measure 81 = .ok (.imul, 1) := by decide +kernel
theorem dX1_measure_82 : decode cX1_measure 82 = .ok (.iload_n 1, 1) := by decide +kernel
theorem dX1_measure_83 : decode cX1_measure 83 = .ok (.iadd, 1) := by decide +kernel
theorem dX1_measure_84 : decode cX1_measure 84 = .ok (.iaload, 1) := by decide +kernel
theorem dX1_measure_85 : decode cX1_measure 85 = .ok (.aload_n 0, 1) := by decide +kernel
theorem dX1_measure_86 : decode cX1_measure 86 = .ok (.getfield 17, 3) := by decide +kernel
theorem dX1_measure_89 : decode cX1_measure 89 = .ok (.bipush 8, 2) := by decide +kernel
theorem dX1_measure_91 : decode cX1_measure 91 = .ok (.iload_n 1, 1) := by decide +kernel
theorem dX1_measure_92 : decode cX1_measure 92 = .ok (.imul, 1) := by decide +kernel
theorem dX1_measure_93 : decode cX1_measure 93 = .ok (.iload_n 3, 1) := by decide +kernel
theorem dX1_measure_94 : decode cX1_measure 94 = .ok (.iadd, 1) := by decide +kernel
theorem dX1_measure_95 : decode cX1_measure 95 = .ok (.iaload, 1) := by decide +kernel
theorem dX1_measure_96 : decode cX1_measure 96 = .ok (.iadd, 1) := by decide +kernel
theorem dX1_measure_97 : decode cX1_measure 97 = .ok (.istore 4, 2) := by decide +kernel
theorem dX1_measure_99 : decode cX1_measure 99 = .ok (.aload_n 0, 1) := by decide +kernel
theorem dX1_measure_100 : decode cX1_measure 100 = .ok (.getfield 17, 3) := by decide +kernel
theorem dX1_measure_103 : decode cX1_measure 103 = .ok (.bipush 8, 2) := by decide +kernel
theorem dX1_measure_105 : decode cX1_measure 105 = .ok (.iload_n 2, 1) := by decide +kernel
theorem dX1_measure_106 : decode cX1_measure 106 = .ok (.imul, 1) := by decide +kernel
theorem dX1_measure_107 : decode cX1_measure 107 = .ok (.iload_n 3, 1) := by decide +kernel
theorem dX1_measure_108 : decode cX1_measure 108 = .ok (.iadd, 1) := by decide +kernel
theorem dX1_measure_109 : decode cX1_measure 109 = .ok (.iload 4, 2) := by decide +kernel
theorem dX1_measure_111 : decode cX1_measure 111 = .ok (.aload_n 0, 1) := by decide +kernel
theorem dX1_measure_112 : decode cX1_measure 112 = .ok (.getfield 17, 3) := by decide +kernel
theorem dX1_measure_115 : decode cX1_measure 115 = .ok (.bipush 8, 2) := by decide +kernel
theorem dX1_measure_117 : decode cX1_measure 117 = .ok (.iload_n 2, 1) := by decide +kernel
theorem dX1_measure_118 : decode cX1_measure 118 = .ok (.imul, 1) := by decide +kernel
theorem dX1_measure_119 : decode cX1_measure 119 = .ok (.iload_n 3, 1) := by decide +kernel
theorem dX1_measure_120 : decode cX1_measure 120 = .ok (.iadd, 1) := by decide +kernel
theorem dX1_measure_121 : decode cX1_measure 121 = .ok (.iaload, 1) := by decide +kernel
theorem dX1_measure_122 : decode cX1_measure 122 = .ok (.if_icmp .ge 8, 3) := by decide +kernel
theorem dX1_measure_125 : decode cX1_measure 125 = .ok (.iload 4, 2) := by decide +kernel
theorem dX1_measure_127 : decode cX1_measure 127 = .ok (.goto 14, 3) := by decide +kernel
theorem dX1_measure_130 : decode cX1_measure 130 = .ok (.aload_n 0, 1) := by decide +kernel
theorem dX1_measure_131 : decode cX1_measure 131 = .ok (.getfield 17, 3) := by decide +kernel
theorem dX1_measure_134 : decode cX1_measure 134 = .ok (.bipush 8, 2) := by decide +kernel
theorem dX1_measure_136 : decode cX1_measure 136 = .ok (.iload_n 2, 1) := by decide +kernel
theorem dX1_measure_137 : decode cX1_measure 137 = .ok (.imul, 1) := by decide +kernel
theorem dX1_measure_138 : decode cX1_measure 138 = .ok (.iload_n 3, 1) := by decide +kernel
theorem dX1_measure_139 : decode cX1_measure 139 = .ok (.iadd, 1) := by decide +kernel
theorem dX1_measure_140 : decode cX1_measure 140 = .ok (.iaload, 1) := by decide +kernel
theorem dX1_measure_141 : decode cX1_measure 141 = .ok (.iastore, 1) := by decide +kernel
theorem dX1_measure_142 : decode cX1_measure 142 = .ok (.iinc 3 1, 3) := by decide +kernel
theorem dX1_measure_145 : decode cX1_measure 145 = .ok (.goto (-77), 3) := by decide +kernel
theorem dX1_measure_148 : decode cX1_measure 148 = .ok (.iinc 2 1, 3) := by decide +kernel
theorem dX1_measure_151 : decode cX1_measure 151 = .ok (.goto (-91), 3) := by decide +kernel
theorem dX1_measure_154 : decode cX1_measure 154 = .ok (.iinc 1 1, 3) := by decide +kernel
theorem dX1_measure_157 : decode cX1_measure 157 = .ok (.goto (-105), 3) := by decide +kernel
theorem dX1_measure_160 : decode cX1_measure 160 = .ok (.return_, 1) := by decide +kernel
theorem dX1_man_0 : decode cX1_man 0 = .ok (.aload_n 0, 1) := by decide +kernel
theorem dX1_man_1 : decode cX1_man 1 = .ok (.iconst 0, 1) := by decide +kernel
theorem dX1_man_2 : decode cX1_man 2 = .ok (.putfield 100, 3) := by decide +kernel
theorem dX1_man_5 : decode cX1_man 5 = .ok (.aload_n 0, 1) := by decide +kernel
theorem dX1_man_6 : decode cX1_man 6 = .ok (.iload 7, 2) := by decide +kernel
theorem dX1_man_8 : decode cX1_man 8 = .ok (.invokevirtual 120, 3) := by decide +kernel
theorem dX1_man_11 : decode cX1_man 11 = .ok (.ifCond .eq 5, 3) := by decide +kernel
theorem dX1_man_14 : decode cX1_man 14 = .ok (.iconst (-1), 1) := by decide +kernel
theorem dX1_man_15 : decode cX1_man 15 = .ok (.ireturn, 1) := by decide +kernel
theorem dX1_man_16 : decode cX1_man 16 = .ok (.iload_n 1, 1) := by decide +kernel
theorem dX1_man_17 : decode cX1_man 17 = .ok (.i2l, 1) := by decide +kernel
theorem dX1_man_18 : decode cX1_man 18 = .ok (.ldc2_w 127, 3) := by decide +kernel
theorem dX1_man_21 : decode cX1_man 21 = .ok (.ldc2_w 129, 3) := by decide +kernel
theorem dX1_man_24 : decode cX1_man 24 = .ok (.invokestatic 103, 3) := by decide +kernel
theorem dX1_man_27 : decode cX1_man 27 = .ok (.ifCond .eq 68, 3) := by decide +kernel
theorem dX1_man_30 : decode cX1_man 30 = .ok (.iload_n 2, 1) := by decide +kernel
theorem dX1_man_31 : decode cX1_man 31 = .ok (.i2l, 1) := by decide +kernel
theorem dX1_man_32 : decode cX1_man 32 = .ok (.lconst 0, 1) := by decide +kernel
theorem dX1_man_33 : decode cX1_man 33 = .ok (.ldc2_w 131, 3) := by decide +kernel
theorem dX1_man_36 : decode cX1_man 36 = .ok (.invokestatic 103, 3) := by decide +kernel
theorem dX1_man_39 : decode cX1_man 39 = .ok (.ifCond .eq 56, 3) := by decide +kernel
theorem dX1_man_42 : decode cX1_man 42 = .ok (.iload_n 3, 1) := by decide +kernel
theorem dX1_man_43 : decode cX1_man 43 = .ok (.i2l, 1) := by decide +kernel
theorem dX1_man_44 : decode cX1_man 44 = .ok (.lconst 0, 1) := by decide +kernel
theorem dX1_man_45 : decode cX1_man 45 = .ok (.ldc2_w 131, 3) := by decide +kernel
theorem dX1_man_48 : decode cX1_man 48 = .ok (.invokestatic 103, 3) := by decide +kernel
theorem dX1_man_51 : decode cX1_man 51 = .ok (.ifCond .eq 44, 3) := by decide +kernel
theorem dX1_man_54 : decode cX1_man 54 = .ok (.iload 4, 2) := by decide +kernel
theorem dX1_man_56 : decode cX1_man 56 = .ok (.i2l, 1) := by decide +kernel
theorem dX1_man_57 : decode cX1_man 57 = .ok (.ldc2_w 133, 3) := by decide +kernel
theorem dX1_man_60 : decode cX1_man 60 = .ok (.ldc2_w 135, 3) := by decide +kernel
theorem dX1_man_63 : decode cX1_man 63 = .ok (.invokestatic 103, 3) := by decide +kernel
theorem dX1_man_66 : decode cX1_man 66 = .ok (.ifCond .eq 29, 3) := by decide +kernel
theorem dX1_man_69 : decode cX1_man 69 = .ok (.iload 5, 2) := by decide +kernel
theorem dX1_man_71 : decode cX1_man 71 = .ok (.i2l, 1) := by decide +kernel
theorem dX1_man_72 : decode cX1_man 72 = .ok (.lconst 0, 1) := by decide +kernel
theorem dX1_man_73 : decode cX1_man 73 = .ok (.ldc2_w 137, 3) := by decide +kernel
theorem dX1_man_76 : decode cX1_man 76 = .ok (.invokestatic 103, 3) := by decide +kernel
theorem dX1_man_79 : decode cX1_man 79 = .ok (.ifCond .eq 16, 3) := by decide +kernel
theorem dX1_man_82 : decode cX1_man 82 = .ok (.iload 6, 2) := by decide +kernel
theorem dX1_man_84 : decode cX1_man 84 = .ok (.i2l, 1) := by decide +kernel
theorem dX1_man_85 : decode cX1_man 85 = .ok (.lconst 0, 1) := by decide +kernel
theorem dX1_man_86 : decode cX1_man 86 = .ok (.ldc2_w 139, 3) := by decide +kernel
theorem dX1_man_89 : decode cX1_man 89 = .ok (.invokestatic 103, 3) := by decide +kernel
theorem dX1_man_92 : decode cX1_man 92 = .ok (.ifCond .ne 6, 3) := by decide +kernel
theorem dX1_man_95 : decode cX1_man 95 = .ok (.bipush (-2), 2) := by decide +kernel
theorem dX1_man_97 : decode cX1_man 97 = .ok (.ireturn, 1) := by decide +kernel
theorem dX1_man_98 : decode cX1_man 98 = .ok (.aload_n 0, 1) := by decide +kernel
theorem dX1_man_99 : decode cX1_man 99 = .ok (.getfield 107, 3) := by decide +kernel
theorem dX1_man_102 : decode cX1_man 102 = .ok (.bipush 40, 2) := by decide +kernel
theorem dX1_man_104 : decode cX1_man 104 = .ok (.if_icmp .ne 6, 3) := by decide +kernel
theorem dX1_man_107 : decode cX1_man 107 = .ok (.bipush (-4), 2) := by decide +kernel
theorem dX1_man_109 : decode cX1_man 109 = .ok (.ireturn, 1) := by decide +kernel
theorem dX1_man_110 : decode cX1_man 110 = .ok (.bipush 8, 2) := by decide +kernel
theorem dX1_man_112 : decode cX1_man 112 = .ok (.aload_n 0, 1) := by decide +kernel
theorem dX1_man_113 : decode cX1_man 113 = .ok (.getfield 107, 3) := by decide +kernel
theorem dX1_man_116 : decode cX1_man 116 = .ok (.imul, 1) := by decide +kernel
theorem dX1_man_117 : decode cX1_man 117 = .ok (.istore 8, 2) := by decide +kernel
theorem dX1_man_119 : decode cX1_man 119 = .ok (.aload_n 0, 1) := by decide +kernel
theorem dX1_man_120 : decode cX1_man 120 = .ok (.getfield 21, 3) := by decide +kernel
theorem dX1_man_123 : decode cX1_man 123 = .ok (.iload 8, 2) := by decide +kernel
theorem dX1_man_125 : decode cX1_man 125 = .ok (.iload_n 1, 1) := by decide +kernel
theorem dX1_man_126 : decode cX1_man 126 = .ok (.iastore, 1) := by decide +kernel
theorem dX1_man_127 : decode cX1_man 127 = .ok (.aload_n 0, 1) := by decide +kernel
theorem dX1_man_128 : decode cX1_man 128 = .ok (.getfield 21, 3) := by decide +kernel
theorem dX1_man_131 : decode cX1_man 131 = .ok (.iload 8, 2) := by decide +kernel
theorem dX1_man_133 : decode cX1_man 133 = .ok (.iconst 1, 1) := by decide +kernel
theorem dX1_man_134 : decode cX1_man 134 = .ok (.iadd, 1) := by decide +kernel
theorem dX1_man_135 : decode cX1_man 135 = .ok (.iload_n 2, 1) := by decide +kernel
theorem dX1_man_136 : decode cX1_man 136 = .ok (.iastore, 1) := by decide +kernel
theorem dX1_man_137 : decode cX1_man 137 = .ok (.aload_n 0, 1) := by decide +kernel
theorem dX1_man_138 : decode cX1_man 138 = .ok (.getfield 21, 3) := by decide +kernel
theorem dX1_man_141 : decode cX1_man 141 = .ok (.iload 8, 2) := by decide +kernel
theorem dX1_man_143 : decode cX1_man 143 = .ok (.iconst 2, 1) := by decide +kernel
theorem dX1_man_144 : decode cX1_man 144 = .ok (.iadd, 1) := by decide +kernel
theorem dX1_man_145 : decode cX1_man 145 = .ok (.iload_n 3, 1) := by decide +kernel
theorem dX1_man_146 : decode cX1_man 146 = .ok (.iastore, 1) := by decide +kernel
theorem dX1_man_147 : decode cX1_man 147 = .ok (.aload_n 0, 1) := by decide +kernel
theorem dX1_man_148 : decode cX1_man 148 = .ok (.getfield 21, 3) := by decide +kernel
theorem dX1_man_151 : decode cX1_man 151 = .ok (.iload 8, 2) := by decide +kernel
theorem dX1_man_153 : decode cX1_man 153 = .ok (.iconst 3, 1) := by decide +kernel
theorem dX1_man_154 : decode cX1_man 154 = .ok (.iadd, 1) := by decide +kernel
theorem dX1_man_155 : decode cX1_man 155 = .ok (.iload 4, 2) := by decide +kernel
theorem dX1_man_157 : decode cX1_man 157 = .ok (.iastore, 1) := by decide +kernel
theorem dX1_man_158 : decode cX1_man 158 = .ok (.aload_n 0, 1) := by decide +kernel
theorem dX1_man_159 : decode cX1_man 159 = .ok (.getfield 21, 3) := by decide +kernel
theorem dX1_man_162 : decode cX1_man 162 = .ok (.iload 8, 2) := by decide +kernel
theorem dX1_man_164 : decode cX1_man 164 = .ok (.iconst 4, 1) := by decide +kernel
theorem dX1_man_165 : decode cX1_man 165 = .ok (.iadd, 1) := by decide +kernel
theorem dX1_man_166 : decode cX1_man 166 = .ok (.iload 5, 2) := by decide +kernel
theorem dX1_man_168 : decode cX1_man 168 = .ok (.iastore, 1) := by decide +kernel
theorem dX1_man_169 : decode cX1_man 169 = .ok (.aload_n 0, 1) := by decide +kernel
theorem dX1_man_170 : decode cX1_man 170 = .ok (.getfield 21, 3) := by decide +kernel
theorem dX1_man_173 : decode cX1_man 173 = .ok (.iload 8, 2) := by decide +kernel
theorem dX1_man_175 : decode cX1_man 175 = .ok (.iconst 5, 1) := by decide +kernel
theorem dX1_man_176 : decode cX1_man 176 = .ok (.iadd, 1) := by decide +kernel
theorem dX1_man_177 : decode cX1_man 177 = .ok (.iload 6, 2) := by decide +kernel
theorem dX1_man_179 : decode cX1_man 179 = .ok (.iastore, 1) := by decide +kernel
theorem dX1_man_180 : decode cX1_man 180 = .ok (.aload_n 0, 1) := by decide +kernel
theorem dX1_man_181 : decode cX1_man 181 = .ok (.getfield 21, 3) := by decide +kernel
theorem dX1_man_184 : decode cX1_man 184 = .ok (.iload 8, 2) := by decide +kernel
theorem dX1_man_186 : decode cX1_man 186 = .ok (.bipush 6, 2) := by decide +kernel
theorem dX1_man_188 : decode cX1_man 188 = .ok (.iadd, 1) := by decide +kernel
theorem dX1_man_189 : decode cX1_man 189 = .ok (.iload 7, 2) := by decide +kernel
theorem dX1_man_191 : decode cX1_man 191 = .ok (.iastore, 1) := by decide +kernel
theorem dX1_man_192 : decode cX1_man 192 = .ok (.aload_n 0, 1) := by decide +kernel
theorem dX1_man_193 : decode cX1_man 193 = .ok (.getfield 21, 3) := by decide +kernel
theorem dX1_man_196 : decode cX1_man 196 = .ok (.iload 8, 2) := by decide +kernel
theorem dX1_man_198 : decode cX1_man 198 = .ok (.bipush 7, 2) := by decide +kernel
theorem dX1_man_200 : decode cX1_man 200 = .ok (.iadd, 1) := by decide +kernel
theorem dX1_man_201 : decode cX1_man 201 = .ok (.iconst 0, 1) := by decide +kernel
theorem dX1_man_202 : decode cX1_man 202 = .ok (.iastore, 1) := by decide +kernel
theorem dX1_man_203 : decode cX1_man 203 = .ok (.iconst 0, 1) := by decide +kernel
theorem dX1_man_204 : decode cX1_man 204 = .ok (.istore 9, 2) := by decide +kernel
theorem dX1_man_206 : decode cX1_man 206 = .ok (.iload 9, 2) := by decide +kernel
theorem dX1_man_208 : decode cX1_man 208 = .ok (.aload_n 0, 1) := by decide +kernel
theorem dX1_man_209 : decode cX1_man 209 = .ok (.getfield 141, 3) := by decide +kernel
theorem dX1_man_212 : decode cX1_man 212 = .ok (.if_icmp .gt 26, 3) := by decide +kernel
theorem dX1_man_215 : decode cX1_man 215 = .ok (.aload_n 0, 1) := by decide +kernel
theorem dX1_man_216 : decode cX1_man 216 = .ok (.getfield 28, 3) := by decide +kernel
theorem dX1_man_219 : decode cX1_man 219 = .ok (.bipush 40, 2) := by decide +kernel
theorem dX1_man_221 : decode cX1_man 221 = .ok (.iload 9, 2) := by decide +kernel
theorem dX1_man_223 : decode cX1_man 223 = .ok (.imul, 1) := by decide +kernel
theorem dX1_man_224 : decode cX1_man 224 = .ok (.aload_n 0, 1) := by decide +kernel
theorem dX1_man_225 : decode cX1_man 225 = .ok (.getfield 107, 3) := by decide +kernel
theorem dX1_man_228 : decode cX1_man 228 = .ok (.iadd, 1) := by decide +kernel
theorem dX1_man_229 : decode cX1_man 229 = .ok (.iload 7, 2) := by decide +kernel
theorem dX1_man_231 : decode cX1_man 231 = .ok (.iastore, 1) := by decide +kernel
theorem dX1_man_232 : decode cX1_man 232 = .ok (.iinc 9 1, 3) := by decide +kernel
theorem dX1_man_235 : decode cX1_man 235 = .ok (.goto (-29), 3) := by decide +kernel
theorem dX1_man_238 : decode cX1_man 238 = .ok (.aload_n 0, 1) := by decide +kernel
theorem dX1_man_239 : decode cX1_man 239 = .ok (.dup, 1) := by decide +kernel
theorem dX1_man_240 : decode cX1_man 240 = .ok (.getfield 107, 3) := by decide +kernel
theorem dX1_man_243 : decode cX1_man 243 = .ok (.iconst 1, 1) := by decide +kernel
theorem dX1_man_244 : decode cX1_man 244 = .ok (.iadd, 1) := by decide +kernel
theorem dX1_man_245 : decode cX1_man 245 = .ok (.putfield 107, 3) := by decide +kernel
theorem dX1_man_248 : decode cX1_man 248 = .ok (.aload_n 0, 1) := by decide +kernel
theorem dX1_man_249 : decode cX1_man 249 = .ok (.getfield 107, 3) := by decide +kernel
theorem dX1_man_252 : decode cX1_man 252 = .ok (.iconst 1, 1) := by decide +kernel
theorem dX1_man_253 : decode cX1_man 253 = .ok (.isub, 1) := by decide +kernel
theorem dX1_man_254 : decode cX1_man 254 = .ok (.ireturn, 1) := by decide +kernel
theorem dX1_about_0 : decode cX1_about 0 = .ok (.aload_n 0, 1) := by decide +kernel
theorem dX1_about_1 : decode cX1_about 1 = .ok (.iconst 0, 1) := by decide +kernel
theorem dX1_about_2 : decode cX1_about 2 = .ok (.putfield 100, 3) := by decide +kernel
theorem dX1_about_5 : decode cX1_about 5 = .ok (.aload_n 0, 1) := by decide +kernel
theorem dX1_about_6 : decode cX1_about 6 = .ok (.iload_n 1, 1) := by decide +kernel
theorem dX1_about_7 : decode cX1_about 7 = .ok (.invokevirtual 144, 3) := by decide +kernel
theorem dX1_about_10 : decode cX1_about 10 = .ok (.ifCond .eq 5, 3) := by decide +kernel
theorem dX1_about_13 : decode cX1_about 13 = .ok (.iconst (-1), 1) := by decide +kernel
theorem dX1_about_14 : decode cX1_about 14 = .ok (.ireturn, 1) := by decide +kernel
theorem dX1_about_15 : decode cX1_about 15 = .ok (.iload_n 2, 1) := by decide +kernel
theorem dX1_about_16 : decode cX1_about 16 = .ok (.i2l, 1) := by decide +kernel
theorem dX1_about_17 : decode cX1_about 17 = .ok (.lconst 0, 1) := by decide +kernel
theorem dX1_about_18 : decode cX1_about 18 = .ok (.ldc2_w 147, 3) := by decide +kernel
theorem dX1_about_21 : decode cX1_about 21 = .ok (.invokestatic 103, 3) := by decide +kernel
theorem dX1_about_24 : decode cX1_about 24 = .ok (.ifCond .eq 17, 3) := by decide +kernel
theorem dX1_about_27 : decode cX1_about 27 = .ok (.aload_n 0, 1) := by decide +kernel
theorem dX1_about_28 : decode cX1_about 28 = .ok (.getfield 21, 3) := by decide +kernel
theorem dX1_about_31 : decode cX1_about 31 = .ok (.bipush 8, 2) := by decide +kernel
theorem dX1_about_33 : decode cX1_about 33 = .ok (.iload_n 1, 1) := by decide +kernel
theorem dX1_about_34 : decode cX1_about 34 = .ok (.imul, 1) := by decide +kernel
theorem dX1_about_35 : decode cX1_about 35 = .ok (.iload_n 2, 1) := by decide +kernel
theorem dX1_about_36 : decode cX1_about 36 = .ok (.iadd, 1) := by decide +kernel
theorem dX1_about_37 : decode cX1_about 37 = .ok (.iaload, 1) := by decide +kernel
theorem dX1_about_38 : decode cX1_about 38 = .ok (.goto 5, 3) := by decide +kernel
theorem dX1_about_41 : decode cX1_about 41 = .ok (.bipush (-2), 2) := by decide +kernel
theorem dX1_about_43 : decode cX1_about 43 = .ok (.ireturn, 1) := by decide +kernel
theorem dX1_noMan_0 : decode cX1_noMan 0 = .ok (.iload_n 1, 1) := by decide +kernel
theorem dX1_noMan_1 : decode cX1_noMan 1 = .ok (.i2l, 1) := by decide +kernel
theorem dX1_noMan_2 : decode cX1_noMan 2 = .ok (.lconst 0, 1) := by decide +kernel
theorem dX1_noMan_3 : decode cX1_noMan 3 = .ok (.aload_n 0, 1) := by decide +kernel
theorem dX1_noMan_4 : decode cX1_noMan 4 = .ok (.getfield 107, 3) := by decide +kernel
theorem dX1_noMan_7 : decode cX1_noMan 7 = .ok (.iconst 1, 1) := by decide +kernel
theorem dX1_noMan_8 : decode cX1_noMan 8 = .ok (.isub, 1) := by decide +kernel
theorem dX1_noMan_9 : decode cX1_noMan 9 = .ok (.i2l, 1) := by decide +kernel
theorem dX1_noMan_10 : decode cX1_noMan 10 = .ok (.invokestatic 103, 3) := by decide +kernel
theorem dX1_noMan_13 : decode cX1_noMan 13 = .ok (.ifCond .ne 7, 3) := by decide +kernel
theorem dX1_noMan_16 : decode cX1_noMan 16 = .ok (.iconst 1, 1) := by decide +kernel
theorem dX1_noMan_17 : decode cX1_noMan 17 = .ok (.goto 4, 3) := by decide +kernel
theorem dX1_noMan_20 : decode cX1_noMan 20 = .ok (.iconst 0, 1) := by decide +kernel
theorem dX1_noMan_21 : decode cX1_noMan 21 = .ok (.ireturn, 1) := by decide +kernel
theorem dX1_shy_0 : decode cX1_shy 0 = .ok (.aload_n 0, 1) := by decide +kernel
theorem dX1_shy_1 : decode cX1_shy 1 = .ok (.iconst 0, 1) := by decide +kernel
theorem dX1_shy_2 : decode cX1_shy 2 = .ok (.putfield 100, 3) := by decide +kernel
theorem dX1_shy_5 : decode cX1_shy 5 = .ok (.aload_n 0, 1) := by decide +kernel
theorem dX1_shy_6 : decode cX1_shy 6 = .ok (.iload_n 1, 1) := by decide +kernel
theorem dX1_shy_7 : decode cX1_shy 7 = .ok (.invokevirtual 144, 3) := by decide +kernel
theorem dX1_shy_10 : decode cX1_shy 10 = .ok (.ifCond .eq 5, 3) := by decide +kernel
theorem dX1_shy_13 : decode cX1_shy 13 = .ok (.iconst (-1), 1) := by decide +kernel
theorem dX1_shy_14 : decode cX1_shy 14 = .ok (.ireturn, 1) := by decide +kernel
theorem dX1_shy_15 : decode cX1_shy 15 = .ok (.aload_n 0, 1) := by decide +kernel
theorem dX1_shy_16 : decode cX1_shy 16 = .ok (.getfield 21, 3) := by decide +kernel
theorem dX1_shy_19 : decode cX1_shy 19 = .ok (.bipush 8, 2) := by decide +kernel
theorem dX1_shy_21 : decode cX1_shy 21 = .ok (.iload_n 1, 1) := by decide +kernel
theorem dX1_shy_22 : decode cX1_shy 22 = .ok (.imul, 1) := by decide +kernel
theorem dX1_shy_23 : decode cX1_shy 23 = .ok (.bipush 7, 2) := by decide +kernel
theorem dX1_shy_25 : decode cX1_shy 25 = .ok (.iadd, 1) := by decide +kernel
theorem dX1_shy_26 : decode cX1_shy 26 = .ok (.iaload, 1) := by decide +kernel
theorem dX1_shy_27 : decode cX1_shy 27 = .ok (.istore_n 3, 1) := by decide +kernel
theorem dX1_shy_28 : decode cX1_shy 28 = .ok (.aload_n 0, 1) := by decide +kernel
theorem dX1_shy_29 : decode cX1_shy 29 = .ok (.getfield 21, 3) := by decide +kernel
theorem dX1_shy_32 : decode cX1_shy 32 = .ok (.bipush 8, 2) := by decide +kernel
theorem dX1_shy_34 : decode cX1_shy 34 = .ok (.iload_n 1, 1) := by decide +kernel
theorem dX1_shy_35 : decode cX1_shy 35 = .ok (.imul, 1) := by decide +kernel
theorem dX1_shy_36 : decode cX1_shy 36 = .ok (.bipush 7, 2) := by decide +kernel
theorem dX1_shy_38 : decode cX1_shy 38 = .ok (.iadd, 1) := by decide +kernel
theorem dX1_shy_39 : decode cX1_shy 39 = .ok (.iload_n 2, 1) := by decide +kernel
theorem dX1_shy_40 : decode cX1_shy 40 = .ok (.ifCond .eq 7, 3) := by decide +kernel
theorem dX1_shy_43 : decode cX1_shy 43 = .ok (.iconst 1, 1) := by decide +kernel
theorem dX1_shy_44 : decode cX1_shy 44 = .ok (.goto 4, 3) := by decide +kernel
theorem dX1_shy_47 : decode cX1_shy 47 = .ok (.iconst 0, 1) := by decide +kernel
theorem dX1_shy_48 : decode cX1_shy 48 = .ok (.iastore, 1) := by decide +kernel
theorem dX1_shy_49 : decode cX1_shy 49 = .ok (.iload_n 3, 1) := by decide +kernel
theorem dX1_shy_50 : decode cX1_shy 50 = .ok (.ireturn, 1) := by decide +kernel
theorem dX1_where_0 : decode cX1_where 0 = .ok (.aload_n 0, 1) := by decide +kernel
theorem dX1_where_1 : decode cX1_where 1 = .ok (.iconst 0, 1) := by decide +kernel
theorem dX1_where_2 : decode cX1_where 2 = .ok (.putfield 100, 3) := by decide +kernel
theorem dX1_where_5 : decode cX1_where 5 = .ok (.aload_n 0, 1) := by decide +kernel
theorem dX1_where_6 : decode cX1_where 6 = .ok (.iload_n 1, 1) := by decide +kernel
theorem dX1_where_7 : decode cX1_where 7 = .ok (.invokevirtual 144, 3) := by decide +kernel
theorem dX1_where_10 : decode cX1_where 10 = .ok (.ifCond .eq 5, 3) := by decide +kernel
theorem dX1_where_13 : decode cX1_where 13 = .ok (.iconst (-1), 1) := by decide +kernel
theorem dX1_where_14 : decode cX1_where 14 = .ok (.ireturn, 1) := by decide +kernel
theorem dX1_where_15 : decode cX1_where 15 = .ok (.iload_n 2, 1) := by decide +kernel
theorem dX1_where_16 : decode cX1_where 16 = .ok (.i2l, 1) := by decide +kernel
theorem dX1_where_17 : decode cX1_where 17 = .ok (.lconst 0, 1) := by decide +kernel
theorem dX1_where_18 : decode cX1_where 18 = .ok (.aload_n 0, 1) := by decide +kernel
theorem dX1_where_19 : decode cX1_where 19 = .ok (.getfield 141, 3) := by decide +kernel
theorem dX1_where_22 : decode cX1_where 22 = .ok (.i2l, 1) := by decide +kernel
theorem dX1_where_23 : decode cX1_where 23 = .ok (.invokestatic 103, 3) := by decide +kernel
theorem dX1_where_26 : decode cX1_where 26 = .ok (.ifCond .eq 17, 3) := by decide +kernel
theorem dX1_where_29 : decode cX1_where 29 = .ok (.aload_n 0, 1) := by decide +kernel
theorem dX1_where_30 : decode cX1_where 30 = .ok (.getfield 28, 3) := by decide +kernel
theorem dX1_where_33 : decode cX1_where 33 = .ok (.bipush 40, 2) := by decide +kernel
theorem dX1_where_35 : decode cX1_where 35 = .ok (.iload_n 2, 1) := by decide +kernel
theorem dX1_where_36 : decode cX1_where 36 = .ok (.imul, 1) := by decide +kernel
theorem dX1_where_37 : decode cX1_where 37 = .ok (.iload_n 1, 1) := by decide +kernel
theorem dX1_where_38 : decode cX1_where 38 = .ok (.iadd, 1) := by decide +kernel
theorem dX1_where_39 : decode cX1_where 39 = .ok (.iaload, 1) := by decide +kernel
theorem dX1_where_40 : decode cX1_where 40 = .ok (.goto 5, 3) := by decide +kernel
theorem dX1_where_43 : decode cX1_where 43 = .ok (.bipush (-2), 2) := by decide +kernel
theorem dX1_where_45 : decode cX1_where 45 = .ok (.ireturn, 1) := by decide +kernel
theorem dX1_at_0 : decode cX1_at 0 = .ok (.aload_n 0, 1) := by decide +kernel
theorem dX1_at_1 : decode cX1_at 1 = .ok (.iconst 0, 1) := by decide +kernel
theorem dX1_at_2 : decode cX1_at 2 = .ok (.putfield 100, 3) := by decide +kernel
theorem dX1_at_5 : decode cX1_at 5 = .ok (.iload_n 1, 1) := by decide +kernel
theorem dX1_at_6 : decode cX1_at 6 = .ok (.i2l, 1) := by decide +kernel
theorem dX1_at_7 : decode cX1_at 7 = .ok (.lconst 0, 1) := by decide +kernel
theorem dX1_at_8 : decode cX1_at 8 = .ok (.aload_n 0, 1) := by decide +kernel
theorem dX1_at_9 : decode cX1_at 9 = .ok (.getfield 7, 3) := by decide +kernel
theorem dX1_at_12 : decode cX1_at 12 = .ok (.iconst 1, 1) := by decide +kernel
theorem dX1_at_13 : decode cX1_at 13 = .ok (.isub, 1) := by decide +kernel
theorem dX1_at_14 : decode cX1_at 14 = .ok (.i2l, 1) := by decide +kernel
theorem dX1_at_15 : decode cX1_at 15 = .ok (.invokestatic 103, 3) := by decide +kernel
theorem dX1_at_18 : decode cX1_at 18 = .ok (.ifCond .ne 36, 3) := by decide +kernel
theorem dX1_at_21 : decode cX1_at 21 = .ok (.iload_n 1, 1) := by decide +kernel
theorem dX1_at_22 : decode cX1_at 22 = .ok (.i2l, 1) := by decide +kernel
theorem dX1_at_23 : decode cX1_at 23 = .ok (.ldc2_w 127, 3) := by decide +kernel
theorem dX1_at_26 : decode cX1_at 26 = .ok (.bipush 9, 2) := by decide +kernel
theorem dX1_at_28 : decode cX1_at 28 = .ok (.aload_n 0, 1) := by decide +kernel
theorem dX1_at_29 : decode cX1_at 29 = .ok (.getfield 110, 3) := by decide +kernel
theorem dX1_at_32 : decode cX1_at 32 = .ok (.iadd, 1) := by decide +kernel
theorem dX1_at_33 : decode cX1_at 33 = .ok (.i2l, 1) := by decide +kernel
theorem dX1_at_34 : decode cX1_at 34 = .ok (.invokestatic 103, 3) := by decide +kernel
theorem dX1_at_37 : decode cX1_at 37 = .ok (.ifCond .ne 17, 3) := by decide +kernel
theorem dX1_at_40 : decode cX1_at 40 = .ok (.iload_n 1, 1) := by decide +kernel
theorem dX1_at_41 : decode cX1_at 41 = .ok (.i2l, 1) := by decide +kernel
theorem dX1_at_42 : decode cX1_at 42 = .ok (.ldc2_w 158, 3) := by decide +kernel
theorem dX1_at_45 : decode cX1_at 45 = .ok (.ldc2_w 160, 3) := by decide +kernel
theorem dX1_at_48 : decode cX1_at 48 = .ok (.invokestatic 103, 3) := by decide +kernel
theorem dX1_at_51 : decode cX1_at 51 = .ok (.ifCond .eq 11, 3) := by decide +kernel
theorem dX1_at_54 : decode cX1_at 54 = .ok (.aload_n 0, 1) := by decide +kernel
theorem dX1_at_55 : decode cX1_at 55 = .ok (.iload_n 1, 1) := by decide +kernel
theorem dX1_at_56 : decode cX1_at 56 = .ok (.invokevirtual 162, 3) := by decide +kernel
theorem dX1_at_59 : decode cX1_at 59 = .ok (.goto 5, 3) := by decide +kernel
theorem dX1_at_62 : decode cX1_at 62 = .ok (.bipush (-2), 2) := by decide +kernel
theorem dX1_at_64 : decode cX1_at 64 = .ok (.ireturn, 1) := by decide +kernel
theorem dX1_many_0 : decode cX1_many 0 = .ok (.iconst 0, 1) := by decide +kernel
theorem dX1_many_1 : decode cX1_many 1 = .ok (.istore_n 2, 1) := by decide +kernel
theorem dX1_many_2 : decode cX1_many 2 = .ok (.iconst 0, 1) := by decide +kernel
theorem dX1_many_3 : decode cX1_many 3 = .ok (.istore_n 3, 1) := by decide +kernel
theorem dX1_many_4 : decode cX1_many 4 = .ok (.iload_n 3, 1) := by decide +kernel
theorem dX1_many_5 : decode cX1_many 5 = .ok (.aload_n 0, 1) := by decide +kernel
theorem dX1_many_6 : decode cX1_many 6 = .ok (.getfield 107, 3) := by decide +kernel
theorem dX1_many_9 : decode cX1_many 9 = .ok (.if_icmp .ge 26, 3) := by decide +kernel
theorem dX1_many_12 : decode cX1_many 12 = .ok (.iload_n 2, 1) := by decide +kernel
theorem dX1_many_13 : decode cX1_many 13 = .ok (.aload_n 0, 1) := by decide +kernel
theorem dX1_many_14 : decode cX1_many 14 = .ok (.iload_n 3, 1) := by decide +kernel
theorem dX1_many_15 : decode cX1_many 15 = .ok (.invokevirtual 154, 3) := by decide +kernel
theorem dX1_many_18 : decode cX1_many 18 = .ok (.iload_n 1, 1) := by decide +kernel
theorem dX1_many_19 : decode cX1_many 19 = .ok (.if_icmp .ne 7, 3) := by decide +kernel
theorem dX1_many_22 : decode cX1_many 22 = .ok (.iconst 1, 1) := by decide +kernel
theorem dX1_many_23 : decode cX1_many 23 = .ok (.goto 4, 3) := by decide +kernel
theorem dX1_many_26 : decode cX1_many 26 = .ok (.iconst 0, 1) := by decide +kernel
theorem dX1_many_27 : decode cX1_many 27 = .ok (.iadd, 1) := by decide +kernel
theorem dX1_many_28 : decode cX1_many 28 = .ok (.istore_n 2, 1) := by decide +kernel
theorem dX1_many_29 : decode cX1_many 29 = .ok (.iinc 3 1, 3) := by decide +kernel
theorem dX1_many_32 : decode cX1_many 32 = .ok (.goto (-28), 3) := by decide +kernel
theorem dX1_many_35 : decode cX1_many 35 = .ok (.iload_n 2, 1) := by decide +kernel
theorem dX1_many_36 : decode cX1_many 36 = .ok (.ireturn, 1) := by decide +kernel
theorem dX1_placeOf_0 : decode cX1_placeOf 0 = .ok (.aload_n 0, 1) := by decide +kernel
theorem dX1_placeOf_1 : decode cX1_placeOf 1 = .ok (.getfield 28, 3) := by decide +kernel
theorem dX1_placeOf_4 : decode cX1_placeOf 4 = .ok (.bipush 40, 2) := by decide +kernel
theorem dX1_placeOf_6 : decode cX1_placeOf 6 = .ok (.aload_n 0, 1) := by decide +kernel
theorem dX1_placeOf_7 : decode cX1_placeOf 7 = .ok (.getfield 141, 3) := by decide +kernel
theorem dX1_placeOf_10 : decode cX1_placeOf 10 = .ok (.imul, 1) := by decide +kernel
theorem dX1_placeOf_11 : decode cX1_placeOf 11 = .ok (.iload_n 1, 1) := by decide +kernel
theorem dX1_placeOf_12 : decode cX1_placeOf 12 = .ok (.iadd, 1) := by decide +kernel
theorem dX1_placeOf_13 : decode cX1_placeOf 13 = .ok (.iaload, 1) := by decide +kernel
theorem dX1_placeOf_14 : decode cX1_placeOf 14 = .ok (.ireturn, 1) := by decide +kernel
theorem dX1_tide_0 : decode cX1_tide 0 = .ok (.aload_n 0, 1) := by decide +kernel
theorem dX1_tide_1 : decode cX1_tide 1 = .ok (.iconst 0, 1) := by decide +kernel
theorem dX1_tide_2 : decode cX1_tide 2 = .ok (.putfield 100, 3) := by decide +kernel
theorem dX1_tide_5 : decode cX1_tide 5 = .ok (.aload_n 0, 1) := by decide +kernel
theorem dX1_tide_6 : decode cX1_tide 6 = .ok (.getfield 141, 3) := by decide +kernel
theorem dX1_tide_9 : decode cX1_tide 9 = .ok (.ireturn, 1) := by decide +kernel
theorem dX1_pass_0 : decode cX1_pass 0 = .ok (.aload_n 0, 1) := by decide +kernel
theorem dX1_pass_1 : decode cX1_pass 1 = .ok (.iconst 0, 1) := by decide +kernel
theorem dX1_pass_2 : decode cX1_pass 2 = .ok (.putfield 100, 3) := by decide +kernel
theorem dX1_pass_5 : decode cX1_pass 5 = .ok (.iload_n 1, 1) := by decide +kernel
theorem dX1_pass_6 : decode cX1_pass 6 = .ok (.i2l, 1) := by decide +kernel
theorem dX1_pass_7 : decode cX1_pass 7 = .ok (.lconst 1, 1) := by decide +kernel
theorem dX1_pass_8 : decode cX1_pass 8 = .ok (.ldc2_w 129, 3) := by decide +kernel
theorem dX1_pass_11 : decode cX1_pass 11 = .ok (.invokestatic 103, 3) := by decide +kernel
theorem dX1_pass_14 : decode cX1_pass 14 = .ok (.ifCond .ne 6, 3) := by decide +kernel
theorem dX1_pass_17 : decode cX1_pass 17 = .ok (.bipush (-2), 2) := by decide +kernel
theorem dX1_pass_19 : decode cX1_pass 19 = .ok (.ireturn, 1) := by decide +kernel
theorem dX1_pass_20 : decode cX1_pass 20 = .ok (.aload_n 0, 1) := by decide +kernel
theorem dX1_pass_21 : decode cX1_pass 21 = .ok (.getfield 141, 3) := by decide +kernel
theorem dX1_pass_24 : decode cX1_pass 24 = .ok (.iload_n 1, 1) := by decide +kernel
theorem dX1_pass_25 : decode cX1_pass 25 = .ok (.iadd, 1) := by decide +kernel
theorem dX1_pass_26 : decode cX1_pass 26 = .ok (.sipush 899, 3) := by decide +kernel
theorem dX1_pass_29 : decode cX1_pass 29 = .ok (.if_icmp .le 6, 3) := by decide +kernel
theorem dX1_pass_32 : decode cX1_pass 32 = .ok (.bipush (-4), 2) := by decide +kernel
theorem dX1_pass_34 : decode cX1_pass 34 = .ok (.ireturn, 1) := by decide +kernel
theorem dX1_pass_35 : decode cX1_pass 35 = .ok (.aload_n 0, 1) := by decide +kernel
theorem dX1_pass_36 : decode cX1_pass 36 = .ok (.invokevirtual 124, 3) := by decide +kernel
theorem dX1_pass_39 : decode cX1_pass 39 = .ok (.iconst 0, 1) := by decide +kernel
theorem dX1_pass_40 : decode cX1_pass 40 = .ok (.istore_n 2, 1) := by decide +kernel
theorem dX1_pass_41 : decode cX1_pass 41 = .ok (.iload_n 2, 1) := by decide +kernel
theorem dX1_pass_42 : decode cX1_pass 42 = .ok (.iload_n 1, 1) := by decide +kernel
theorem dX1_pass_43 : decode cX1_pass 43 = .ok (.if_icmp .ge 13, 3) := by decide +kernel
theorem dX1_pass_46 : decode cX1_pass 46 = .ok (.aload_n 0, 1) := by decide +kernel
theorem dX1_pass_47 : decode cX1_pass 47 = .ok (.invokevirtual 181, 3) := by decide +kernel
theorem dX1_pass_50 : decode cX1_pass 50 = .ok (.iinc 2 1, 3) := by decide +kernel
theorem dX1_pass_53 : decode cX1_pass 53 = .ok (.goto (-12), 3) := by decide +kernel
theorem dX1_pass_56 : decode cX1_pass 56 = .ok (.aload_n 0, 1) := by decide +kernel
theorem dX1_pass_57 : decode cX1_pass 57 = .ok (.getfield 141, 3) := by decide +kernel
theorem dX1_pass_60 : decode cX1_pass 60 = .ok (.ireturn, 1) := by decide +kernel
theorem dX1_goOn_0 : decode cX1_goOn 0 = .ok (.aload_n 0, 1) := by decide +kernel
theorem dX1_goOn_1 : decode cX1_goOn 1 = .ok (.dup, 1) := by decide +kernel
theorem dX1_goOn_2 : decode cX1_goOn 2 = .ok (.getfield 141, 3) := by decide +kernel
theorem dX1_goOn_5 : decode cX1_goOn 5 = .ok (.iconst 1, 1) := by decide +kernel
theorem dX1_goOn_6 : decode cX1_goOn 6 = .ok (.iadd, 1) := by decide +kernel
theorem dX1_goOn_7 : decode cX1_goOn 7 = .ok (.putfield 141, 3) := by decide +kernel
theorem dX1_goOn_10 : decode cX1_goOn 10 = .ok (.iconst 0, 1) := by decide +kernel
theorem dX1_goOn_11 : decode cX1_goOn 11 = .ok (.istore_n 1, 1) := by decide +kernel
theorem dX1_goOn_12 : decode cX1_goOn 12 = .ok (.iload_n 1, 1) := by decide +kernel
theorem dX1_goOn_13 : decode cX1_goOn 13 = .ok (.aload_n 0, 1) := by decide +kernel
theorem dX1_goOn_14 : decode cX1_goOn 14 = .ok (.getfield 107, 3) := by decide +kernel
theorem dX1_goOn_17 : decode cX1_goOn 17 = .ok (.if_icmp .ge 39, 3) := by decide +kernel
theorem dX1_goOn_20 : decode cX1_goOn 20 = .ok (.aload_n 0, 1) := by decide +kernel
theorem dX1_goOn_21 : decode cX1_goOn 21 = .ok (.getfield 28, 3) := by decide +kernel
theorem dX1_goOn_24 : decode cX1_goOn 24 = .ok (.bipush 40, 2) := by decide +kernel
theorem dX1_goOn_26 : decode cX1_goOn 26 = .ok (.aload_n 0, 1) := by decide +kernel
theorem dX1_goOn_27 : decode cX1_goOn 27 = .ok (.getfield 141, 3) := by decide +kernel
theorem dX1_goOn_30 : decode cX1_goOn 30 = .ok (.imul, 1) := by decide +kernel
theorem dX1_goOn_31 : decode cX1_goOn 31 = .ok (.iload_n 1, 1) := by decide +kernel
theorem dX1_goOn_32 : decode cX1_goOn 32 = .ok (.iadd, 1) := by decide +kernel
theorem dX1_goOn_33 : decode cX1_goOn 33 = .ok (.aload_n 0, 1) := by decide +kernel
theorem dX1_goOn_34 : decode cX1_goOn 34 = .ok (.getfield 28, 3) := by decide +kernel
theorem dX1_goOn_37 : decode cX1_goOn 37 = .ok (.bipush 40, 2) := by decide +kernel
theorem dX1_goOn_39 : decode cX1_goOn 39 = .ok (.aload_n 0, 1) := by decide +kernel
theorem dX1_goOn_40 : decode cX1_goOn 40 = .ok (.getfield 141, 3) := by decide +kernel
theorem dX1_goOn_43 : decode cX1_goOn 43 = .ok (.iconst 1, 1) := by decide +kernel
theorem dX1_goOn_44 : decode cX1_goOn 44 = .ok (.isub, 1) := by decide +kernel
theorem dX1_goOn_45 : decode cX1_goOn 45 = .ok (.imul, 1) := by decide +kernel
theorem dX1_goOn_46 : decode cX1_goOn 46 = .ok (.iload_n 1, 1) := by decide +kernel
theorem dX1_goOn_47 : decode cX1_goOn 47 = .ok (.iadd, 1) := by decide +kernel
theorem dX1_goOn_48 : decode cX1_goOn 48 = .ok (.iaload, 1) := by decide +kernel
theorem dX1_goOn_49 : decode cX1_goOn 49 = .ok (.iastore, 1) := by decide +kernel
theorem dX1_goOn_50 : decode cX1_goOn 50 = .ok (.iinc 1 1, 3) := by decide +kernel
theorem dX1_goOn_53 : decode cX1_goOn 53 = .ok (.goto (-41), 3) := by decide +kernel
theorem dX1_goOn_56 : decode cX1_goOn 56 = .ok (.iconst 0, 1) := by decide +kernel
theorem dX1_goOn_57 : decode cX1_goOn 57 = .ok (.istore_n 1, 1) := by decide +kernel
theorem dX1_goOn_58 : decode cX1_goOn 58 = .ok (.iload_n 1, 1) := by decide +kernel
theorem dX1_goOn_59 : decode cX1_goOn 59 = .ok (.aload_n 0, 1) := by decide +kernel
theorem dX1_goOn_60 : decode cX1_goOn 60 = .ok (.getfield 107, 3) := by decide +kernel
theorem dX1_goOn_63 : decode cX1_goOn 63 = .ok (.if_icmp .ge 70, 3) := by decide +kernel
theorem dX1_goOn_66 : decode cX1_goOn 66 = .ok (.aload_n 0, 1) := by decide +kernel
theorem dX1_goOn_67 : decode cX1_goOn 67 = .ok (.iload_n 1, 1) := by decide +kernel
theorem dX1_goOn_68 : decode cX1_goOn 68 = .ok (.invokevirtual 154, 3) := by decide +kernel
theorem dX1_goOn_71 : decode cX1_goOn 71 = .ok (.istore_n 2, 1) := by decide +kernel
theorem dX1_goOn_72 : decode cX1_goOn 72 = .ok (.iload_n 2, 1) := by decide +kernel
theorem dX1_goOn_73 : decode cX1_goOn 73 = .ok (.invokestatic 171, 3) := by decide +kernel
theorem dX1_goOn_76 : decode cX1_goOn 76 = .ok (.ifCond .eq 11, 3) := by decide +kernel
theorem dX1_goOn_79 : decode cX1_goOn 79 = .ok (.aload_n 0, 1) := by decide +kernel
theorem dX1_goOn_80 : decode cX1_goOn 80 = .ok (.iload_n 2, 1) := by decide +kernel
theorem dX1_goOn_81 : decode cX1_goOn 81 = .ok (.invokevirtual 174, 3) := by decide +kernel
theorem dX1_goOn_84 : decode cX1_goOn 84 = .ok (.goto 5, 3) := by decide +kernel
theorem dX1_goOn_87 : decode cX1_goOn 87 = .ok (.bipush (-9), 2) := by decide +kernel
theorem dX1_goOn_89 : decode cX1_goOn 89 = .ok (.istore_n 3, 1) := by decide +kernel
theorem dX1_goOn_90 : decode cX1_goOn 90 = .ok (.aload_n 0, 1) := by decide +kernel
theorem dX1_goOn_91 : decode cX1_goOn 91 = .ok (.getfield 21, 3) := by decide +kernel
theorem dX1_goOn_94 : decode cX1_goOn 94 = .ok (.bipush 8, 2) := by decide +kernel
theorem dX1_goOn_96 : decode cX1_goOn 96 = .ok (.iload_n 1, 1) := by decide +kernel
theorem dX1_goOn_97 : decode cX1_goOn 97 = .ok (.imul, 1) := by decide +kernel
theorem dX1_goOn_98 : decode cX1_goOn 98 = .ok (.bipush 7, 2) := by decide +kernel
theorem dX1_goOn_100 : decode cX1_goOn 100 = .ok (.iadd, 1) := by decide +kernel
theorem dX1_goOn_101 : decode cX1_goOn 101 = .ok (.iaload, 1) := by decide +kernel
theorem dX1_goOn_102 : decode cX1_goOn 102 = .ok (.iconst 1, 1) := by decide +kernel
theorem dX1_goOn_103 : decode cX1_goOn 103 = .ok (.if_icmp .ne 24, 3) := by decide +kernel
theorem dX1_goOn_106 : decode cX1_goOn 106 = .ok (.iload_n 3, 1) := by decide +kernel
theorem dX1_goOn_107 : decode cX1_goOn 107 = .ok (.bipush (-9), 2) := by decide +kernel
theorem dX1_goOn_109 : decode cX1_goOn 109 = .ok (.if_icmp .eq 18, 3) := by decide +kernel
theorem dX1_goOn_112 : decode cX1_goOn 112 = .ok (.iload_n 3, 1) := by decide +kernel
theorem dX1_goOn_113 : decode cX1_goOn 113 = .ok (.aload_n 0, 1) := by decide +kernel
theorem dX1_goOn_114 : decode cX1_goOn 114 = .ok (.getfield 141, 3) := by decide +kernel
theorem dX1_goOn_117 : decode cX1_goOn 117 = .ok (.if_icmp .gt 10, 3) := by decide +kernel
theorem dX1_goOn_120 : decode cX1_goOn 120 = .ok (.aload_n 0, 1) := by decide +kernel
theorem dX1_goOn_121 : decode cX1_goOn 121 = .ok (.iload_n 1, 1) := by decide +kernel
theorem dX1_goOn_122 : decode cX1_goOn 122 = .ok (.bipush 22, 2) := by decide +kernel
theorem dX1_goOn_124 : decode cX1_goOn 124 = .ok (.invokevirtual 177, 3) := by decide +kernel
theorem dX1_goOn_127 : decode cX1_goOn 127 = .ok (.iinc 1 1, 3) := by decide +kernel
theorem dX1_goOn_130 : decode cX1_goOn 130 = .ok (.goto (-72), 3) := by decide +kernel
theorem dX1_goOn_133 : decode cX1_goOn 133 = .ok (.aload_n 0, 1) := by decide +kernel
theorem dX1_goOn_134 : decode cX1_goOn 134 = .ok (.bipush 20, 2) := by decide +kernel
theorem dX1_goOn_136 : decode cX1_goOn 136 = .ok (.invokevirtual 162, 3) := by decide +kernel
theorem dX1_goOn_139 : decode cX1_goOn 139 = .ok (.aload_n 0, 1) := by decide +kernel
theorem dX1_goOn_140 : decode cX1_goOn 140 = .ok (.getfield 64, 3) := by decide +kernel
theorem dX1_goOn_143 : decode cX1_goOn 143 = .ok (.isub, 1) := by decide +kernel
theorem dX1_goOn_144 : decode cX1_goOn 144 = .ok (.istore_n 1, 1) := by decide +kernel
theorem dX1_goOn_145 : decode cX1_goOn 145 = .ok (.iload_n 1, 1) := by decide +kernel
theorem dX1_goOn_146 : decode cX1_goOn 146 = .ok (.ifCond .le 15, 3) := by decide +kernel
theorem dX1_goOn_149 : decode cX1_goOn 149 = .ok (.iload_n 1, 1) := by decide +kernel
theorem dX1_goOn_150 : decode cX1_goOn 150 = .ok (.aload_n 0, 1) := by decide +kernel
theorem dX1_goOn_151 : decode cX1_goOn 151 = .ok (.getfield 67, 3) := by decide +kernel
theorem dX1_goOn_154 : decode cX1_goOn 154 = .ok (.imul, 1) := by decide +kernel
theorem dX1_goOn_155 : decode cX1_goOn 155 = .ok (.bipush 100, 2) := by decide +kernel
theorem dX1_goOn_157 : decode cX1_goOn 157 = .ok (.idiv, 1) := by decide +kernel
theorem dX1_goOn_158 : decode cX1_goOn 158 = .ok (.goto 4, 3) := by decide +kernel
theorem dX1_goOn_161 : decode cX1_goOn 161 = .ok (.iconst 0, 1) := by decide +kernel
theorem dX1_goOn_162 : decode cX1_goOn 162 = .ok (.istore_n 2, 1) := by decide +kernel
theorem dX1_goOn_163 : decode cX1_goOn 163 = .ok (.iconst 0, 1) := by decide +kernel
theorem dX1_goOn_164 : decode cX1_goOn 164 = .ok (.istore_n 3, 1) := by decide +kernel
theorem dX1_goOn_165 : decode cX1_goOn 165 = .ok (.iload_n 3, 1) := by decide +kernel
theorem dX1_goOn_166 : decode cX1_goOn 166 = .ok (.aload_n 0, 1) := by decide +kernel
theorem dX1_goOn_167 : decode cX1_goOn 167 = .ok (.getfield 107, 3) := by decide +kernel
theorem dX1_goOn_170 : decode cX1_goOn 170 = .ok (.if_icmp .ge 43, 3) := by decide +kernel
theorem dX1_goOn_173 : decode cX1_goOn 173 = .ok (.iload_n 2, 1) := by decide +kernel
theorem dX1_goOn_174 : decode cX1_goOn 174 = .ok (.ifCond .le 39, 3) := by decide +kernel
theorem dX1_goOn_177 : decode cX1_goOn 177 = .ok (.aload_n 0, 1) := by decide +kernel
theorem dX1_goOn_178 : decode cX1_goOn 178 = .ok (.iload_n 3, 1) := by decide +kernel
theorem dX1_goOn_179 : decode cX1_goOn 179 = .ok (.invokevirtual 154, 3) := by decide +kernel
theorem dX1_goOn_182 : decode cX1_goOn 182 = .ok (.bipush 20, 2) := by decide +kernel
theorem dX1_goOn_184 : decode cX1_goOn 184 = .ok (.if_icmp .ne 23, 3) := by decide +kernel
theorem dX1_goOn_187 : decode cX1_goOn 187 = .ok (.aload_n 0, 1) := by decide +kernel
theorem dX1_goOn_188 : decode cX1_goOn 188 = .ok (.iload_n 3, 1) := by decide +kernel
theorem dX1_goOn_189 : decode cX1_goOn 189 = .ok (.bipush 21, 2) := by decide +kernel
theorem dX1_goOn_191 : decode cX1_goOn 191 = .ok (.invokevirtual 177, 3) := by decide +kernel
theorem dX1_goOn_194 : decode cX1_goOn 194 = .ok (.aload_n 0, 1) := by decide +kernel
theorem dX1_goOn_195 : decode cX1_goOn 195 = .ok (.getfield 24, 3) := by decide +kernel
theorem dX1_goOn_198 : decode cX1_goOn 198 = .ok (.iload_n 3, 1) := by decide +kernel
theorem dX1_goOn_199 : decode cX1_goOn 199 = .ok (.aload_n 0, 1) := by decide +kernel
theorem dX1_goOn_200 : decode cX1_goOn 200 = .ok (.getfield 141, 3) := by decide +kernel
theorem dX1_goOn_203 : decode cX1_goOn 203 = .ok (.iastore, 1) := by decide +kernel
theorem dX1_goOn_204 : decode cX1_goOn 204 = .ok (.iinc 2 (-1), 3) := by decide +kernel
theorem dX1_goOn_207 : decode cX1_goOn 207 = .ok (.iinc 3 1, 3) := by decide +kernel
theorem dX1_goOn_210 : decode cX1_goOn 210 = .ok (.goto (-45), 3) := by decide +kernel
theorem dX1_goOn_213 : decode cX1_goOn 213 = .ok (.iconst 0, 1) := by decide +kernel
theorem dX1_goOn_214 : decode cX1_goOn 214 = .ok (.istore_n 3, 1) := by decide +kernel
theorem dX1_goOn_215 : decode cX1_goOn 215 = .ok (.iload_n 3, 1) := by decide +kernel
theorem dX1_goOn_216 : decode cX1_goOn 216 = .ok (.aload_n 0, 1) := by decide +kernel
theorem dX1_goOn_217 : decode cX1_goOn 217 = .ok (.getfield 107, 3) := by decide +kernel
theorem dX1_goOn_220 : decode cX1_goOn 220 = .ok (.if_icmp .ge 52, 3) := by decide +kernel
theorem dX1_goOn_223 : decode cX1_goOn 223 = .ok (.aload_n 0, 1) := by decide +kernel
theorem dX1_goOn_224 : decode cX1_goOn 224 = .ok (.iload_n 3, 1) := by decide +kernel
theorem dX1_goOn_225 : decode cX1_goOn 225 = .ok (.invokevirtual 154, 3) := by decide +kernel
theorem dX1_goOn_228 : decode cX1_goOn 228 = .ok (.bipush 21, 2) := by decide +kernel
theorem dX1_goOn_230 : decode cX1_goOn 230 = .ok (.if_icmp .ne 36, 3) := by decide +kernel
theorem dX1_goOn_233 : decode cX1_goOn 233 = .ok (.aload_n 0, 1) := by decide +kernel
theorem dX1_goOn_234 : decode cX1_goOn 234 = .ok (.getfield 24, 3) := by decide +kernel
theorem dX1_goOn_237 : decode cX1_goOn 237 = .ok (.iload_n 3, 1) := by decide +kernel
theorem dX1_goOn_238 : decode cX1_goOn 238 = .ok (.iaload, 1) := by decide +kernel
theorem dX1_goOn_239 : decode cX1_goOn 239 = .ok (.aload_n 0, 1) := by decide +kernel
theorem dX1_goOn_240 : decode cX1_goOn 240 = .ok (.getfield 141, 3) := by decide +kernel
theorem dX1_goOn_243 : decode cX1_goOn 243 = .ok (.bipush 10, 2) := by decide +kernel
theorem dX1_goOn_245 : decode cX1_goOn 245 = .ok (.isub, 1) := by decide +kernel
theorem dX1_goOn_246 : decode cX1_goOn 246 = .ok (.if_icmp .ne 20, 3) := by decide +kernel
theorem dX1_goOn_249 : decode cX1_goOn 249 = .ok (.aload_n 0, 1) := by decide +kernel
theorem dX1_goOn_250 : decode cX1_goOn 250 = .ok (.iload_n 3, 1) := by decide +kernel
theorem dX1_goOn_251 : decode cX1_goOn 251 = .ok (.aload_n 0, 1) := by decide +kernel
theorem dX1_goOn_252 : decode cX1_goOn 252 = .ok (.getfield 21, 3) := by decide +kernel
theorem dX1_goOn_255 : decode cX1_goOn 255 = .ok (.bipush 8, 2) := by decide +kernel
theorem dX1_goOn_257 : decode cX1_goOn 257 = .ok (.iload_n 3, 1) := by decide +kernel
theorem dX1_goOn_258 : decode cX1_goOn 258 = .ok (.imul, 1) := by decide +kernel
theorem dX1_goOn_259 : decode cX1_goOn 259 = .ok (.bipush 6, 2) := by decide +kernel
theorem dX1_goOn_261 : decode cX1_goOn 261 = .ok (.iadd, 1) := by decide +kernel
theorem dX1_goOn_262 : decode cX1_goOn 262 = .ok (.iaload, 1) := by decide +kernel
theorem dX1_goOn_263 : decode cX1_goOn 263 = .ok (.invokevirtual 177, 3) := by decide +kernel
theorem dX1_goOn_266 : decode cX1_goOn 266 = .ok (.iinc 3 1, 3) := by decide +kernel
theorem dX1_goOn_269 : decode cX1_goOn 269 = .ok (.goto (-54), 3) := by decide +kernel
theorem dX1_goOn_272 : decode cX1_goOn 272 = .ok (.return_, 1) := by decide +kernel
theorem dX1_isStreet_0 : decode cX1_isStreet 0 = .ok (.iload_n 0, 1) := by decide +kernel
theorem dX1_isStreet_1 : decode cX1_isStreet 1 = .ok (.i2l, 1) := by decide +kernel
theorem dX1_isStreet_2 : decode cX1_isStreet 2 = .ok (.lconst 0, 1) := by decide +kernel
theorem dX1_isStreet_3 : decode cX1_isStreet 3 = .ok (.ldc2_w 147, 3) := by decide +kernel
theorem dX1_isStreet_6 : decode cX1_isStreet 6 = .ok (.invokestatic 103, 3) := by decide +kernel
theorem dX1_isStreet_9 : decode cX1_isStreet 9 = .ok (.ireturn, 1) := by decide +kernel
theorem dX1_heardAt_0 : decode cX1_heardAt 0 = .ok (.bipush (-9), 2) := by decide +kernel
theorem dX1_heardAt_2 : decode cX1_heardAt 2 = .ok (.istore_n 2, 1) := by decide +kernel
theorem dX1_heardAt_3 : decode cX1_heardAt 3 = .ok (.aload_n 0, 1) := by decide +kernel
theorem dX1_heardAt_4 : decode cX1_heardAt 4 = .ok (.getfield 165, 3) := by decide +kernel
theorem dX1_heardAt_7 : decode cX1_heardAt 7 = .ok (.istore_n 3, 1) := by decide +kernel
theorem dX1_heardAt_8 : decode cX1_heardAt 8 = .ok (.iload_n 3, 1) := by decide +kernel
theorem dX1_heardAt_9 : decode cX1_heardAt 9 = .ok (.aload_n 0, 1) := by decide +kernel
theorem dX1_heardAt_10 : decode cX1_heardAt 10 = .ok (.getfield 168, 3) := by decide +kernel
theorem dX1_heardAt_13 : decode cX1_heardAt 13 = .ok (.if_icmp .ge 90, 3) := by decide +kernel
theorem dX1_heardAt_16 : decode cX1_heardAt 16 = .ok (.aload_n 0, 1) := by decide +kernel
theorem dX1_heardAt_17 : decode cX1_heardAt 17 = .ok (.getfield 61, 3) := by decide +kernel
theorem dX1_heardAt_20 : decode cX1_heardAt 20 = .ok (.bipush 6, 2) := by decide +kernel
theorem dX1_heardAt_22 : decode cX1_heardAt 22 = .ok (.iload_n 3, 1) := by decide +kernel
theorem dX1_heardAt_23 : decode cX1_heardAt 23 = .ok (.imul, 1) := by decide +kernel
theorem dX1_heardAt_24 : decode cX1_heardAt 24 = .ok (.iconst 3, 1) := by decide +kernel
theorem dX1_heardAt_25 : decode cX1_heardAt 25 = .ok (.iadd, 1) := by decide +kernel
theorem dX1_heardAt_26 : decode cX1_heardAt 26 = .ok (.iaload, 1) := by decide +kernel
theorem dX1_heardAt_27 : decode cX1_heardAt 27 = .ok (.istore 4, 2) := by decide +kernel
theorem dX1_heardAt_29 : decode cX1_heardAt 29 = .ok (.iload 4, 2) := by decide +kernel
theorem dX1_heardAt_31 : decode cX1_heardAt 31 = .ok (.invokestatic 171, 3) := by decide +kernel
theorem dX1_heardAt_34 : decode cX1_heardAt 34 = .ok (.ifCond .eq 63, 3) := by decide +kernel
theorem dX1_heardAt_37 : decode cX1_heardAt 37 = .ok (.aload_n 0, 1) := by decide +kernel
theorem dX1_heardAt_38 : decode cX1_heardAt 38 = .ok (.getfield 17, 3) := by decide +kernel
theorem dX1_heardAt_41 : decode cX1_heardAt 41 = .ok (.bipush 8, 2) := by decide +kernel
theorem dX1_heardAt_43 : decode cX1_heardAt 43 = .ok (.iload 4, 2) := by decide +kernel
theorem dX1_heardAt_45 : decode cX1_heardAt 45 = .ok (.imul, 1) := by decide +kernel
theorem dX1_heardAt_46 : decode cX1_heardAt 46 = .ok (.iload_n 1, 1) := by decide +kernel
theorem dX1_heardAt_47 : decode cX1_heardAt 47 = .ok (.iadd, 1) := by decide +kernel
theorem dX1_heardAt_48 : decode cX1_heardAt 48 = .ok (.iaload, 1) := by decide +kernel
theorem dX1_heardAt_49 : decode cX1_heardAt 49 = .ok (.bipush 100, 2) := by decide +kernel
theorem dX1_heardAt_51 : decode cX1_heardAt 51 = .ok (.if_icmp .ge 46, 3) := by decide +kernel
theorem dX1_heardAt_54 : decode cX1_heardAt 54 = .ok (.aload_n 0, 1) := by decide +kernel
theorem dX1_heardAt_55 : decode cX1_heardAt 55 = .ok (.getfield 61, 3) := by decide +kernel
theorem dX1_heardAt_58 : decode cX1_heardAt 58 = .ok (.bipush 6, 2) := by decide +kernel
theorem dX1_heardAt_60 : decode cX1_heardAt 60 = .ok (.iload_n 3, 1) := by decide +kernel
theorem dX1_heardAt_61 : decode cX1_heardAt 61 = .ok (.imul, 1) := by decide +kernel
theorem dX1_heardAt_62 : decode cX1_heardAt 62 = .ok (.iaload, 1) := by decide +kernel
theorem dX1_heardAt_63 : decode cX1_heardAt 63 = .ok (.aload_n 0, 1) := by decide +kernel
theorem dX1_heardAt_64 : decode cX1_heardAt 64 = .ok (.getfield 17, 3) := by decide +kernel
theorem dX1_heardAt_67 : decode cX1_heardAt 67 = .ok (.bipush 8, 2) := by decide +kernel
theorem dX1_heardAt_69 : decode cX1_heardAt 69 = .ok (.iload 4, 2) := by decide +kernel
theorem dX1_heardAt_71 : decode cX1_heardAt 71 = .ok (.imul, 1) := by decide +kernel
theorem dX1_heardAt_72 : decode cX1_heardAt 72 = .ok (.iload_n 1, 1) := by decide +kernel
theorem dX1_heardAt_73 : decode cX1_heardAt 73 = .ok (.iadd, 1) := by decide +kernel
theorem dX1_heardAt_74 : decode cX1_heardAt 74 = .ok (.iaload, 1) := by decide +kernel
theorem dX1_heardAt_75 : decode cX1_heardAt 75 = .ok (.iadd, 1) := by decide +kernel
theorem dX1_heardAt_76 : decode cX1_heardAt 76 = .ok (.istore 5, 2) := by decide +kernel
theorem dX1_heardAt_78 : decode cX1_heardAt 78 = .ok (.iload_n 2, 1) := by decide +kernel
theorem dX1_heardAt_79 : decode cX1_heardAt 79 = .ok (.bipush (-9), 2) := by decide +kernel
theorem dX1_heardAt_81 : decode cX1_heardAt 81 = .ok (.if_icmp .eq 9, 3) := by decide +kernel
theorem dX1_heardAt_84 : decode cX1_heardAt 84 = .ok (.iload 5, 2) := by decide +kernel
theorem dX1_heardAt_86 : decode cX1_heardAt 86 = .ok (.iload_n 2, 1) := by decide +kernel
theorem dX1_heardAt_87 : decode cX1_heardAt 87 = .ok (.if_icmp .ge 8, 3) := by decide +kernel
theorem dX1_heardAt_90 : decode cX1_heardAt 90 = .ok (.iload 5, 2) := by decide +kernel
theorem dX1_heardAt_92 : decode cX1_heardAt 92 = .ok (.goto 4, 3) := by decide +kernel
theorem dX1_heardAt_95 : decode cX1_heardAt 95 = .ok (.iload_n 2, 1) := by decide +kernel
theorem dX1_heardAt_96 : decode cX1_heardAt 96 = .ok (.istore_n 2, 1) := by decide +kernel
theorem dX1_heardAt_97 : decode cX1_heardAt 97 = .ok (.iinc 3 1, 3) := by decide +kernel
theorem dX1_heardAt_100 : decode cX1_heardAt 100 = .ok (.goto (-92), 3) := by decide +kernel
theorem dX1_heardAt_103 : decode cX1_heardAt 103 = .ok (.iload_n 2, 1) := by decide +kernel
theorem dX1_heardAt_104 : decode cX1_heardAt 104 = .ok (.ireturn, 1) := by decide +kernel
theorem dX1_go_0 : decode cX1_go 0 = .ok (.aload_n 0, 1) := by decide +kernel
theorem dX1_go_1 : decode cX1_go 1 = .ok (.getfield 28, 3) := by decide +kernel
theorem dX1_go_4 : decode cX1_go 4 = .ok (.bipush 40, 2) := by decide +kernel
theorem dX1_go_6 : decode cX1_go 6 = .ok (.aload_n 0, 1) := by decide +kernel
theorem dX1_go_7 : decode cX1_go 7 = .ok (.getfield 141, 3) := by decide +kernel
theorem dX1_go_10 : decode cX1_go 10 = .ok (.imul, 1) := by decide +kernel
theorem dX1_go_11 : decode cX1_go 11 = .ok (.iload_n 1, 1) := by decide +kernel
theorem dX1_go_12 : decode cX1_go 12 = .ok (.iadd, 1) := by decide +kernel
theorem dX1_go_13 : decode cX1_go 13 = .ok (.iload_n 2, 1) := by decide +kernel
theorem dX1_go_14 : decode cX1_go 14 = .ok (.iastore, 1) := by decide +kernel
theorem dX1_go_15 : decode cX1_go 15 = .ok (.return_, 1) := by decide +kernel
theorem dX1_walk_0 : decode cX1_walk 0 = .ok (.aload_n 0, 1) := by decide +kernel
theorem dX1_walk_1 : decode cX1_walk 1 = .ok (.iconst 0, 1) := by decide +kernel
theorem dX1_walk_2 : decode cX1_walk 2 = .ok (.putfield 100, 3) := by decide +kernel
theorem dX1_walk_5 : decode cX1_walk 5 = .ok (.aload_n 0, 1) := by decide +kernel
theorem dX1_walk_6 : decode cX1_walk 6 = .ok (.iload_n 1, 1) := by decide +kernel
theorem dX1_walk_7 : decode cX1_walk 7 = .ok (.invokevirtual 144, 3) := by decide +kernel
theorem dX1_walk_10 : decode cX1_walk 10 = .ok (.ifCond .ne 11, 3) := by decide +kernel
theorem dX1_walk_13 : decode cX1_walk 13 = .ok (.aload_n 0, 1) := by decide +kernel
theorem dX1_walk_14 : decode cX1_walk 14 = .ok (.iload_n 2, 1) := by decide +kernel
theorem dX1_walk_15 : decode cX1_walk 15 = .ok (.invokevirtual 120, 3) := by decide +kernel
theorem dX1_walk_18 : decode cX1_walk 18 = .ok (.ifCond .eq 5, 3) := by decide +kernel
theorem dX1_walk_21 : decode cX1_walk 21 = .ok (.iconst (-1), 1) := by decide +kernel
theorem dX1_walk_22 : decode cX1_walk 22 = .ok (.ireturn, 1) := by decide +kernel
theorem dX1_walk_23 : decode cX1_walk 23 = .ok (.aload_n 0, 1) := by decide +kernel
theorem dX1_walk_24 : decode cX1_walk 24 = .ok (.iload_n 1, 1) := by decide +kernel
theorem dX1_walk_25 : decode cX1_walk 25 = .ok (.invokevirtual 154, 3) := by decide +kernel
theorem dX1_walk_28 : decode cX1_walk 28 = .ok (.istore_n 3, 1) := by decide +kernel
theorem dX1_walk_29 : decode cX1_walk 29 = .ok (.iload_n 3, 1) := by decide +kernel
theorem dX1_walk_30 : decode cX1_walk 30 = .ok (.invokestatic 171, 3) := by decide +kernel
theorem dX1_walk_33 : decode cX1_walk 33 = .ok (.ifCond .ne 12, 3) := by decide +kernel
theorem dX1_walk_36 : decode cX1_walk 36 = .ok (.iload_n 3, 1) := by decide +kernel
theorem dX1_walk_37 : decode cX1_walk 37 = .ok (.bipush 22, 2) := by decide +kernel
theorem dX1_walk_39 : decode cX1_walk 39 = .ok (.if_icmp .eq 6, 3) := by decide +kernel
theorem dX1_walk_42 : decode cX1_walk 42 = .ok (.bipush (-3), 2) := by decide +kernel
theorem dX1_walk_44 : decode cX1_walk 44 = .ok (.ireturn, 1) := by decide +kernel
theorem dX1_walk_45 : decode cX1_walk 45 = .ok (.aload_n 0, 1) := by decide +kernel
theorem dX1_walk_46 : decode cX1_walk 46 = .ok (.iload_n 1, 1) := by decide +kernel
theorem dX1_walk_47 : decode cX1_walk 47 = .ok (.iload_n 2, 1) := by decide +kernel
theorem dX1_walk_48 : decode cX1_walk 48 = .ok (.invokevirtual 177, 3) := by decide +kernel
theorem dX1_walk_51 : decode cX1_walk 51 = .ok (.iload_n 3, 1) := by decide +kernel
theorem dX1_walk_52 : decode cX1_walk 52 = .ok (.ireturn, 1) := by decide +kernel
theorem dX1_run_0 : decode cX1_run 0 = .ok (.aload_n 0, 1) := by decide +kernel
theorem dX1_run_1 : decode cX1_run 1 = .ok (.iconst 0, 1) := by decide +kernel
theorem dX1_run_2 : decode cX1_run 2 = .ok (.putfield 100, 3) := by decide +kernel
theorem dX1_run_5 : decode cX1_run 5 = .ok (.aload_n 0, 1) := by decide +kernel
theorem dX1_run_6 : decode cX1_run 6 = .ok (.iload_n 1, 1) := by decide +kernel
theorem dX1_run_7 : decode cX1_run 7 = .ok (.invokevirtual 144, 3) := by decide +kernel
theorem dX1_run_10 : decode cX1_run 10 = .ok (.ifCond .eq 5, 3) := by decide +kernel
theorem dX1_run_13 : decode cX1_run 13 = .ok (.iconst (-1), 1) := by decide +kernel
theorem dX1_run_14 : decode cX1_run 14 = .ok (.ireturn, 1) := by decide +kernel
theorem dX1_run_15 : decode cX1_run 15 = .ok (.aload_n 0, 1) := by decide +kernel
theorem dX1_run_16 : decode cX1_run 16 = .ok (.iload_n 1, 1) := by decide +kernel
theorem dX1_run_17 : decode cX1_run 17 = .ok (.invokevirtual 154, 3) := by decide +kernel
theorem dX1_run_20 : decode cX1_run 20 = .ok (.istore_n 2, 1) := by decide +kernel
theorem dX1_run_21 : decode cX1_run 21 = .ok (.iload_n 2, 1) := by decide +kernel
theorem dX1_run_22 : decode cX1_run 22 = .ok (.bipush 23, 2) := by decide +kernel
theorem dX1_run_24 : decode cX1_run 24 = .ok (.if_icmp .ne 6, 3) := by decide +kernel
theorem dX1_run_27 : decode cX1_run 27 = .ok (.bipush (-3), 2) := by decide +kernel
theorem dX1_run_29 : decode cX1_run 29 = .ok (.ireturn, 1) := by decide +kernel
theorem dX1_run_30 : decode cX1_run 30 = .ok (.aload_n 0, 1) := by decide +kernel
theorem dX1_run_31 : decode cX1_run 31 = .ok (.iload_n 1, 1) := by decide +kernel
theorem dX1_run_32 : decode cX1_run 32 = .ok (.bipush 23, 2) := by decide +kernel
theorem dX1_run_34 : decode cX1_run 34 = .ok (.invokevirtual 177, 3) := by decide +kernel
theorem dX1_run_37 : decode cX1_run 37 = .ok (.iload_n 2, 1) := by decide +kernel
theorem dX1_run_38 : decode cX1_run 38 = .ok (.ireturn, 1) := by decide +kernel
theorem dX1_paper_0 : decode cX1_paper 0 = .ok (.aload_n 0, 1) := by decide +kernel
theorem dX1_paper_1 : decode cX1_paper 1 = .ok (.iconst 0, 1) := by decide +kernel
theorem dX1_paper_2 : decode cX1_paper 2 = .ok (.putfield 100, 3) := by decide +kernel
theorem dX1_paper_5 : decode cX1_paper 5 = .ok (.aload_n 0, 1) := by decide +kernel
theorem dX1_paper_6 : decode cX1_paper 6 = .ok (.iload_n 1, 1) := by decide +kernel
theorem dX1_paper_7 : decode cX1_paper 7 = .ok (.invokevirtual 144, 3) := by decide +kernel
theorem dX1_paper_10 : decode cX1_paper 10 = .ok (.ifCond .eq 5, 3) := by decide +kernel
theorem dX1_paper_13 : decode cX1_paper 13 = .ok (.iconst (-1), 1) := by decide +kernel
theorem dX1_paper_14 : decode cX1_paper 14 = .ok (.ireturn, 1) := by decide +kernel
theorem dX1_paper_15 : decode cX1_paper 15 = .ok (.iload_n 2, 1) := by decide +kernel
theorem dX1_paper_16 : decode cX1_paper 16 = .ok (.invokestatic 184, 3) := by decide +kernel
theorem dX1_paper_19 : decode cX1_paper 19 = .ok (.ifCond .ne 47, 3) := by decide +kernel
theorem dX1_paper_22 : decode cX1_paper 22 = .ok (.iload_n 3, 1) := by decide +kernel
theorem dX1_paper_23 : decode cX1_paper 23 = .ok (.invokestatic 184, 3) := by decide +kernel
theorem dX1_paper_26 : decode cX1_paper 26 = .ok (.ifCond .ne 40, 3) := by decide +kernel
theorem dX1_paper_29 : decode cX1_paper 29 = .ok (.iload 4, 2) := by decide +kernel
theorem dX1_paper_31 : decode cX1_paper 31 = .ok (.iload 5, 2) := by decide +kernel
theorem dX1_paper_33 : decode cX1_paper 33 = .ok (.bipush 99, 2) := by decide +kernel
theorem dX1_paper_35 : decode cX1_paper 35 = .ok (.invokestatic 187, 3) := by decide +kernel
theorem dX1_paper_38 : decode cX1_paper 38 = .ok (.ifCond .ne 28, 3) := by decide +kernel
theorem dX1_paper_41 : decode cX1_paper 41 = .ok (.iload 6, 2) := by decide +kernel
theorem dX1_paper_43 : decode cX1_paper 43 = .ok (.iload 7, 2) := by decide +kernel
theorem dX1_paper_45 : decode cX1_paper 45 = .ok (.bipush 99, 2) := by decide +kernel
theorem dX1_paper_47 : decode cX1_paper 47 = .ok (.invokestatic 187, 3) := by decide +kernel
theorem dX1_paper_50 : decode cX1_paper 50 = .ok (.ifCond .ne 16, 3) := by decide +kernel
theorem dX1_paper_53 : decode cX1_paper 53 = .ok (.iload 8, 2) := by decide +kernel
theorem dX1_paper_55 : decode cX1_paper 55 = .ok (.iload 9, 2) := by decide +kernel
theorem dX1_paper_57 : decode cX1_paper 57 = .ok (.sipush 899, 3) := by decide +kernel
theorem dX1_paper_60 : decode cX1_paper 60 = .ok (.invokestatic 187, 3) := by decide +kernel
theorem dX1_paper_63 : decode cX1_paper 63 = .ok (.ifCond .eq 6, 3) := by decide +kernel
theorem dX1_paper_66 : decode cX1_paper 66 = .ok (.bipush (-2), 2) := by decide +kernel
theorem dX1_paper_68 : decode cX1_paper 68 = .ok (.ireturn, 1) := by decide +kernel
theorem dX1_paper_69 : decode cX1_paper 69 = .ok (.aload_n 0, 1) := by decide +kernel
theorem dX1_paper_70 : decode cX1_paper 70 = .ok (.getfield 113, 3) := by decide +kernel
theorem dX1_paper_73 : decode cX1_paper 73 = .ok (.bipush 60, 2) := by decide +kernel
theorem dX1_paper_75 : decode cX1_paper 75 = .ok (.if_icmp .ne 6, 3) := by decide +kernel
theorem dX1_paper_78 : decode cX1_paper 78 = .ok (.bipush (-4), 2) := by decide +kernel
theorem dX1_paper_80 : decode cX1_paper 80 = .ok (.ireturn, 1) := by decide +kernel
theorem dX1_paper_81 : decode cX1_paper 81 = .ok (.bipush 9, 2) := by decide +kernel
theorem dX1_paper_83 : decode cX1_paper 83 = .ok (.aload_n 0, 1) := by decide +kernel
theorem dX1_paper_84 : decode cX1_paper 84 = .ok (.getfield 113, 3) := by decide +kernel
theorem dX1_paper_87 : decode cX1_paper 87 = .ok (.imul, 1) := by decide +kernel
theorem dX1_paper_88 : decode cX1_paper 88 = .ok (.istore 10, 2) := by decide +kernel
theorem dX1_paper_90 : decode cX1_paper 90 = .ok (.aload_n 0, 1) := by decide +kernel
theorem dX1_paper_91 : decode cX1_paper 91 = .ok (.getfield 46, 3) := by decide +kernel
theorem dX1_paper_94 : decode cX1_paper 94 = .ok (.iload 10, 2) := by decide +kernel
theorem dX1_paper_96 : decode cX1_paper 96 = .ok (.iload_n 1, 1) := by decide +kernel
theorem dX1_paper_97 : decode cX1_paper 97 = .ok (.iastore, 1) := by decide +kernel
theorem dX1_paper_98 : decode cX1_paper 98 = .ok (.aload_n 0, 1) := by decide +kernel
theorem dX1_paper_99 : decode cX1_paper 99 = .ok (.getfield 46, 3) := by decide +kernel
theorem dX1_paper_102 : decode cX1_paper 102 = .ok (.iload 10, 2) := by decide +kernel
theorem dX1_paper_104 : decode cX1_paper 104 = .ok (.iconst 1, 1) := by decide +kernel
theorem dX1_paper_105 : decode cX1_paper 105 = .ok (.iadd, 1) := by decide +kernel
theorem dX1_paper_106 : decode cX1_paper 106 = .ok (.iload_n 2, 1) := by decide +kernel
theorem dX1_paper_107 : decode cX1_paper 107 = .ok (.iastore, 1) := by decide +kernel
theorem dX1_paper_108 : decode cX1_paper 108 = .ok (.aload_n 0, 1) := by decide +kernel
theorem dX1_paper_109 : decode cX1_paper 109 = .ok (.getfield 46, 3) := by decide +kernel
theorem dX1_paper_112 : decode cX1_paper 112 = .ok (.iload 10, 2) := by decide +kernel
theorem dX1_paper_114 : decode cX1_paper 114 = .ok (.iconst 2, 1) := by decide +kernel
theorem dX1_paper_115 : decode cX1_paper 115 = .ok (.iadd, 1) := by decide +kernel
theorem dX1_paper_116 : decode cX1_paper 116 = .ok (.iload_n 3, 1) := by decide +kernel
theorem dX1_paper_117 : decode cX1_paper 117 = .ok (.iastore, 1) := by decide +kernel
theorem dX1_paper_118 : decode cX1_paper 118 = .ok (.aload_n 0, 1) := by decide +kernel
theorem dX1_paper_119 : decode cX1_paper 119 = .ok (.getfield 46, 3) := by decide +kernel
theorem dX1_paper_122 : decode cX1_paper 122 = .ok (.iload 10, 2) := by decide +kernel
theorem dX1_paper_124 : decode cX1_paper 124 = .ok (.iconst 3, 1) := by decide +kernel
theorem dX1_paper_125 : decode cX1_paper 125 = .ok (.iadd, 1) := by decide +kernel
theorem dX1_paper_126 : decode cX1_paper 126 = .ok (.iload 4, 2) := by decide +kernel
theorem dX1_paper_128 : decode cX1_paper 128 = .ok (.iastore, 1) := by decide +kernel
theorem dX1_paper_129 : decode cX1_paper 129 = .ok (.aload_n 0, 1) := by decide +kernel
theorem dX1_paper_130 : decode cX1_paper 130 = .ok (.getfield 46, 3) := by decide +kernel
theorem dX1_paper_133 : decode cX1_paper 133 = .ok (.iload 10, 2) := by decide +kernel
theorem dX1_paper_135 : decode cX1_paper 135 = .ok (.iconst 4, 1) := by decide +kernel
theorem dX1_paper_136 : decode cX1_paper 136 = .ok (.iadd, 1) := by decide +kernel
theorem dX1_paper_137 : decode cX1_paper 137 = .ok (.iload 5, 2) := by decide +kernel
theorem dX1_paper_139 : decode cX1_paper 139 = .ok (.iastore, 1) := by decide +kernel
theorem dX1_paper_140 : decode cX1_paper 140 = .ok (.aload_n 0, 1) := by decide +kernel
theorem dX1_paper_141 : decode cX1_paper 141 = .ok (.getfield 46, 3) := by decide +kernel
theorem dX1_paper_144 : decode cX1_paper 144 = .ok (.iload 10, 2) := by decide +kernel
theorem dX1_paper_146 : decode cX1_paper 146 = .ok (.iconst 5, 1) := by decide +kernel
theorem dX1_paper_147 : decode cX1_paper 147 = .ok (.iadd, 1) := by decide +kernel
theorem dX1_paper_148 : decode cX1_paper 148 = .ok (.iload 6, 2) := by decide +kernel
theorem dX1_paper_150 : decode cX1_paper 150 = .ok (.iastore, 1) := by decide +kernel
theorem dX1_paper_151 : decode cX1_paper 151 = .ok (.aload_n 0, 1) := by decide +kernel
theorem dX1_paper_152 : decode cX1_paper 152 = .ok (.getfield 46, 3) := by decide +kernel
theorem dX1_paper_155 : decode cX1_paper 155 = .ok (.iload 10, 2) := by decide +kernel
theorem dX1_paper_157 : decode cX1_paper 157 = .ok (.bipush 6, 2) := by decide +kernel
theorem dX1_paper_159 : decode cX1_paper 159 = .ok (.iadd, 1) := by decide +kernel
theorem dX1_paper_160 : decode cX1_paper 160 = .ok (.iload 7, 2) := by decide +kernel
theorem dX1_paper_162 : decode cX1_paper 162 = .ok (.iastore, 1) := by decide +kernel
theorem dX1_paper_163 : decode cX1_paper 163 = .ok (.aload_n 0, 1) := by decide +kernel
theorem dX1_paper_164 : decode cX1_paper 164 = .ok (.getfield 46, 3) := by decide +kernel
theorem dX1_paper_167 : decode cX1_paper 167 = .ok (.iload 10, 2) := by decide +kernel
theorem dX1_paper_169 : decode cX1_paper 169 = .ok (.bipush 7, 2) := by decide +kernel
theorem dX1_paper_171 : decode cX1_paper 171 = .ok (.iadd, 1) := by decide +kernel
theorem dX1_paper_172 : decode cX1_paper 172 = .ok (.iload 8, 2) := by decide +kernel
theorem dX1_paper_174 : decode cX1_paper 174 = .ok (.iastore, 1) := by decide +kernel
theorem dX1_paper_175 : decode cX1_paper 175 = .ok (.aload_n 0, 1) := by decide +kernel
theorem dX1_paper_176 : decode cX1_paper 176 = .ok (.getfield 46, 3) := by decide +kernel
theorem dX1_paper_179 : decode cX1_paper 179 = .ok (.iload 10, 2) := by decide +kernel
theorem dX1_paper_181 : decode cX1_paper 181 = .ok (.bipush 8, 2) := by decide +kernel
theorem dX1_paper_183 : decode cX1_paper 183 = .ok (.iadd, 1) := by decide +kernel
theorem dX1_paper_184 : decode cX1_paper 184 = .ok (.iload 9, 2) := by decide +kernel
theorem dX1_paper_186 : decode cX1_paper 186 = .ok (.iastore, 1) := by decide +kernel
theorem dX1_paper_187 : decode cX1_paper 187 = .ok (.aload_n 0, 1) := by decide +kernel
theorem dX1_paper_188 : decode cX1_paper 188 = .ok (.dup, 1) := by decide +kernel
theorem dX1_paper_189 : decode cX1_paper 189 = .ok (.getfield 113, 3) := by decide +kernel
theorem dX1_paper_192 : decode cX1_paper 192 = .ok (.iconst 1, 1) := by decide +kernel
theorem dX1_paper_193 : decode cX1_paper 193 = .ok (.iadd, 1) := by decide +kernel
theorem dX1_paper_194 : decode cX1_paper 194 = .ok (.putfield 113, 3) := by decide +kernel
theorem dX1_paper_197 : decode cX1_paper 197 = .ok (.aload_n 0, 1) := by decide +kernel
theorem dX1_paper_198 : decode cX1_paper 198 = .ok (.getfield 113, 3) := by decide +kernel
theorem dX1_paper_201 : decode cX1_paper 201 = .ok (.iconst 1, 1) := by decide +kernel
theorem dX1_paper_202 : decode cX1_paper 202 = .ok (.isub, 1) := by decide +kernel
theorem dX1_paper_203 : decode cX1_paper 203 = .ok (.ireturn, 1) := by decide +kernel
theorem dX1_badLook_0 : decode cX1_badLook 0 = .ok (.iload_n 0, 1) := by decide +kernel
theorem dX1_badLook_1 : decode cX1_badLook 1 = .ok (.bipush (-9), 2) := by decide +kernel
theorem dX1_badLook_3 : decode cX1_badLook 3 = .ok (.if_icmp .eq 19, 3) := by decide +kernel
theorem dX1_badLook_6 : decode cX1_badLook 6 = .ok (.iload_n 0, 1) := by decide +kernel
theorem dX1_badLook_7 : decode cX1_badLook 7 = .ok (.i2l, 1) := by decide +kernel
theorem dX1_badLook_8 : decode cX1_badLook 8 = .ok (.lconst 0, 1) := by decide +kernel
theorem dX1_badLook_9 : decode cX1_badLook 9 = .ok (.ldc2_w 131, 3) := by decide +kernel
theorem dX1_badLook_12 : decode cX1_badLook 12 = .ok (.invokestatic 103, 3) := by decide +kernel
theorem dX1_badLook_15 : decode cX1_badLook 15 = .ok (.ifCond .ne 7, 3) := by decide +kernel
theorem dX1_badLook_18 : decode cX1_badLook 18 = .ok (.iconst 1, 1) := by decide +kernel
theorem dX1_badLook_19 : decode cX1_badLook 19 = .ok (.goto 4, 3) := by decide +kernel
theorem dX1_badLook_22 : decode cX1_badLook 22 = .ok (.iconst 0, 1) := by decide +kernel
theorem dX1_badLook_23 : decode cX1_badLook 23 = .ok (.ireturn, 1) := by decide +kernel
theorem dX1_badSpan_0 : decode cX1_badSpan 0 = .ok (.iload_n 0, 1) := by decide +kernel
theorem dX1_badSpan_1 : decode cX1_badSpan 1 = .ok (.i2l, 1) := by decide +kernel
theorem dX1_badSpan_2 : decode cX1_badSpan 2 = .ok (.lconst 0, 1) := by decide +kernel
theorem dX1_badSpan_3 : decode cX1_badSpan 3 = .ok (.iload_n 1, 1) := by decide +kernel
theorem dX1_badSpan_4 : decode cX1_badSpan 4 = .ok (.i2l, 1) := by decide +kernel
theorem dX1_badSpan_5 : decode cX1_badSpan 5 = .ok (.invokestatic 103, 3) := by decide +kernel
theorem dX1_badSpan_8 : decode cX1_badSpan 8 = .ok (.ifCond .eq 8, 3) := by decide +kernel
theorem dX1_badSpan_11 : decode cX1_badSpan 11 = .ok (.iload_n 1, 1) := by decide +kernel
theorem dX1_badSpan_12 : decode cX1_badSpan 12 = .ok (.iload_n 2, 1) := by decide +kernel
theorem dX1_badSpan_13 : decode cX1_badSpan 13 = .ok (.if_icmp .le 7, 3) := by decide +kernel
theorem dX1_badSpan_16 : decode cX1_badSpan 16 = .ok (.iconst 1, 1) := by decide +kernel
theorem dX1_badSpan_17 : decode cX1_badSpan 17 = .ok (.goto 4, 3) := by decide +kernel
theorem dX1_badSpan_20 : decode cX1_badSpan 20 = .ok (.iconst 0, 1) := by decide +kernel
theorem dX1_badSpan_21 : decode cX1_badSpan 21 = .ok (.ireturn, 1) := by decide +kernel
theorem dX1_cover_0 : decode cX1_cover 0 = .ok (.aload_n 0, 1) := by decide +kernel
theorem dX1_cover_1 : decode cX1_cover 1 = .ok (.iconst 0, 1) := by decide +kernel
theorem dX1_cover_2 : decode cX1_cover 2 = .ok (.putfield 100, 3) := by decide +kernel
theorem dX1_cover_5 : decode cX1_cover 5 = .ok (.aload_n 0, 1) := by decide +kernel
theorem dX1_cover_6 : decode cX1_cover 6 = .ok (.iload_n 1, 1) := by decide +kernel
theorem dX1_cover_7 : decode cX1_cover 7 = .ok (.invokevirtual 191, 3) := by decide +kernel
theorem dX1_cover_10 : decode cX1_cover 10 = .ok (.ifCond .ne 11, 3) := by decide +kernel
theorem dX1_cover_13 : decode cX1_cover 13 = .ok (.aload_n 0, 1) := by decide +kernel
theorem dX1_cover_14 : decode cX1_cover 14 = .ok (.iload_n 2, 1) := by decide +kernel
theorem dX1_cover_15 : decode cX1_cover 15 = .ok (.invokevirtual 144, 3) := by decide +kernel
theorem dX1_cover_18 : decode cX1_cover 18 = .ok (.ifCond .eq 5, 3) := by decide +kernel
theorem dX1_cover_21 : decode cX1_cover 21 = .ok (.iconst (-1), 1) := by decide +kernel
theorem dX1_cover_22 : decode cX1_cover 22 = .ok (.ireturn, 1) := by decide +kernel
theorem dX1_cover_23 : decode cX1_cover 23 = .ok (.iload_n 3, 1) := by decide +kernel
theorem dX1_cover_24 : decode cX1_cover 24 = .ok (.invokestatic 194, 3) := by decide +kernel
theorem dX1_cover_27 : decode cX1_cover 27 = .ok (.ifCond .eq 8, 3) := by decide +kernel
theorem dX1_cover_30 : decode cX1_cover 30 = .ok (.bipush (-2), 2) := by decide +kernel
theorem dX1_cover_32 : decode cX1_cover 32 = .ok (.goto 10, 3) := by decide +kernel
theorem dX1_cover_35 : decode cX1_cover 35 = .ok (.aload_n 0, 1) := by decide +kernel
theorem dX1_cover_36 : decode cX1_cover 36 = .ok (.iload_n 1, 1) := by decide +kernel
theorem dX1_cover_37 : decode cX1_cover 37 = .ok (.iload_n 2, 1) := by decide +kernel
theorem dX1_cover_38 : decode cX1_cover 38 = .ok (.iload_n 3, 1) := by decide +kernel
theorem dX1_cover_39 : decode cX1_cover 39 = .ok (.invokevirtual 197, 3) := by decide +kernel
theorem dX1_cover_42 : decode cX1_cover 42 = .ok (.ireturn, 1) := by decide +kernel
theorem dX1_noPaper_0 : decode cX1_noPaper 0 = .ok (.iload_n 1, 1) := by decide +kernel
theorem dX1_noPaper_1 : decode cX1_noPaper 1 = .ok (.i2l, 1) := by decide +kernel
theorem dX1_noPaper_2 : decode cX1_noPaper 2 = .ok (.lconst 0, 1) := by decide +kernel
theorem dX1_noPaper_3 : decode cX1_noPaper 3 = .ok (.aload_n 0, 1) := by decide +kernel
theorem dX1_noPaper_4 : decode cX1_noPaper 4 = .ok (.getfield 113, 3) := by decide +kernel
theorem dX1_noPaper_7 : decode cX1_noPaper 7 = .ok (.iconst 1, 1) := by decide +kernel
theorem dX1_noPaper_8 : decode cX1_noPaper 8 = .ok (.isub, 1) := by decide +kernel
theorem dX1_noPaper_9 : decode cX1_noPaper 9 = .ok (.i2l, 1) := by decide +kernel
theorem dX1_noPaper_10 : decode cX1_noPaper 10 = .ok (.invokestatic 103, 3) := by decide +kernel
theorem dX1_noPaper_13 : decode cX1_noPaper 13 = .ok (.ifCond .ne 7, 3) := by decide +kernel
theorem dX1_noPaper_16 : decode cX1_noPaper 16 = .ok (.iconst 1, 1) := by decide +kernel
theorem dX1_noPaper_17 : decode cX1_noPaper 17 = .ok (.goto 4, 3) := by decide +kernel
theorem dX1_noPaper_20 : decode cX1_noPaper 20 = .ok (.iconst 0, 1) := by decide +kernel
theorem dX1_noPaper_21 : decode cX1_noPaper 21 = .ok (.ireturn, 1) := by decide +kernel
theorem dX1_noTide_0 : decode cX1_noTide 0 = .ok (.iload_n 0, 1) := by decide +kernel
theorem dX1_noTide_1 : decode cX1_noTide 1 = .ok (.i2l, 1) := by decide +kernel
theorem dX1_noTide_2 : decode cX1_noTide 2 = .ok (.lconst 0, 1) := by decide +kernel
theorem dX1_noTide_3 : decode cX1_noTide 3 = .ok (.ldc2_w 116, 3) := by decide +kernel
theorem dX1_noTide_6 : decode cX1_noTide 6 = .ok (.invokestatic 103, 3) := by decide +kernel
theorem dX1_noTide_9 : decode cX1_noTide 9 = .ok (.ifCond .ne 7, 3) := by decide +kernel
theorem dX1_noTide_12 : decode cX1_noTide 12 = .ok (.iconst 1, 1) := by decide +kernel
theorem dX1_noTide_13 : decode cX1_noTide 13 = .ok (.goto 4, 3) := by decide +kernel
theorem dX1_noTide_16 : decode cX1_noTide 16 = .ok (.iconst 0, 1) := by decide +kernel
theorem dX1_noTide_17 : decode cX1_noTide 17 = .ok (.ireturn, 1) := by decide +kernel
theorem dX1_covers_0 : decode cX1_covers 0 = .ok (.bipush 9, 2) := by decide +kernel
theorem dX1_covers_2 : decode cX1_covers 2 = .ok (.iload_n 1, 1) := by decide +kernel
theorem dX1_covers_3 : decode cX1_covers 3 = .ok (.imul, 1) := by decide +kernel
theorem dX1_covers_4 : decode cX1_covers 4 = .ok (.istore 4, 2) := by decide +kernel
theorem dX1_covers_6 : decode cX1_covers 6 = .ok (.bipush 8, 2) := by decide +kernel
theorem dX1_covers_8 : decode cX1_covers 8 = .ok (.iload_n 2, 1) := by decide +kernel
theorem dX1_covers_9 : decode cX1_covers 9 = .ok (.imul, 1) := by decide +kernel
theorem dX1_covers_10 : decode cX1_covers 10 = .ok (.istore 5, 2) := by decide +kernel
theorem dX1_covers_12 : decode cX1_covers 12 = .ok (.aload_n 0, 1) := by decide +kernel
theorem dX1_covers_13 : decode cX1_covers 13 = .ok (.getfield 46, 3) := by decide +kernel
theorem dX1_covers_16 : decode cX1_covers 16 = .ok (.iload 4, 2) := by decide +kernel
theorem dX1_covers_18 : decode cX1_covers 18 = .ok (.iconst 1, 1) := by decide +kernel
theorem dX1_covers_19 : decode cX1_covers 19 = .ok (.iadd, 1) := by decide +kernel
theorem dX1_covers_20 : decode cX1_covers 20 = .ok (.iaload, 1) := by decide +kernel
theorem dX1_covers_21 : decode cX1_covers 21 = .ok (.bipush (-9), 2) := by decide +kernel
theorem dX1_covers_23 : decode cX1_covers 23 = .ok (.if_icmp .eq 24, 3) := by decide +kernel
theorem dX1_covers_26 : decode cX1_covers 26 = .ok (.aload_n 0, 1) := by decide +kernel
theorem dX1_covers_27 : decode cX1_covers 27 = .ok (.getfield 46, 3) := by decide +kernel
theorem dX1_covers_30 : decode cX1_covers 30 = .ok (.iload 4, 2) := by decide +kernel
theorem dX1_covers_32 : decode cX1_covers 32 = .ok (.iconst 1, 1) := by decide +kernel
theorem dX1_covers_33 : decode cX1_covers 33 = .ok (.iadd, 1) := by decide +kernel
theorem dX1_covers_34 : decode cX1_covers 34 = .ok (.iaload, 1) := by decide +kernel
theorem dX1_covers_35 : decode cX1_covers 35 = .ok (.aload_n 0, 1) := by decide +kernel
theorem dX1_covers_36 : decode cX1_covers 36 = .ok (.getfield 21, 3) := by decide +kernel
theorem dX1_covers_39 : decode cX1_covers 39 = .ok (.iload 5, 2) := by decide +kernel
theorem dX1_covers_41 : decode cX1_covers 41 = .ok (.iconst 1, 1) := by decide +kernel
theorem dX1_covers_42 : decode cX1_covers 42 = .ok (.iadd, 1) := by decide +kernel
theorem dX1_covers_43 : decode cX1_covers 43 = .ok (.iaload, 1) := by decide +kernel
theorem dX1_covers_44 : decode cX1_covers 44 = .ok (.if_icmp .ne 42, 3) := by decide +kernel
theorem dX1_covers_47 : decode cX1_covers 47 = .ok (.aload_n 0, 1) := by decide +kernel
theorem dX1_covers_48 : decode cX1_covers 48 = .ok (.getfield 46, 3) := by decide +kernel
theorem dX1_covers_51 : decode cX1_covers 51 = .ok (.iload 4, 2) := by decide +kernel
theorem dX1_covers_53 : decode cX1_covers 53 = .ok (.iconst 2, 1) := by decide +kernel
theorem dX1_covers_54 : decode cX1_covers 54 = .ok (.iadd, 1) := by decide +kernel
theorem dX1_covers_55 : decode cX1_covers 55 = .ok (.iaload, 1) := by decide +kernel
theorem dX1_covers_56 : decode cX1_covers 56 = .ok (.bipush (-9), 2) := by decide +kernel
theorem dX1_covers_58 : decode cX1_covers 58 = .ok (.if_icmp .eq 24, 3) := by decide +kernel
theorem dX1_covers_61 : decode cX1_covers 61 = .ok (.aload_n 0, 1) := by decide +kernel
theorem dX1_covers_62 : decode cX1_covers 62 = .ok (.getfield 46, 3) := by decide +kernel
theorem dX1_covers_65 : decode cX1_covers 65 = .ok (.iload 4, 2) := by decide +kernel
theorem dX1_covers_67 : decode cX1_covers 67 = .ok (.iconst 2, 1) := by decide +kernel
theorem dX1_covers_68 : decode cX1_covers 68 = .ok (.iadd, 1) := by decide +kernel
theorem dX1_covers_69 : decode cX1_covers 69 = .ok (.iaload, 1) := by decide +kernel
theorem dX1_covers_70 : decode cX1_covers 70 = .ok (.aload_n 0, 1) := by decide +kernel
theorem dX1_covers_71 : decode cX1_covers 71 = .ok (.getfield 21, 3) := by decide +kernel
theorem dX1_covers_74 : decode cX1_covers 74 = .ok (.iload 5, 2) := by decide +kernel
theorem dX1_covers_76 : decode cX1_covers 76 = .ok (.iconst 2, 1) := by decide +kernel
theorem dX1_covers_77 : decode cX1_covers 77 = .ok (.iadd, 1) := by decide +kernel
theorem dX1_covers_78 : decode cX1_covers 78 = .ok (.iaload, 1) := by decide +kernel
theorem dX1_covers_79 : decode cX1_covers 79 = .ok (.if_icmp .ne 7, 3) := by decide +kernel
theorem dX1_covers_82 : decode cX1_covers 82 = .ok (.iconst 1, 1) := by decide +kernel
theorem dX1_covers_83 : decode cX1_covers 83 = .ok (.goto 4, 3) := by decide +kernel
theorem dX1_covers_86 : decode cX1_covers 86 = .ok (.iconst 0, 1) := by decide +kernel
theorem dX1_covers_87 : decode cX1_covers 87 = .ok (.istore 6, 2) := by decide +kernel
theorem dX1_covers_89 : decode cX1_covers 89 = .ok (.iload 6, 2) := by decide +kernel
theorem dX1_covers_91 : decode cX1_covers 91 = .ok (.ifCond .eq 108, 3) := by decide +kernel
theorem dX1_covers_94 : decode cX1_covers 94 = .ok (.iload_n 3, 1) := by decide +kernel
theorem dX1_covers_95 : decode cX1_covers 95 = .ok (.i2l, 1) := by decide +kernel
theorem dX1_covers_96 : decode cX1_covers 96 = .ok (.aload_n 0, 1) := by decide +kernel
theorem dX1_covers_97 : decode cX1_covers 97 = .ok (.getfield 46, 3) := by decide +kernel
theorem dX1_covers_100 : decode cX1_covers 100 = .ok (.iload 4, 2) := by decide +kernel
theorem dX1_covers_102 : decode cX1_covers 102 = .ok (.bipush 7, 2) := by decide +kernel
theorem dX1_covers_104 : decode cX1_covers 104 = .ok (.iadd, 1) := by decide +kernel
theorem dX1_covers_105 : decode cX1_covers 105 = .ok (.iaload, 1) := by decide +kernel
theorem dX1_covers_106 : decode cX1_covers 106 = .ok (.i2l, 1) := by decide +kernel
theorem dX1_covers_107 : decode cX1_covers 107 = .ok (.aload_n 0, 1) := by decide +kernel
theorem dX1_covers_108 : decode cX1_covers 108 = .ok (.getfield 46, 3) := by decide +kernel
theorem dX1_covers_111 : decode cX1_covers 111 = .ok (.iload 4, 2) := by decide +kernel
theorem dX1_covers_113 : decode cX1_covers 113 = .ok (.bipush 8, 2) := by decide +kernel
theorem dX1_covers_115 : decode cX1_covers 115 = .ok (.iadd, 1) := by decide +kernel
theorem dX1_covers_116 : decode cX1_covers 116 = .ok (.iaload, 1) := by decide +kernel
theorem dX1_covers_117 : decode cX1_covers 117 = .ok (.i2l, 1) := by decide +kernel
theorem dX1_covers_118 : decode cX1_covers 118 = .ok (.invokestatic 103, 3) := by decide +kernel
theorem dX1_covers_121 : decode cX1_covers 121 = .ok (.ifCond .eq 78, 3) := by decide +kernel
theorem dX1_covers_124 : decode cX1_covers 124 = .ok (.aload_n 0, 1) := by decide +kernel
theorem dX1_covers_125 : decode cX1_covers 125 = .ok (.getfield 21, 3) := by decide +kernel
theorem dX1_covers_128 : decode cX1_covers 128 = .ok (.iload 5, 2) := by decide +kernel
theorem dX1_covers_130 : decode cX1_covers 130 = .ok (.iaload, 1) := by decide +kernel
theorem dX1_covers_131 : decode cX1_covers 131 = .ok (.i2l, 1) := by decide +kernel
theorem dX1_covers_132 : decode cX1_covers 132 = .ok (.aload_n 0, 1) := by decide +kernel
theorem dX1_covers_133 : decode cX1_covers 133 = .ok (.getfield 46, 3) := by decide +kernel
theorem dX1_covers_136 : decode cX1_covers 136 = .ok (.iload 4, 2) := by decide +kernel
theorem dX1_covers_138 : decode cX1_covers 138 = .ok (.iconst 3, 1) := by decide +kernel
theorem dX1_covers_139 : decode cX1_covers 139 = .ok (.iadd, 1) := by decide +kernel
theorem dX1_covers_140 : decode cX1_covers 140 = .ok (.iaload, 1) := by decide +kernel
theorem dX1_covers_141 : decode cX1_covers 141 = .ok (.i2l, 1) := by decide +kernel
theorem dX1_covers_142 : decode cX1_covers 142 = .ok (.aload_n 0, 1) := by decide +kernel
theorem dX1_covers_143 : decode cX1_covers 143 = .ok (.getfield 46, 3) := by decide +kernel
theorem dX1_covers_146 : decode cX1_covers 146 = .ok (.iload 4, 2) := by decide +kernel
theorem dX1_covers_148 : decode cX1_covers 148 = .ok (.iconst 4, 1) := by decide +kernel
theorem dX1_covers_149 : decode cX1_covers 149 = .ok (.iadd, 1) := by decide +kernel
theorem dX1_covers_150 : decode cX1_covers 150 = .ok (.iaload, 1) := by decide +kernel
theorem dX1_covers_151 : decode cX1_covers 151 = .ok (.i2l, 1) := by decide +kernel
theorem dX1_covers_152 : decode cX1_covers 152 = .ok (.invokestatic 103, 3) := by decide +kernel
theorem dX1_covers_155 : decode cX1_covers 155 = .ok (.ifCond .eq 44, 3) := by decide +kernel
theorem dX1_covers_158 : decode cX1_covers 158 = .ok (.aload_n 0, 1) := by decide +kernel
theorem dX1_covers_159 : decode cX1_covers 159 = .ok (.getfield 21, 3) := by decide +kernel
theorem dX1_covers_162 : decode cX1_covers 162 = .ok (.iload 5, 2) := by decide +kernel
theorem dX1_covers_164 : decode cX1_covers 164 = .ok (.iconst 3, 1) := by decide +kernel
theorem dX1_covers_165 : decode cX1_covers 165 = .ok (.iadd, 1) := by decide +kernel
theorem dX1_covers_166 : decode cX1_covers 166 = .ok (.iaload, 1) := by decide +kernel
theorem dX1_covers_167 : decode cX1_covers 167 = .ok (.i2l, 1) := by decide +kernel
theorem dX1_covers_168 : decode cX1_covers 168 = .ok (.aload_n 0, 1) := by decide +kernel
theorem dX1_covers_169 : decode cX1_covers 169 = .ok (.getfield 46, 3) := by decide +kernel
theorem dX1_covers_172 : decode cX1_covers 172 = .ok (.iload 4, 2) := by decide +kernel
theorem dX1_covers_174 : decode cX1_covers 174 = .ok (.iconst 5, 1) := by decide +kernel
theorem dX1_covers_175 : decode cX1_covers 175 = .ok (.iadd, 1) := by decide +kernel
theorem dX1_covers_176 : decode cX1_covers 176 = .ok (.iaload, 1) := by decide +kernel
theorem dX1_covers_177 : decode cX1_covers 177 = .ok (.i2l, 1) := by decide +kernel
theorem dX1_covers_178 : decode cX1_covers 178 = .ok (.aload_n 0, 1) := by decide +kernel
theorem dX1_covers_179 : decode cX1_covers 179 = .ok (.getfield 46, 3) := by decide +kernel
theorem dX1_covers_182 : decode cX1_covers 182 = .ok (.iload 4, 2) := by decide +kernel
theorem dX1_covers_184 : decode cX1_covers 184 = .ok (.bipush 6, 2) := by decide +kernel
theorem dX1_covers_186 : decode cX1_covers 186 = .ok (.iadd, 1) := by decide +kernel
theorem dX1_covers_187 : decode cX1_covers 187 = .ok (.iaload, 1) := by decide +kernel
theorem dX1_covers_188 : decode cX1_covers 188 = .ok (.i2l, 1) := by decide +kernel
theorem dX1_covers_189 : decode cX1_covers 189 = .ok (.invokestatic 103, 3) := by decide +kernel
theorem dX1_covers_192 : decode cX1_covers 192 = .ok (.ifCond .eq 7, 3) := by decide +kernel
theorem dX1_covers_195 : decode cX1_covers 195 = .ok (.iconst 1, 1) := by decide +kernel
theorem dX1_covers_196 : decode cX1_covers 196 = .ok (.goto 4, 3) := by decide +kernel
theorem dX1_covers_199 : decode cX1_covers 199 = .ok (.iconst 0, 1) := by decide +kernel
theorem dX1_covers_200 : decode cX1_covers 200 = .ok (.istore 7, 2) := by decide +kernel
theorem dX1_covers_202 : decode cX1_covers 202 = .ok (.aload_n 0, 1) := by decide +kernel
theorem dX1_covers_203 : decode cX1_covers 203 = .ok (.getfield 46, 3) := by decide +kernel
theorem dX1_covers_206 : decode cX1_covers 206 = .ok (.iload 4, 2) := by decide +kernel
theorem dX1_covers_208 : decode cX1_covers 208 = .ok (.iconst 1, 1) := by decide +kernel
theorem dX1_covers_209 : decode cX1_covers 209 = .ok (.iadd, 1) := by decide +kernel
theorem dX1_covers_210 : decode cX1_covers 210 = .ok (.iaload, 1) := by decide +kernel
theorem dX1_covers_211 : decode cX1_covers 211 = .ok (.bipush (-9), 2) := by decide +kernel
theorem dX1_covers_213 : decode cX1_covers 213 = .ok (.if_icmp .eq 68, 3) := by decide +kernel
theorem dX1_covers_216 : decode cX1_covers 216 = .ok (.aload_n 0, 1) := by decide +kernel
theorem dX1_covers_217 : decode cX1_covers 217 = .ok (.getfield 46, 3) := by decide +kernel
theorem dX1_covers_220 : decode cX1_covers 220 = .ok (.iload 4, 2) := by decide +kernel
theorem dX1_covers_222 : decode cX1_covers 222 = .ok (.iconst 2, 1) := by decide +kernel
theorem dX1_covers_223 : decode cX1_covers 223 = .ok (.iadd, 1) := by decide +kernel
theorem dX1_covers_224 : decode cX1_covers 224 = .ok (.iaload, 1) := by decide +kernel
theorem dX1_covers_225 : decode cX1_covers 225 = .ok (.bipush (-9), 2) := by decide +kernel
theorem dX1_covers_227 : decode cX1_covers 227 = .ok (.if_icmp .eq 54, 3) := by decide +kernel
theorem dX1_covers_230 : decode cX1_covers 230 = .ok (.aload_n 0, 1) := by decide +kernel
theorem dX1_covers_231 : decode cX1_covers 231 = .ok (.getfield 46, 3) := by decide +kernel
theorem dX1_covers_234 : decode cX1_covers 234 = .ok (.iload 4, 2) := by decide +kernel
theorem dX1_covers_236 : decode cX1_covers 236 = .ok (.iconst 4, 1) := by decide +kernel
theorem dX1_covers_237 : decode cX1_covers 237 = .ok (.iadd, 1) := by decide +kernel
theorem dX1_covers_238 : decode cX1_covers 238 = .ok (.iaload, 1) := by decide +kernel
theorem dX1_covers_239 : decode cX1_covers 239 = .ok (.aload_n 0, 1) := by decide +kernel
theorem dX1_covers_240 : decode cX1_covers 240 = .ok (.getfield 46, 3) := by decide +kernel
theorem dX1_covers_243 : decode cX1_covers 243 = .ok (.iload 4, 2) := by decide +kernel
theorem dX1_covers_245 : decode cX1_covers 245 = .ok (.iconst 3, 1) := by decide +kernel
theorem dX1_covers_246 : decode cX1_covers 246 = .ok (.iadd, 1) := by decide +kernel
theorem dX1_covers_247 : decode cX1_covers 247 = .ok (.iaload, 1) := by decide +kernel
theorem dX1_covers_248 : decode cX1_covers 248 = .ok (.isub, 1) := by decide +kernel
theorem dX1_covers_249 : decode cX1_covers 249 = .ok (.iconst 5, 1) := by decide +kernel
theorem dX1_covers_250 : decode cX1_covers 250 = .ok (.if_icmp .gt 31, 3) := by decide +kernel
theorem dX1_covers_253 : decode cX1_covers 253 = .ok (.aload_n 0, 1) := by decide +kernel
theorem dX1_covers_254 : decode cX1_covers 254 = .ok (.getfield 46, 3) := by decide +kernel
theorem dX1_covers_257 : decode cX1_covers 257 = .ok (.iload 4, 2) := by decide +kernel
theorem dX1_covers_259 : decode cX1_covers 259 = .ok (.bipush 6, 2) := by decide +kernel
theorem dX1_covers_261 : decode cX1_covers 261 = .ok (.iadd, 1) := by decide +kernel
theorem dX1_covers_262 : decode cX1_covers 262 = .ok (.iaload, 1) := by decide +kernel
theorem dX1_covers_263 : decode cX1_covers 263 = .ok (.aload_n 0, 1) := by decide +kernel
theorem dX1_covers_264 : decode cX1_covers 264 = .ok (.getfield 46, 3) := by decide +kernel
theorem dX1_covers_267 : decode cX1_covers 267 = .ok (.iload 4, 2) := by decide +kernel
theorem dX1_covers_269 : decode cX1_covers 269 = .ok (.iconst 5, 1) := by decide +kernel
theorem dX1_covers_270 : decode cX1_covers 270 = .ok (.iadd, 1) := by decide +kernel
theorem dX1_covers_271 : decode cX1_covers 271 = .ok (.iaload, 1) := by decide +kernel
theorem dX1_covers_272 : decode cX1_covers 272 = .ok (.isub, 1) := by decide +kernel
theorem dX1_covers_273 : decode cX1_covers 273 = .ok (.iconst 2, 1) := by decide +kernel
theorem dX1_covers_274 : decode cX1_covers 274 = .ok (.if_icmp .gt 7, 3) := by decide +kernel
theorem dX1_covers_277 : decode cX1_covers 277 = .ok (.iconst 1, 1) := by decide +kernel
theorem dX1_covers_278 : decode cX1_covers 278 = .ok (.goto 4, 3) := by decide +kernel
theorem dX1_covers_281 : decode cX1_covers 281 = .ok (.iconst 0, 1) := by decide +kernel
theorem dX1_covers_282 : decode cX1_covers 282 = .ok (.istore 8, 2) := by decide +kernel
theorem dX1_covers_284 : decode cX1_covers 284 = .ok (.iload 7, 2) := by decide +kernel
theorem dX1_covers_286 : decode cX1_covers 286 = .ok (.ifCond .ne 7, 3) := by decide +kernel
theorem dX1_covers_289 : decode cX1_covers 289 = .ok (.iconst 0, 1) := by decide +kernel
theorem dX1_covers_290 : decode cX1_covers 290 = .ok (.goto 13, 3) := by decide +kernel
theorem dX1_covers_293 : decode cX1_covers 293 = .ok (.iload 8, 2) := by decide +kernel
theorem dX1_covers_295 : decode cX1_covers 295 = .ok (.ifCond .eq 7, 3) := by decide +kernel
theorem dX1_covers_298 : decode cX1_covers 298 = .ok (.iconst 2, 1) := by decide +kernel
theorem dX1_covers_299 : decode cX1_covers 299 = .ok (.goto 4, 3) := by decide +kernel
theorem dX1_covers_302 : decode cX1_covers 302 = .ok (.iconst 1, 1) := by decide +kernel
theorem dX1_covers_303 : decode cX1_covers 303 = .ok (.ireturn, 1) := by decide +kernel
theorem dX1_same_0 : decode cX1_same 0 = .ok (.aload_n 0, 1) := by decide +kernel
theorem dX1_same_1 : decode cX1_same 1 = .ok (.iconst 0, 1) := by decide +kernel
theorem dX1_same_2 : decode cX1_same 2 = .ok (.putfield 100, 3) := by decide +kernel
theorem dX1_same_5 : decode cX1_same 5 = .ok (.aload_n 0, 1) := by decide +kernel
theorem dX1_same_6 : decode cX1_same 6 = .ok (.iload_n 1, 1) := by decide +kernel
theorem dX1_same_7 : decode cX1_same 7 = .ok (.invokevirtual 191, 3) := by decide +kernel
theorem dX1_same_10 : decode cX1_same 10 = .ok (.ifCond .eq 5, 3) := by decide +kernel
theorem dX1_same_13 : decode cX1_same 13 = .ok (.iconst (-1), 1) := by decide +kernel
theorem dX1_same_14 : decode cX1_same 14 = .ok (.ireturn, 1) := by decide +kernel
theorem dX1_same_15 : decode cX1_same 15 = .ok (.iload_n 2, 1) := by decide +kernel
theorem dX1_same_16 : decode cX1_same 16 = .ok (.invokestatic 194, 3) := by decide +kernel
theorem dX1_same_19 : decode cX1_same 19 = .ok (.ifCond .eq 6, 3) := by decide +kernel
theorem dX1_same_22 : decode cX1_same 22 = .ok (.bipush (-2), 2) := by decide +kernel
theorem dX1_same_24 : decode cX1_same 24 = .ok (.ireturn, 1) := by decide +kernel
theorem dX1_same_25 : decode cX1_same 25 = .ok (.iconst 0, 1) := by decide +kernel
theorem dX1_same_26 : decode cX1_same 26 = .ok (.istore_n 3, 1) := by decide +kernel
theorem dX1_same_27 : decode cX1_same 27 = .ok (.iconst 0, 1) := by decide +kernel
theorem dX1_same_28 : decode cX1_same 28 = .ok (.istore 4, 2) := by decide +kernel
theorem dX1_same_30 : decode cX1_same 30 = .ok (.iload 4, 2) := by decide +kernel
theorem dX1_same_32 : decode cX1_same 32 = .ok (.aload_n 0, 1) := by decide +kernel
theorem dX1_same_33 : decode cX1_same 33 = .ok (.getfield 107, 3) := by decide +kernel
theorem dX1_same_36 : decode cX1_same 36 = .ok (.if_icmp .ge 28, 3) := by decide +kernel
theorem dX1_same_39 : decode cX1_same 39 = .ok (.iload_n 3, 1) := by decide +kernel
theorem dX1_same_40 : decode cX1_same 40 = .ok (.aload_n 0, 1) := by decide +kernel
theorem dX1_same_41 : decode cX1_same 41 = .ok (.iload_n 1, 1) := by decide +kernel
theorem dX1_same_42 : decode cX1_same 42 = .ok (.iload 4, 2) := by decide +kernel
theorem dX1_same_44 : decode cX1_same 44 = .ok (.iload_n 2, 1) := by decide +kernel
theorem dX1_same_45 : decode cX1_same 45 = .ok (.invokevirtual 197, 3) := by decide +kernel
theorem dX1_same_48 : decode cX1_same 48 = .ok (.ifCond .le 7, 3) := by decide +kernel
theorem dX1_same_51 : decode cX1_same 51 = .ok (.iconst 1, 1) := by decide +kernel
theorem dX1_same_52 : decode cX1_same 52 = .ok (.goto 4, 3) := by decide +kernel
theorem dX1_same_55 : decode cX1_same 55 = .ok (.iconst 0, 1) := by decide +kernel
theorem dX1_same_56 : decode cX1_same 56 = .ok (.iadd, 1) := by decide +kernel
theorem dX1_same_57 : decode cX1_same 57 = .ok (.istore_n 3, 1) := by decide +kernel
theorem dX1_same_58 : decode cX1_same 58 = .ok (.iinc 4 1, 3) := by decide +kernel
theorem dX1_same_61 : decode cX1_same 61 = .ok (.goto (-31), 3) := by decide +kernel
theorem dX1_same_64 : decode cX1_same 64 = .ok (.iload_n 3, 1) := by decide +kernel
theorem dX1_same_65 : decode cX1_same 65 = .ok (.ireturn, 1) := by decide +kernel
theorem dX1_shown_0 : decode cX1_shown 0 = .ok (.aload_n 0, 1) := by decide +kernel
theorem dX1_shown_1 : decode cX1_shown 1 = .ok (.iconst 0, 1) := by decide +kernel
theorem dX1_shown_2 : decode cX1_shown 2 = .ok (.putfield 100, 3) := by decide +kernel
theorem dX1_shown_5 : decode cX1_shown 5 = .ok (.aload_n 0, 1) := by decide +kernel
theorem dX1_shown_6 : decode cX1_shown 6 = .ok (.iload_n 1, 1) := by decide +kernel
theorem dX1_shown_7 : decode cX1_shown 7 = .ok (.invokevirtual 191, 3) := by decide +kernel
theorem dX1_shown_10 : decode cX1_shown 10 = .ok (.ifCond .eq 5, 3) := by decide +kernel
theorem dX1_shown_13 : decode cX1_shown 13 = .ok (.iconst (-1), 1) := by decide +kernel
theorem dX1_shown_14 : decode cX1_shown 14 = .ok (.ireturn, 1) := by decide +kernel
theorem dX1_shown_15 : decode cX1_shown 15 = .ok (.iload_n 2, 1) := by decide +kernel
theorem dX1_shown_16 : decode cX1_shown 16 = .ok (.invokestatic 194, 3) := by decide +kernel
theorem dX1_shown_19 : decode cX1_shown 19 = .ok (.ifCond .eq 6, 3) := by decide +kernel
theorem dX1_shown_22 : decode cX1_shown 22 = .ok (.bipush (-2), 2) := by decide +kernel
theorem dX1_shown_24 : decode cX1_shown 24 = .ok (.ireturn, 1) := by decide +kernel
theorem dX1_shown_25 : decode cX1_shown 25 = .ok (.iconst 0, 1) := by decide +kernel
theorem dX1_shown_26 : decode cX1_shown 26 = .ok (.istore_n 3, 1) := by decide +kernel
theorem dX1_shown_27 : decode cX1_shown 27 = .ok (.iconst 0, 1) := by decide +kernel
theorem dX1_shown_28 : decode cX1_shown 28 = .ok (.istore 4, 2) := by decide +kernel
theorem dX1_shown_30 : decode cX1_shown 30 = .ok (.iload 4, 2) := by decide +kernel
theorem dX1_shown_32 : decode cX1_shown 32 = .ok (.aload_n 0, 1) := by decide +kernel
theorem dX1_shown_33 : decode cX1_shown 33 = .ok (.getfield 107, 3) := by decide +kernel
theorem dX1_shown_36 : decode cX1_shown 36 = .ok (.if_icmp .ge 112, 3) := by decide +kernel
theorem dX1_shown_39 : decode cX1_shown 39 = .ok (.iconst 0, 1) := by decide +kernel
theorem dX1_shown_40 : decode cX1_shown 40 = .ok (.istore 5, 2) := by decide +kernel
theorem dX1_shown_42 : decode cX1_shown 42 = .ok (.iconst 0, 1) := by decide +kernel
theorem dX1_shown_43 : decode cX1_shown 43 = .ok (.istore 6, 2) := by decide +kernel
theorem dX1_shown_45 : decode cX1_shown 45 = .ok (.iload 6, 2) := by decide +kernel
theorem dX1_shown_47 : decode cX1_shown 47 = .ok (.aload_n 0, 1) := by decide +kernel
theorem dX1_shown_48 : decode cX1_shown 48 = .ok (.getfield 168, 3) := by decide +kernel
theorem dX1_shown_51 : decode cX1_shown 51 = .ok (.if_icmp .ge 78, 3) := by decide +kernel
theorem dX1_shown_54 : decode cX1_shown 54 = .ok (.iload 5, 2) := by decide +kernel
theorem dX1_shown_56 : decode cX1_shown 56 = .ok (.ifCond .ne 60, 3) := by decide +kernel
theorem dX1_shown_59 : decode cX1_shown 59 = .ok (.aload_n 0, 1) := by decide +kernel
theorem dX1_shown_60 : decode cX1_shown 60 = .ok (.getfield 61, 3) := by decide +kernel
theorem dX1_shown_63 : decode cX1_shown 63 = .ok (.bipush 6, 2) := by decide +kernel
theorem dX1_shown_65 : decode cX1_shown 65 = .ok (.iload 6, 2) := by decide +kernel
theorem dX1_shown_67 : decode cX1_shown 67 = .ok (.imul, 1) := by decide +kernel
theorem dX1_shown_68 : decode cX1_shown 68 = .ok (.iconst 1, 1) := by decide +kernel
theorem dX1_shown_69 : decode cX1_shown 69 = .ok (.iadd, 1) := by decide +kernel
theorem dX1_shown_70 : decode cX1_shown 70 = .ok (.iaload, 1) := by decide +kernel
theorem dX1_shown_71 : decode cX1_shown 71 = .ok (.iload 4, 2) := by decide +kernel
theorem dX1_shown_73 : decode cX1_shown 73 = .ok (.if_icmp .ne 47, 3) := by decide +kernel
theorem dX1_shown_76 : decode cX1_shown 76 = .ok (.aload_n 0, 1) := by decide +kernel
theorem dX1_shown_77 : decode cX1_shown 77 = .ok (.getfield 61, 3) := by decide +kernel
theorem dX1_shown_80 : decode cX1_shown 80 = .ok (.bipush 6, 2) := by decide +kernel
theorem dX1_shown_82 : decode cX1_shown 82 = .ok (.iload 6, 2) := by decide +kernel
theorem dX1_shown_84 : decode cX1_shown 84 = .ok (.imul, 1) := by decide +kernel
theorem dX1_shown_85 : decode cX1_shown 85 = .ok (.iconst 2, 1) := by decide +kernel
theorem dX1_shown_86 : decode cX1_shown 86 = .ok (.iadd, 1) := by decide +kernel
theorem dX1_shown_87 : decode cX1_shown 87 = .ok (.iaload, 1) := by decide +kernel
theorem dX1_shown_88 : decode cX1_shown 88 = .ok (.iload_n 1, 1) := by decide +kernel
theorem dX1_shown_89 : decode cX1_shown 89 = .ok (.if_icmp .ne 31, 3) := by decide +kernel
theorem dX1_shown_92 : decode cX1_shown 92 = .ok (.aload_n 0, 1) := by decide +kernel
theorem dX1_shown_93 : decode cX1_shown 93 = .ok (.getfield 61, 3) := by decide +kernel
theorem dX1_shown_96 : decode cX1_shown 96 = .ok (.bipush 6, 2) := by decide +kernel
theorem dX1_shown_98 : decode cX1_shown 98 = .ok (.iload 6, 2) := by decide +kernel
theorem dX1_shown_100 : decode cX1_shown 100 = .ok (.imul, 1) := by decide +kernel
theorem dX1_shown_101 : decode cX1_shown 101 = .ok (.iaload, 1) := by decide +kernel
theorem dX1_shown_102 : decode cX1_shown 102 = .ok (.i2l, 1) := by decide +kernel
theorem dX1_shown_103 : decode cX1_shown 103 = .ok (.iload_n 2, 1) := by decide +kernel
theorem dX1_shown_104 : decode cX1_shown 104 = .ok (.bipush 13, 2) := by decide +kernel
theorem dX1_shown_106 : decode cX1_shown 106 = .ok (.isub, 1) := by decide +kernel
theorem dX1_shown_107 : decode cX1_shown 107 = .ok (.i2l, 1) := by decide +kernel
theorem dX1_shown_108 : decode cX1_shown 108 = .ok (.iload_n 2, 1) := by decide +kernel
theorem dX1_shown_109 : decode cX1_shown 109 = .ok (.i2l, 1) := by decide +kernel
