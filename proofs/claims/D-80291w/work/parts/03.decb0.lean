set_option maxRecDepth 100000
theorem dX4_init_0 : decode cX4_init 0 = .ok (.aload_n 0, 1) := by decide +kernel
theorem dX4_init_1 : decode cX4_init 1 = .ok (.invokespecial 1, 3) := by decide +kernel
theorem dX4_init_4 : decode cX4_init 4 = .ok (.aload_n 0, 1) := by decide +kernel
theorem dX4_init_5 : decode cX4_init 5 = .ok (.iconst 5, 1) := by decide +kernel
theorem dX4_init_6 : decode cX4_init 6 = .ok (.newarray .int, 2) := by decide +kernel
theorem dX4_init_8 : decode cX4_init 8 = .ok (.putfield 7, 3) := by decide +kernel
theorem dX4_init_11 : decode cX4_init 11 = .ok (.aload_n 0, 1) := by decide +kernel
theorem dX4_init_12 : decode cX4_init 12 = .ok (.iconst 5, 1) := by decide +kernel
theorem dX4_init_13 : decode cX4_init 13 = .ok (.newarray .int, 2) := by decide +kernel
theorem dX4_init_15 : decode cX4_init 15 = .ok (.putfield 13, 3) := by decide +kernel
theorem dX4_init_18 : decode cX4_init 18 = .ok (.aload_n 0, 1) := by decide +kernel
theorem dX4_init_19 : decode cX4_init 19 = .ok (.iconst 5, 1) := by decide +kernel
theorem dX4_init_20 : decode cX4_init 20 = .ok (.newarray .int, 2) := by decide +kernel
theorem dX4_init_22 : decode cX4_init 22 = .ok (.putfield 16, 3) := by decide +kernel
theorem dX4_init_25 : decode cX4_init 25 = .ok (.aload_n 0, 1) := by decide +kernel
theorem dX4_init_26 : decode cX4_init 26 = .ok (.bipush 30, 2) := by decide +kernel
theorem dX4_init_28 : decode cX4_init 28 = .ok (.newarray .int, 2) := by decide +kernel
theorem dX4_init_30 : decode cX4_init 30 = .ok (.putfield 19, 3) := by decide +kernel
theorem dX4_init_33 : decode cX4_init 33 = .ok (.aload_n 0, 1) := by decide +kernel
theorem dX4_init_34 : decode cX4_init 34 = .ok (.bipush 30, 2) := by decide +kernel
theorem dX4_init_36 : decode cX4_init 36 = .ok (.newarray .int, 2) := by decide +kernel
theorem dX4_init_38 : decode cX4_init 38 = .ok (.putfield 22, 3) := by decide +kernel
theorem dX4_init_41 : decode cX4_init 41 = .ok (.aload_n 0, 1) := by decide +kernel
theorem dX4_init_42 : decode cX4_init 42 = .ok (.bipush 30, 2) := by decide +kernel
theorem dX4_init_44 : decode cX4_init 44 = .ok (.newarray .boolean, 2) := by decide +kernel
theorem dX4_init_46 : decode cX4_init 46 = .ok (.putfield 25, 3) := by decide +kernel
theorem dX4_init_49 : decode cX4_init 49 = .ok (.aload_n 0, 1) := by decide +kernel
theorem dX4_init_50 : decode cX4_init 50 = .ok (.bipush 30, 2) := by decide +kernel
theorem dX4_init_52 : decode cX4_init 52 = .ok (.newarray .int, 2) := by decide +kernel
theorem dX4_init_54 : decode cX4_init 54 = .ok (.putfield 29, 3) := by decide +kernel
theorem dX4_init_57 : decode cX4_init 57 = .ok (.aload_n 0, 1) := by decide +kernel
theorem dX4_init_58 : decode cX4_init 58 = .ok (.bipush 30, 2) := by decide +kernel
theorem dX4_init_60 : decode cX4_init 60 = .ok (.newarray .int, 2) := by decide +kernel
theorem dX4_init_62 : decode cX4_init 62 = .ok (.putfield 32, 3) := by decide +kernel
theorem dX4_init_65 : decode cX4_init 65 = .ok (.aload_n 0, 1) := by decide +kernel
theorem dX4_init_66 : decode cX4_init 66 = .ok (.bipush 30, 2) := by decide +kernel
theorem dX4_init_68 : decode cX4_init 68 = .ok (.newarray .int, 2) := by decide +kernel
theorem dX4_init_70 : decode cX4_init 70 = .ok (.putfield 35, 3) := by decide +kernel
theorem dX4_init_73 : decode cX4_init 73 = .ok (.aload_n 0, 1) := by decide +kernel
theorem dX4_init_74 : decode cX4_init 74 = .ok (.bipush 30, 2) := by decide +kernel
theorem dX4_init_76 : decode cX4_init 76 = .ok (.newarray .int, 2) := by decide +kernel
theorem dX4_init_78 : decode cX4_init 78 = .ok (.putfield 38, 3) := by decide +kernel
theorem dX4_init_81 : decode cX4_init 81 = .ok (.aload_n 0, 1) := by decide +kernel
theorem dX4_init_82 : decode cX4_init 82 = .ok (.bipush 30, 2) := by decide +kernel
theorem dX4_init_84 : decode cX4_init 84 = .ok (.newarray .int, 2) := by decide +kernel
theorem dX4_init_86 : decode cX4_init 86 = .ok (.putfield 41, 3) := by decide +kernel
theorem dX4_init_89 : decode cX4_init 89 = .ok (.aload_n 0, 1) := by decide +kernel
theorem dX4_init_90 : decode cX4_init 90 = .ok (.bipush 30, 2) := by decide +kernel
theorem dX4_init_92 : decode cX4_init 92 = .ok (.newarray .int, 2) := by decide +kernel
theorem dX4_init_94 : decode cX4_init 94 = .ok (.putfield 44, 3) := by decide +kernel
theorem dX4_init_97 : decode cX4_init 97 = .ok (.aload_n 0, 1) := by decide +kernel
theorem dX4_init_98 : decode cX4_init 98 = .ok (.bipush 30, 2) := by decide +kernel
theorem dX4_init_100 : decode cX4_init 100 = .ok (.newarray .boolean, 2) := by decide +kernel
theorem dX4_init_102 : decode cX4_init 102 = .ok (.putfield 47, 3) := by decide +kernel
theorem dX4_init_105 : decode cX4_init 105 = .ok (.aload_n 0, 1) := by decide +kernel
theorem dX4_init_106 : decode cX4_init 106 = .ok (.bipush 30, 2) := by decide +kernel
theorem dX4_init_108 : decode cX4_init 108 = .ok (.newarray .int, 2) := by decide +kernel
theorem dX4_init_110 : decode cX4_init 110 = .ok (.putfield 50, 3) := by decide +kernel
theorem dX4_init_113 : decode cX4_init 113 = .ok (.aload_n 0, 1) := by decide +kernel
theorem dX4_init_114 : decode cX4_init 114 = .ok (.bipush 30, 2) := by decide +kernel
theorem dX4_init_116 : decode cX4_init 116 = .ok (.newarray .int, 2) := by decide +kernel
theorem dX4_init_118 : decode cX4_init 118 = .ok (.putfield 53, 3) := by decide +kernel
theorem dX4_init_121 : decode cX4_init 121 = .ok (.aload_n 0, 1) := by decide +kernel
theorem dX4_init_122 : decode cX4_init 122 = .ok (.bipush 30, 2) := by decide +kernel
theorem dX4_init_124 : decode cX4_init 124 = .ok (.newarray .int, 2) := by decide +kernel
theorem dX4_init_126 : decode cX4_init 126 = .ok (.putfield 56, 3) := by decide +kernel
theorem dX4_init_129 : decode cX4_init 129 = .ok (.aload_n 0, 1) := by decide +kernel
theorem dX4_init_130 : decode cX4_init 130 = .ok (.bipush 30, 2) := by decide +kernel
theorem dX4_init_132 : decode cX4_init 132 = .ok (.newarray .int, 2) := by decide +kernel
theorem dX4_init_134 : decode cX4_init 134 = .ok (.putfield 59, 3) := by decide +kernel
theorem dX4_init_137 : decode cX4_init 137 = .ok (.aload_n 0, 1) := by decide +kernel
theorem dX4_init_138 : decode cX4_init 138 = .ok (.bipush 30, 2) := by decide +kernel
theorem dX4_init_140 : decode cX4_init 140 = .ok (.newarray .int, 2) := by decide +kernel
theorem dX4_init_142 : decode cX4_init 142 = .ok (.putfield 62, 3) := by decide +kernel
theorem dX4_init_145 : decode cX4_init 145 = .ok (.aload_n 0, 1) := by decide +kernel
theorem dX4_init_146 : decode cX4_init 146 = .ok (.bipush 30, 2) := by decide +kernel
theorem dX4_init_148 : decode cX4_init 148 = .ok (.newarray .int, 2) := by decide +kernel
theorem dX4_init_150 : decode cX4_init 150 = .ok (.putfield 65, 3) := by decide +kernel
theorem dX4_init_153 : decode cX4_init 153 = .ok (.aload_n 0, 1) := by decide +kernel
theorem dX4_init_154 : decode cX4_init 154 = .ok (.bipush 64, 2) := by decide +kernel
theorem dX4_init_156 : decode cX4_init 156 = .ok (.newarray .int, 2) := by decide +kernel
theorem dX4_init_158 : decode cX4_init 158 = .ok (.putfield 68, 3) := by decide +kernel
theorem dX4_init_161 : decode cX4_init 161 = .ok (.aload_n 0, 1) := by decide +kernel
theorem dX4_init_162 : decode cX4_init 162 = .ok (.sipush 1920, 3) := by decide +kernel
theorem dX4_init_165 : decode cX4_init 165 = .ok (.newarray .int, 2) := by decide +kernel
theorem dX4_init_167 : decode cX4_init 167 = .ok (.putfield 71, 3) := by decide +kernel
theorem dX4_init_170 : decode cX4_init 170 = .ok (.aload_n 0, 1) := by decide +kernel
theorem dX4_init_171 : decode cX4_init 171 = .ok (.sipush 180, 3) := by decide +kernel
theorem dX4_init_174 : decode cX4_init 174 = .ok (.newarray .int, 2) := by decide +kernel
theorem dX4_init_176 : decode cX4_init 176 = .ok (.putfield 74, 3) := by decide +kernel
theorem dX4_init_179 : decode cX4_init 179 = .ok (.aload_n 0, 1) := by decide +kernel
theorem dX4_init_180 : decode cX4_init 180 = .ok (.sipush 180, 3) := by decide +kernel
theorem dX4_init_183 : decode cX4_init 183 = .ok (.newarray .int, 2) := by decide +kernel
theorem dX4_init_185 : decode cX4_init 185 = .ok (.putfield 77, 3) := by decide +kernel
theorem dX4_init_188 : decode cX4_init 188 = .ok (.aload_n 0, 1) := by decide +kernel
theorem dX4_init_189 : decode cX4_init 189 = .ok (.sipush 900, 3) := by decide +kernel
theorem dX4_init_192 : decode cX4_init 192 = .ok (.newarray .long, 2) := by decide +kernel
theorem dX4_init_194 : decode cX4_init 194 = .ok (.putfield 80, 3) := by decide +kernel
theorem dX4_init_197 : decode cX4_init 197 = .ok (.aload_n 0, 1) := by decide +kernel
theorem dX4_init_198 : decode cX4_init 198 = .ok (.bipush 30, 2) := by decide +kernel
theorem dX4_init_200 : decode cX4_init 200 = .ok (.newarray .int, 2) := by decide +kernel
theorem dX4_init_202 : decode cX4_init 202 = .ok (.putfield 84, 3) := by decide +kernel
theorem dX4_init_205 : decode cX4_init 205 = .ok (.aload_n 0, 1) := by decide +kernel
theorem dX4_init_206 : decode cX4_init 206 = .ok (.bipush 30, 2) := by decide +kernel
theorem dX4_init_208 : decode cX4_init 208 = .ok (.newarray .int, 2) := by decide +kernel
theorem dX4_init_210 : decode cX4_init 210 = .ok (.putfield 87, 3) := by decide +kernel
theorem dX4_init_213 : decode cX4_init 213 = .ok (.aload_n 0, 1) := by decide +kernel
theorem dX4_init_214 : decode cX4_init 214 = .ok (.bipush 30, 2) := by decide +kernel
theorem dX4_init_216 : decode cX4_init 216 = .ok (.newarray .int, 2) := by decide +kernel
theorem dX4_init_218 : decode cX4_init 218 = .ok (.putfield 90, 3) := by decide +kernel
theorem dX4_init_221 : decode cX4_init 221 = .ok (.aload_n 0, 1) := by decide +kernel
theorem dX4_init_222 : decode cX4_init 222 = .ok (.bipush 30, 2) := by decide +kernel
theorem dX4_init_224 : decode cX4_init 224 = .ok (.newarray .int, 2) := by decide +kernel
theorem dX4_init_226 : decode cX4_init 226 = .ok (.putfield 93, 3) := by decide +kernel
theorem dX4_init_229 : decode cX4_init 229 = .ok (.aload_n 0, 1) := by decide +kernel
theorem dX4_init_230 : decode cX4_init 230 = .ok (.bipush 30, 2) := by decide +kernel
theorem dX4_init_232 : decode cX4_init 232 = .ok (.newarray .int, 2) := by decide +kernel
theorem dX4_init_234 : decode cX4_init 234 = .ok (.putfield 96, 3) := by decide +kernel
theorem dX4_init_237 : decode cX4_init 237 = .ok (.aload_n 0, 1) := by decide +kernel
theorem dX4_init_238 : decode cX4_init 238 = .ok (.bipush 30, 2) := by decide +kernel
theorem dX4_init_240 : decode cX4_init 240 = .ok (.newarray .int, 2) := by decide +kernel
theorem dX4_init_242 : decode cX4_init 242 = .ok (.putfield 99, 3) := by decide +kernel
theorem dX4_init_245 : decode cX4_init 245 = .ok (.aload_n 0, 1) := by decide +kernel
theorem dX4_init_246 : decode cX4_init 246 = .ok (.bipush 30, 2) := by decide +kernel
theorem dX4_init_248 : decode cX4_init 248 = .ok (.newarray .int, 2) := by decide +kernel
theorem dX4_init_250 : decode cX4_init 250 = .ok (.putfield 102, 3) := by decide +kernel
theorem dX4_init_253 : decode cX4_init 253 = .ok (.aload_n 0, 1) := by decide +kernel
theorem dX4_init_254 : decode cX4_init 254 = .ok (.bipush 30, 2) := by decide +kernel
theorem dX4_init_256 : decode cX4_init 256 = .ok (.newarray .int, 2) := by decide +kernel
theorem dX4_init_258 : decode cX4_init 258 = .ok (.putfield 105, 3) := by decide +kernel
theorem dX4_init_261 : decode cX4_init 261 = .ok (.aload_n 0, 1) := by decide +kernel
theorem dX4_init_262 : decode cX4_init 262 = .ok (.invokevirtual 108, 3) := by decide +kernel
theorem dX4_init_265 : decode cX4_init 265 = .ok (.return_, 1) := by decide +kernel
theorem dX4_anew_0 : decode cX4_anew 0 = .ok (.aload_n 0, 1) := by decide +kernel
theorem dX4_anew_1 : decode cX4_anew 1 = .ok (.iconst 0, 1) := by decide +kernel
theorem dX4_anew_2 : decode cX4_anew 2 = .ok (.putfield 111, 3) := by decide +kernel
theorem dX4_anew_5 : decode cX4_anew 5 = .ok (.iconst 0, 1) := by decide +kernel
theorem dX4_anew_6 : decode cX4_anew 6 = .ok (.istore_n 1, 1) := by decide +kernel
theorem dX4_anew_7 : decode cX4_anew 7 = .ok (.iload_n 1, 1) := by decide +kernel
theorem dX4_anew_8 : decode cX4_anew 8 = .ok (.bipush 30, 2) := by decide +kernel
theorem dX4_anew_10 : decode cX4_anew 10 = .ok (.if_icmp .ge 23, 3) := by decide +kernel
theorem dX4_anew_13 : decode cX4_anew 13 = .ok (.aload_n 0, 1) := by decide +kernel
theorem dX4_anew_14 : decode cX4_anew 14 = .ok (.getfield 25, 3) := by decide +kernel
theorem dX4_anew_17 : decode cX4_anew 17 = .ok (.iload_n 1, 1) := by decide +kernel
theorem dX4_anew_18 : decode cX4_anew 18 = .ok (.iconst 0, 1) := by decide +kernel
theorem dX4_anew_19 : decode cX4_anew 19 = .ok (.bastore, 1) := by decide +kernel
theorem dX4_anew_20 : decode cX4_anew 20 = .ok (.aload_n 0, 1) := by decide +kernel
theorem dX4_anew_21 : decode cX4_anew 21 = .ok (.getfield 47, 3) := by decide +kernel
theorem dX4_anew_24 : decode cX4_anew 24 = .ok (.iload_n 1, 1) := by decide +kernel
theorem dX4_anew_25 : decode cX4_anew 25 = .ok (.iconst 0, 1) := by decide +kernel
theorem dX4_anew_26 : decode cX4_anew 26 = .ok (.bastore, 1) := by decide +kernel
theorem dX4_anew_27 : decode cX4_anew 27 = .ok (.iinc 1 1, 3) := by decide +kernel
theorem dX4_anew_30 : decode cX4_anew 30 = .ok (.goto (-23), 3) := by decide +kernel
theorem dX4_anew_33 : decode cX4_anew 33 = .ok (.aload_n 0, 1) := by decide +kernel
theorem dX4_anew_34 : decode cX4_anew 34 = .ok (.iconst 0, 1) := by decide +kernel
theorem dX4_anew_35 : decode cX4_anew 35 = .ok (.putfield 115, 3) := by decide +kernel
theorem dX4_anew_38 : decode cX4_anew 38 = .ok (.iconst 0, 1) := by decide +kernel
theorem dX4_anew_39 : decode cX4_anew 39 = .ok (.istore_n 1, 1) := by decide +kernel
theorem dX4_anew_40 : decode cX4_anew 40 = .ok (.iload_n 1, 1) := by decide +kernel
theorem dX4_anew_41 : decode cX4_anew 41 = .ok (.aload_n 0, 1) := by decide +kernel
theorem dX4_anew_42 : decode cX4_anew 42 = .ok (.getfield 118, 3) := by decide +kernel
theorem dX4_anew_45 : decode cX4_anew 45 = .ok (.if_icmp .ge 64, 3) := by decide +kernel
theorem dX4_anew_48 : decode cX4_anew 48 = .ok (.iconst 0, 1) := by decide +kernel
theorem dX4_anew_49 : decode cX4_anew 49 = .ok (.istore_n 2, 1) := by decide +kernel
theorem dX4_anew_50 : decode cX4_anew 50 = .ok (.iload_n 2, 1) := by decide +kernel
theorem dX4_anew_51 : decode cX4_anew 51 = .ok (.bipush 6, 2) := by decide +kernel
theorem dX4_anew_53 : decode cX4_anew 53 = .ok (.if_icmp .ge 50, 3) := by decide +kernel
theorem dX4_anew_56 : decode cX4_anew 56 = .ok (.aload_n 0, 1) := by decide +kernel
theorem dX4_anew_57 : decode cX4_anew 57 = .ok (.iload_n 1, 1) := by decide +kernel
theorem dX4_anew_58 : decode cX4_anew 58 = .ok (.iload_n 2, 1) := by decide +kernel
theorem dX4_anew_59 : decode cX4_anew 59 = .ok (.invokevirtual 121, 3) := by decide +kernel
theorem dX4_anew_62 : decode cX4_anew 62 = .ok (.bipush (-9), 2) := by decide +kernel
theorem dX4_anew_64 : decode cX4_anew 64 = .ok (.if_icmp .ne 33, 3) := by decide +kernel
theorem dX4_anew_67 : decode cX4_anew 67 = .ok (.aload_n 0, 1) := by decide +kernel
theorem dX4_anew_68 : decode cX4_anew 68 = .ok (.getfield 19, 3) := by decide +kernel
theorem dX4_anew_71 : decode cX4_anew 71 = .ok (.aload_n 0, 1) := by decide +kernel
theorem dX4_anew_72 : decode cX4_anew 72 = .ok (.getfield 115, 3) := by decide +kernel
theorem dX4_anew_75 : decode cX4_anew 75 = .ok (.iload_n 1, 1) := by decide +kernel
theorem dX4_anew_76 : decode cX4_anew 76 = .ok (.iastore, 1) := by decide +kernel
theorem dX4_anew_77 : decode cX4_anew 77 = .ok (.aload_n 0, 1) := by decide +kernel
theorem dX4_anew_78 : decode cX4_anew 78 = .ok (.getfield 22, 3) := by decide +kernel
theorem dX4_anew_81 : decode cX4_anew 81 = .ok (.aload_n 0, 1) := by decide +kernel
theorem dX4_anew_82 : decode cX4_anew 82 = .ok (.getfield 115, 3) := by decide +kernel
theorem dX4_anew_85 : decode cX4_anew 85 = .ok (.iload_n 2, 1) := by decide +kernel
theorem dX4_anew_86 : decode cX4_anew 86 = .ok (.iastore, 1) := by decide +kernel
theorem dX4_anew_87 : decode cX4_anew 87 = .ok (.aload_n 0, 1) := by decide +kernel
theorem dX4_anew_88 : decode cX4_anew 88 = .ok (.dup, 1) := by decide +kernel
theorem dX4_anew_89 : decode cX4_anew 89 = .ok (.getfield 115, 3) := by decide +kernel
theorem dX4_anew_92 : decode cX4_anew 92 = .ok (.iconst 1, 1) := by decide +kernel
theorem dX4_anew_93 : decode cX4_anew 93 = .ok (.iadd, 1) := by decide +kernel
theorem dX4_anew_94 : decode cX4_anew 94 = .ok (.putfield 115, 3) := by decide +kernel
theorem dX4_anew_97 : decode cX4_anew 97 = .ok (.iinc 2 1, 3) := by decide +kernel
theorem dX4_anew_100 : decode cX4_anew 100 = .ok (.goto (-50), 3) := by decide +kernel
theorem dX4_anew_103 : decode cX4_anew 103 = .ok (.iinc 1 1, 3) := by decide +kernel
theorem dX4_anew_106 : decode cX4_anew 106 = .ok (.goto (-66), 3) := by decide +kernel
theorem dX4_anew_109 : decode cX4_anew 109 = .ok (.iconst 0, 1) := by decide +kernel
theorem dX4_anew_110 : decode cX4_anew 110 = .ok (.istore_n 1, 1) := by decide +kernel
theorem dX4_anew_111 : decode cX4_anew 111 = .ok (.iload_n 1, 1) := by decide +kernel
theorem dX4_anew_112 : decode cX4_anew 112 = .ok (.aload_n 0, 1) := by decide +kernel
theorem dX4_anew_113 : decode cX4_anew 113 = .ok (.getfield 115, 3) := by decide +kernel
theorem dX4_anew_116 : decode cX4_anew 116 = .ok (.if_icmp .ge 71, 3) := by decide +kernel
theorem dX4_anew_119 : decode cX4_anew 119 = .ok (.iconst 0, 1) := by decide +kernel
theorem dX4_anew_120 : decode cX4_anew 120 = .ok (.istore_n 2, 1) := by decide +kernel
theorem dX4_anew_121 : decode cX4_anew 121 = .ok (.iload_n 2, 1) := by decide +kernel
theorem dX4_anew_122 : decode cX4_anew 122 = .ok (.bipush 6, 2) := by decide +kernel
theorem dX4_anew_124 : decode cX4_anew 124 = .ok (.if_icmp .ge 57, 3) := by decide +kernel
theorem dX4_anew_127 : decode cX4_anew 127 = .ok (.iload_n 2, 1) := by decide +kernel
theorem dX4_anew_128 : decode cX4_anew 128 = .ok (.iconst 2, 1) := by decide +kernel
theorem dX4_anew_129 : decode cX4_anew 129 = .ok (.idiv, 1) := by decide +kernel
theorem dX4_anew_130 : decode cX4_anew 130 = .ok (.aload_n 0, 1) := by decide +kernel
theorem dX4_anew_131 : decode cX4_anew 131 = .ok (.getfield 22, 3) := by decide +kernel
theorem dX4_anew_134 : decode cX4_anew 134 = .ok (.iload_n 1, 1) := by decide +kernel
theorem dX4_anew_135 : decode cX4_anew 135 = .ok (.iaload, 1) := by decide +kernel
theorem dX4_anew_136 : decode cX4_anew 136 = .ok (.iconst 2, 1) := by decide +kernel
theorem dX4_anew_137 : decode cX4_anew 137 = .ok (.idiv, 1) := by decide +kernel
theorem dX4_anew_138 : decode cX4_anew 138 = .ok (.if_icmp .eq 37, 3) := by decide +kernel
theorem dX4_anew_141 : decode cX4_anew 141 = .ok (.aload_n 0, 1) := by decide +kernel
theorem dX4_anew_142 : decode cX4_anew 142 = .ok (.getfield 74, 3) := by decide +kernel
theorem dX4_anew_145 : decode cX4_anew 145 = .ok (.bipush 6, 2) := by decide +kernel
theorem dX4_anew_147 : decode cX4_anew 147 = .ok (.iload_n 1, 1) := by decide +kernel
theorem dX4_anew_148 : decode cX4_anew 148 = .ok (.imul, 1) := by decide +kernel
theorem dX4_anew_149 : decode cX4_anew 149 = .ok (.iload_n 2, 1) := by decide +kernel
theorem dX4_anew_150 : decode cX4_anew 150 = .ok (.iadd, 1) := by decide +kernel
theorem dX4_anew_151 : decode cX4_anew 151 = .ok (.aload_n 0, 1) := by decide +kernel
theorem dX4_anew_152 : decode cX4_anew 152 = .ok (.iload_n 1, 1) := by decide +kernel
theorem dX4_anew_153 : decode cX4_anew 153 = .ok (.iload_n 2, 1) := by decide +kernel
theorem dX4_anew_154 : decode cX4_anew 154 = .ok (.invokevirtual 125, 3) := by decide +kernel
theorem dX4_anew_157 : decode cX4_anew 157 = .ok (.iastore, 1) := by decide +kernel
theorem dX4_anew_158 : decode cX4_anew 158 = .ok (.aload_n 0, 1) := by decide +kernel
theorem dX4_anew_159 : decode cX4_anew 159 = .ok (.getfield 77, 3) := by decide +kernel
theorem dX4_anew_162 : decode cX4_anew 162 = .ok (.bipush 6, 2) := by decide +kernel
theorem dX4_anew_164 : decode cX4_anew 164 = .ok (.iload_n 1, 1) := by decide +kernel
theorem dX4_anew_165 : decode cX4_anew 165 = .ok (.imul, 1) := by decide +kernel
theorem dX4_anew_166 : decode cX4_anew 166 = .ok (.iload_n 2, 1) := by decide +kernel
theorem dX4_anew_167 : decode cX4_anew 167 = .ok (.iadd, 1) := by decide +kernel
theorem dX4_anew_168 : decode cX4_anew 168 = .ok (.aload_n 0, 1) := by decide +kernel
theorem dX4_anew_169 : decode cX4_anew 169 = .ok (.iload_n 1, 1) := by decide +kernel
theorem dX4_anew_170 : decode cX4_anew 170 = .ok (.iload_n 2, 1) := by decide +kernel
theorem dX4_anew_171 : decode cX4_anew 171 = .ok (.invokevirtual 128, 3) := by decide +kernel
theorem dX4_anew_174 : decode cX4_anew 174 = .ok (.iastore, 1) := by decide +kernel
theorem dX4_anew_175 : decode cX4_anew 175 = .ok (.iinc 2 1, 3) := by decide +kernel
theorem dX4_anew_178 : decode cX4_anew 178 = .ok (.goto (-57), 3) := by decide +kernel
theorem dX4_anew_181 : decode cX4_anew 181 = .ok (.iinc 1 1, 3) := by decide +kernel
theorem dX4_anew_184 : decode cX4_anew 184 = .ok (.goto (-73), 3) := by decide +kernel
theorem dX4_anew_187 : decode cX4_anew 187 = .ok (.aload_n 0, 1) := by decide +kernel
theorem dX4_anew_188 : decode cX4_anew 188 = .ok (.iconst 0, 1) := by decide +kernel
theorem dX4_anew_189 : decode cX4_anew 189 = .ok (.putfield 131, 3) := by decide +kernel
theorem dX4_anew_192 : decode cX4_anew 192 = .ok (.aload_n 0, 1) := by decide +kernel
theorem dX4_anew_193 : decode cX4_anew 193 = .ok (.iconst 0, 1) := by decide +kernel
theorem dX4_anew_194 : decode cX4_anew 194 = .ok (.putfield 134, 3) := by decide +kernel
theorem dX4_anew_197 : decode cX4_anew 197 = .ok (.aload_n 0, 1) := by decide +kernel
theorem dX4_anew_198 : decode cX4_anew 198 = .ok (.bipush (-9), 2) := by decide +kernel
theorem dX4_anew_200 : decode cX4_anew 200 = .ok (.putfield 137, 3) := by decide +kernel
theorem dX4_anew_203 : decode cX4_anew 203 = .ok (.aload_n 0, 1) := by decide +kernel
theorem dX4_anew_204 : decode cX4_anew 204 = .ok (.iconst 0, 1) := by decide +kernel
theorem dX4_anew_205 : decode cX4_anew 205 = .ok (.putfield 140, 3) := by decide +kernel
theorem dX4_anew_208 : decode cX4_anew 208 = .ok (.aload_n 0, 1) := by decide +kernel
theorem dX4_anew_209 : decode cX4_anew 209 = .ok (.iconst 0, 1) := by decide +kernel
theorem dX4_anew_210 : decode cX4_anew 210 = .ok (.putfield 144, 3) := by decide +kernel
theorem dX4_anew_213 : decode cX4_anew 213 = .ok (.aload_n 0, 1) := by decide +kernel
theorem dX4_anew_214 : decode cX4_anew 214 = .ok (.iconst 0, 1) := by decide +kernel
theorem dX4_anew_215 : decode cX4_anew 215 = .ok (.putfield 147, 3) := by decide +kernel
theorem dX4_anew_218 : decode cX4_anew 218 = .ok (.aload_n 0, 1) := by decide +kernel
theorem dX4_anew_219 : decode cX4_anew 219 = .ok (.getfield 115, 3) := by decide +kernel
theorem dX4_anew_222 : decode cX4_anew 222 = .ok (.ifCond .le 74, 3) := by decide +kernel
theorem dX4_anew_225 : decode cX4_anew 225 = .ok (.aload_n 0, 1) := by decide +kernel
theorem dX4_anew_226 : decode cX4_anew 226 = .ok (.getfield 41, 3) := by decide +kernel
theorem dX4_anew_229 : decode cX4_anew 229 = .ok (.iconst 0, 1) := by decide +kernel
theorem dX4_anew_230 : decode cX4_anew 230 = .ok (.iconst 0, 1) := by decide +kernel
theorem dX4_anew_231 : decode cX4_anew 231 = .ok (.iastore, 1) := by decide +kernel
theorem dX4_anew_232 : decode cX4_anew 232 = .ok (.aload_n 0, 1) := by decide +kernel
theorem dX4_anew_233 : decode cX4_anew 233 = .ok (.getfield 44, 3) := by decide +kernel
theorem dX4_anew_236 : decode cX4_anew 236 = .ok (.iconst 0, 1) := by decide +kernel
theorem dX4_anew_237 : decode cX4_anew 237 = .ok (.bipush (-9), 2) := by decide +kernel
theorem dX4_anew_239 : decode cX4_anew 239 = .ok (.iastore, 1) := by decide +kernel
theorem dX4_anew_240 : decode cX4_anew 240 = .ok (.aload_n 0, 1) := by decide +kernel
theorem dX4_anew_241 : decode cX4_anew 241 = .ok (.getfield 47, 3) := by decide +kernel
theorem dX4_anew_244 : decode cX4_anew 244 = .ok (.iconst 0, 1) := by decide +kernel
theorem dX4_anew_245 : decode cX4_anew 245 = .ok (.iconst 1, 1) := by decide +kernel
theorem dX4_anew_246 : decode cX4_anew 246 = .ok (.bastore, 1) := by decide +kernel
theorem dX4_anew_247 : decode cX4_anew 247 = .ok (.aload_n 0, 1) := by decide +kernel
theorem dX4_anew_248 : decode cX4_anew 248 = .ok (.getfield 50, 3) := by decide +kernel
theorem dX4_anew_251 : decode cX4_anew 251 = .ok (.iconst 0, 1) := by decide +kernel
theorem dX4_anew_252 : decode cX4_anew 252 = .ok (.iconst 0, 1) := by decide +kernel
theorem dX4_anew_253 : decode cX4_anew 253 = .ok (.iastore, 1) := by decide +kernel
theorem dX4_anew_254 : decode cX4_anew 254 = .ok (.aload_n 0, 1) := by decide +kernel
theorem dX4_anew_255 : decode cX4_anew 255 = .ok (.getfield 53, 3) := by decide +kernel
theorem dX4_anew_258 : decode cX4_anew 258 = .ok (.iconst 0, 1) := by decide +kernel
theorem dX4_anew_259 : decode cX4_anew 259 = .ok (.iconst 0, 1) := by decide +kernel
theorem dX4_anew_260 : decode cX4_anew 260 = .ok (.iastore, 1) := by decide +kernel
theorem dX4_anew_261 : decode cX4_anew 261 = .ok (.aload_n 0, 1) := by decide +kernel
theorem dX4_anew_262 : decode cX4_anew 262 = .ok (.getfield 56, 3) := by decide +kernel
theorem dX4_anew_265 : decode cX4_anew 265 = .ok (.iconst 0, 1) := by decide +kernel
theorem dX4_anew_266 : decode cX4_anew 266 = .ok (.aload_n 0, 1) := by decide +kernel
theorem dX4_anew_267 : decode cX4_anew 267 = .ok (.getfield 22, 3) := by decide +kernel
theorem dX4_anew_270 : decode cX4_anew 270 = .ok (.iconst 0, 1) := by decide +kernel
theorem dX4_anew_271 : decode cX4_anew 271 = .ok (.iaload, 1) := by decide +kernel
theorem dX4_anew_272 : decode cX4_anew 272 = .ok (.invokestatic 150, 3) := by decide +kernel
theorem dX4_anew_275 : decode cX4_anew 275 = .ok (.iastore, 1) := by decide +kernel
theorem dX4_anew_276 : decode cX4_anew 276 = .ok (.aload_n 0, 1) := by decide +kernel
theorem dX4_anew_277 : decode cX4_anew 277 = .ok (.getfield 59, 3) := by decide +kernel
theorem dX4_anew_280 : decode cX4_anew 280 = .ok (.iconst 0, 1) := by decide +kernel
theorem dX4_anew_281 : decode cX4_anew 281 = .ok (.aload_n 0, 1) := by decide +kernel
theorem dX4_anew_282 : decode cX4_anew 282 = .ok (.getfield 22, 3) := by decide +kernel
theorem dX4_anew_285 : decode cX4_anew 285 = .ok (.iconst 0, 1) := by decide +kernel
theorem dX4_anew_286 : decode cX4_anew 286 = .ok (.iaload, 1) := by decide +kernel
theorem dX4_anew_287 : decode cX4_anew 287 = .ok (.invokestatic 154, 3) := by decide +kernel
theorem dX4_anew_290 : decode cX4_anew 290 = .ok (.iastore, 1) := by decide +kernel
theorem dX4_anew_291 : decode cX4_anew 291 = .ok (.aload_n 0, 1) := by decide +kernel
theorem dX4_anew_292 : decode cX4_anew 292 = .ok (.iconst 1, 1) := by decide +kernel
theorem dX4_anew_293 : decode cX4_anew 293 = .ok (.putfield 144, 3) := by decide +kernel
theorem dX4_anew_296 : decode cX4_anew 296 = .ok (.return_, 1) := by decide +kernel
theorem dX4_cubeBeside_0 : decode cX4_cubeBeside 0 = .ok (.aload_n 0, 1) := by decide +kernel
theorem dX4_cubeBeside_1 : decode cX4_cubeBeside 1 = .ok (.aload_n 0, 1) := by decide +kernel
theorem dX4_cubeBeside_2 : decode cX4_cubeBeside 2 = .ok (.getfield 7, 3) := by decide +kernel
theorem dX4_cubeBeside_5 : decode cX4_cubeBeside 5 = .ok (.iload_n 1, 1) := by decide +kernel
theorem dX4_cubeBeside_6 : decode cX4_cubeBeside 6 = .ok (.iaload, 1) := by decide +kernel
theorem dX4_cubeBeside_7 : decode cX4_cubeBeside 7 = .ok (.iload_n 2, 1) := by decide +kernel
theorem dX4_cubeBeside_8 : decode cX4_cubeBeside 8 = .ok (.invokestatic 157, 3) := by decide +kernel
theorem dX4_cubeBeside_11 : decode cX4_cubeBeside 11 = .ok (.iadd, 1) := by decide +kernel
theorem dX4_cubeBeside_12 : decode cX4_cubeBeside 12 = .ok (.aload_n 0, 1) := by decide +kernel
theorem dX4_cubeBeside_13 : decode cX4_cubeBeside 13 = .ok (.getfield 13, 3) := by decide +kernel
theorem dX4_cubeBeside_16 : decode cX4_cubeBeside 16 = .ok (.iload_n 1, 1) := by decide +kernel
theorem dX4_cubeBeside_17 : decode cX4_cubeBeside 17 = .ok (.iaload, 1) := by decide +kernel
theorem dX4_cubeBeside_18 : decode cX4_cubeBeside 18 = .ok (.iload_n 2, 1) := by decide +kernel
theorem dX4_cubeBeside_19 : decode cX4_cubeBeside 19 = .ok (.invokestatic 160, 3) := by decide +kernel
theorem dX4_cubeBeside_22 : decode cX4_cubeBeside 22 = .ok (.iadd, 1) := by decide +kernel
theorem dX4_cubeBeside_23 : decode cX4_cubeBeside 23 = .ok (.aload_n 0, 1) := by decide +kernel
theorem dX4_cubeBeside_24 : decode cX4_cubeBeside 24 = .ok (.getfield 16, 3) := by decide +kernel
theorem dX4_cubeBeside_27 : decode cX4_cubeBeside 27 = .ok (.iload_n 1, 1) := by decide +kernel
theorem dX4_cubeBeside_28 : decode cX4_cubeBeside 28 = .ok (.iaload, 1) := by decide +kernel
theorem dX4_cubeBeside_29 : decode cX4_cubeBeside 29 = .ok (.iload_n 2, 1) := by decide +kernel
theorem dX4_cubeBeside_30 : decode cX4_cubeBeside 30 = .ok (.invokestatic 163, 3) := by decide +kernel
theorem dX4_cubeBeside_33 : decode cX4_cubeBeside 33 = .ok (.iadd, 1) := by decide +kernel
theorem dX4_cubeBeside_34 : decode cX4_cubeBeside 34 = .ok (.invokevirtual 166, 3) := by decide +kernel
theorem dX4_cubeBeside_37 : decode cX4_cubeBeside 37 = .ok (.ireturn, 1) := by decide +kernel
theorem dX4_stepX_0 : decode cX4_stepX 0 = .ok (.iload_n 0, 1) := by decide +kernel
theorem dX4_stepX_1 : decode cX4_stepX 1 = .ok (.ifCond .ne 7, 3) := by decide +kernel
theorem dX4_stepX_4 : decode cX4_stepX 4 = .ok (.iconst 1, 1) := by decide +kernel
theorem dX4_stepX_5 : decode cX4_stepX 5 = .ok (.goto 13, 3) := by decide +kernel
theorem dX4_stepX_8 : decode cX4_stepX 8 = .ok (.iload_n 0, 1) := by decide +kernel
theorem dX4_stepX_9 : decode cX4_stepX 9 = .ok (.iconst 1, 1) := by decide +kernel
theorem dX4_stepX_10 : decode cX4_stepX 10 = .ok (.if_icmp .ne 7, 3) := by decide +kernel
theorem dX4_stepX_13 : decode cX4_stepX 13 = .ok (.iconst (-1), 1) := by decide +kernel
theorem dX4_stepX_14 : decode cX4_stepX 14 = .ok (.goto 4, 3) := by decide +kernel
theorem dX4_stepX_17 : decode cX4_stepX 17 = .ok (.iconst 0, 1) := by decide +kernel
theorem dX4_stepX_18 : decode cX4_stepX 18 = .ok (.ireturn, 1) := by decide +kernel
theorem dX4_stepY_0 : decode cX4_stepY 0 = .ok (.iload_n 0, 1) := by decide +kernel
theorem dX4_stepY_1 : decode cX4_stepY 1 = .ok (.iconst 2, 1) := by decide +kernel
theorem dX4_stepY_2 : decode cX4_stepY 2 = .ok (.if_icmp .ne 7, 3) := by decide +kernel
theorem dX4_stepY_5 : decode cX4_stepY 5 = .ok (.iconst 1, 1) := by decide +kernel
theorem dX4_stepY_6 : decode cX4_stepY 6 = .ok (.goto 13, 3) := by decide +kernel
theorem dX4_stepY_9 : decode cX4_stepY 9 = .ok (.iload_n 0, 1) := by decide +kernel
theorem dX4_stepY_10 : decode cX4_stepY 10 = .ok (.iconst 3, 1) := by decide +kernel
theorem dX4_stepY_11 : decode cX4_stepY 11 = .ok (.if_icmp .ne 7, 3) := by decide +kernel
theorem dX4_stepY_14 : decode cX4_stepY 14 = .ok (.iconst (-1), 1) := by decide +kernel
theorem dX4_stepY_15 : decode cX4_stepY 15 = .ok (.goto 4, 3) := by decide +kernel
theorem dX4_stepY_18 : decode cX4_stepY 18 = .ok (.iconst 0, 1) := by decide +kernel
theorem dX4_stepY_19 : decode cX4_stepY 19 = .ok (.ireturn, 1) := by decide +kernel
theorem dX4_stepZ_0 : decode cX4_stepZ 0 = .ok (.iload_n 0, 1) := by decide +kernel
theorem dX4_stepZ_1 : decode cX4_stepZ 1 = .ok (.iconst 4, 1) := by decide +kernel
theorem dX4_stepZ_2 : decode cX4_stepZ 2 = .ok (.if_icmp .ne 7, 3) := by decide +kernel
theorem dX4_stepZ_5 : decode cX4_stepZ 5 = .ok (.iconst 1, 1) := by decide +kernel
theorem dX4_stepZ_6 : decode cX4_stepZ 6 = .ok (.goto 13, 3) := by decide +kernel
theorem dX4_stepZ_9 : decode cX4_stepZ 9 = .ok (.iload_n 0, 1) := by decide +kernel
theorem dX4_stepZ_10 : decode cX4_stepZ 10 = .ok (.iconst 5, 1) := by decide +kernel
theorem dX4_stepZ_11 : decode cX4_stepZ 11 = .ok (.if_icmp .ne 7, 3) := by decide +kernel
theorem dX4_stepZ_14 : decode cX4_stepZ 14 = .ok (.iconst (-1), 1) := by decide +kernel
theorem dX4_stepZ_15 : decode cX4_stepZ 15 = .ok (.goto 4, 3) := by decide +kernel
theorem dX4_stepZ_18 : decode cX4_stepZ 18 = .ok (.iconst 0, 1) := by decide +kernel
theorem dX4_stepZ_19 : decode cX4_stepZ 19 = .ok (.ireturn, 1) := by decide +kernel
theorem dX4_cubeAt_0 : decode cX4_cubeAt 0 = .ok (.iconst 0, 1) := by decide +kernel
theorem dX4_cubeAt_1 : decode cX4_cubeAt 1 = .ok (.istore 4, 2) := by decide +kernel
theorem dX4_cubeAt_3 : decode cX4_cubeAt 3 = .ok (.iload 4, 2) := by decide +kernel
theorem dX4_cubeAt_5 : decode cX4_cubeAt 5 = .ok (.aload_n 0, 1) := by decide +kernel
theorem dX4_cubeAt_6 : decode cX4_cubeAt 6 = .ok (.getfield 118, 3) := by decide +kernel
theorem dX4_cubeAt_9 : decode cX4_cubeAt 9 = .ok (.if_icmp .ge 45, 3) := by decide +kernel
theorem dX4_cubeAt_12 : decode cX4_cubeAt 12 = .ok (.aload_n 0, 1) := by decide +kernel
theorem dX4_cubeAt_13 : decode cX4_cubeAt 13 = .ok (.getfield 7, 3) := by decide +kernel
theorem dX4_cubeAt_16 : decode cX4_cubeAt 16 = .ok (.iload 4, 2) := by decide +kernel
theorem dX4_cubeAt_18 : decode cX4_cubeAt 18 = .ok (.iaload, 1) := by decide +kernel
theorem dX4_cubeAt_19 : decode cX4_cubeAt 19 = .ok (.iload_n 1, 1) := by decide +kernel
theorem dX4_cubeAt_20 : decode cX4_cubeAt 20 = .ok (.if_icmp .ne 28, 3) := by decide +kernel
theorem dX4_cubeAt_23 : decode cX4_cubeAt 23 = .ok (.aload_n 0, 1) := by decide +kernel
theorem dX4_cubeAt_24 : decode cX4_cubeAt 24 = .ok (.getfield 13, 3) := by decide +kernel
theorem dX4_cubeAt_27 : decode cX4_cubeAt 27 = .ok (.iload 4, 2) := by decide +kernel
theorem dX4_cubeAt_29 : decode cX4_cubeAt 29 = .ok (.iaload, 1) := by decide +kernel
theorem dX4_cubeAt_30 : decode cX4_cubeAt 30 = .ok (.iload_n 2, 1) := by decide +kernel
theorem dX4_cubeAt_31 : decode cX4_cubeAt 31 = .ok (.if_icmp .ne 17, 3) := by decide +kernel
theorem dX4_cubeAt_34 : decode cX4_cubeAt 34 = .ok (.aload_n 0, 1) := by decide +kernel
theorem dX4_cubeAt_35 : decode cX4_cubeAt 35 = .ok (.getfield 16, 3) := by decide +kernel
theorem dX4_cubeAt_38 : decode cX4_cubeAt 38 = .ok (.iload 4, 2) := by decide +kernel
theorem dX4_cubeAt_40 : decode cX4_cubeAt 40 = .ok (.iaload, 1) := by decide +kernel
theorem dX4_cubeAt_41 : decode cX4_cubeAt 41 = .ok (.iload_n 3, 1) := by decide +kernel
theorem dX4_cubeAt_42 : decode cX4_cubeAt 42 = .ok (.if_icmp .ne 6, 3) := by decide +kernel
theorem dX4_cubeAt_45 : decode cX4_cubeAt 45 = .ok (.iload 4, 2) := by decide +kernel
theorem dX4_cubeAt_47 : decode cX4_cubeAt 47 = .ok (.ireturn, 1) := by decide +kernel
theorem dX4_cubeAt_48 : decode cX4_cubeAt 48 = .ok (.iinc 4 1, 3) := by decide +kernel
theorem dX4_cubeAt_51 : decode cX4_cubeAt 51 = .ok (.goto (-48), 3) := by decide +kernel
theorem dX4_cubeAt_54 : decode cX4_cubeAt 54 = .ok (.bipush (-9), 2) := by decide +kernel
theorem dX4_cubeAt_56 : decode cX4_cubeAt 56 = .ok (.ireturn, 1) := by decide +kernel
theorem dX4_found_0 : decode cX4_found 0 = .ok (.aload_n 0, 1) := by decide +kernel
theorem dX4_found_1 : decode cX4_found 1 = .ok (.getfield 19, 3) := by decide +kernel
theorem dX4_found_4 : decode cX4_found 4 = .ok (.iload_n 1, 1) := by decide +kernel
theorem dX4_found_5 : decode cX4_found 5 = .ok (.iaload, 1) := by decide +kernel
theorem dX4_found_6 : decode cX4_found 6 = .ok (.istore_n 3, 1) := by decide +kernel
theorem dX4_found_7 : decode cX4_found 7 = .ok (.aload_n 0, 1) := by decide +kernel
theorem dX4_found_8 : decode cX4_found 8 = .ok (.getfield 22, 3) := by decide +kernel
theorem dX4_found_11 : decode cX4_found 11 = .ok (.iload_n 1, 1) := by decide +kernel
theorem dX4_found_12 : decode cX4_found 12 = .ok (.iaload, 1) := by decide +kernel
theorem dX4_found_13 : decode cX4_found 13 = .ok (.istore 4, 2) := by decide +kernel
theorem dX4_found_15 : decode cX4_found 15 = .ok (.aload_n 0, 1) := by decide +kernel
theorem dX4_found_16 : decode cX4_found 16 = .ok (.iload_n 1, 1) := by decide +kernel
theorem dX4_found_17 : decode cX4_found 17 = .ok (.iload_n 2, 1) := by decide +kernel
theorem dX4_found_18 : decode cX4_found 18 = .ok (.invokevirtual 170, 3) := by decide +kernel
theorem dX4_found_21 : decode cX4_found 21 = .ok (.istore 5, 2) := by decide +kernel
theorem dX4_found_23 : decode cX4_found 23 = .ok (.iload 5, 2) := by decide +kernel
theorem dX4_found_25 : decode cX4_found 25 = .ok (.iconst 2, 1) := by decide +kernel
theorem dX4_found_26 : decode cX4_found 26 = .ok (.if_icmp .ne 66, 3) := by decide +kernel
theorem dX4_found_29 : decode cX4_found 29 = .ok (.aload_n 0, 1) := by decide +kernel
theorem dX4_found_30 : decode cX4_found 30 = .ok (.aload_n 0, 1) := by decide +kernel
theorem dX4_found_31 : decode cX4_found 31 = .ok (.aload_n 0, 1) := by decide +kernel
theorem dX4_found_32 : decode cX4_found 32 = .ok (.getfield 7, 3) := by decide +kernel
theorem dX4_found_35 : decode cX4_found 35 = .ok (.iload_n 3, 1) := by decide +kernel
theorem dX4_found_36 : decode cX4_found 36 = .ok (.iaload, 1) := by decide +kernel
theorem dX4_found_37 : decode cX4_found 37 = .ok (.iload_n 2, 1) := by decide +kernel
theorem dX4_found_38 : decode cX4_found 38 = .ok (.invokestatic 157, 3) := by decide +kernel
theorem dX4_found_41 : decode cX4_found 41 = .ok (.iadd, 1) := by decide +kernel
theorem dX4_found_42 : decode cX4_found 42 = .ok (.iload 4, 2) := by decide +kernel
theorem dX4_found_44 : decode cX4_found 44 = .ok (.invokestatic 157, 3) := by decide +kernel
theorem dX4_found_47 : decode cX4_found 47 = .ok (.iadd, 1) := by decide +kernel
theorem dX4_found_48 : decode cX4_found 48 = .ok (.aload_n 0, 1) := by decide +kernel
theorem dX4_found_49 : decode cX4_found 49 = .ok (.getfield 13, 3) := by decide +kernel
theorem dX4_found_52 : decode cX4_found 52 = .ok (.iload_n 3, 1) := by decide +kernel
theorem dX4_found_53 : decode cX4_found 53 = .ok (.iaload, 1) := by decide +kernel
theorem dX4_found_54 : decode cX4_found 54 = .ok (.iload_n 2, 1) := by decide +kernel
theorem dX4_found_55 : decode cX4_found 55 = .ok (.invokestatic 160, 3) := by decide +kernel
theorem dX4_found_58 : decode cX4_found 58 = .ok (.iadd, 1) := by decide +kernel
theorem dX4_found_59 : decode cX4_found 59 = .ok (.iload 4, 2) := by decide +kernel
theorem dX4_found_61 : decode cX4_found 61 = .ok (.invokestatic 160, 3) := by decide +kernel
theorem dX4_found_64 : decode cX4_found 64 = .ok (.iadd, 1) := by decide +kernel
theorem dX4_found_65 : decode cX4_found 65 = .ok (.aload_n 0, 1) := by decide +kernel
theorem dX4_found_66 : decode cX4_found 66 = .ok (.getfield 16, 3) := by decide +kernel
theorem dX4_found_69 : decode cX4_found 69 = .ok (.iload_n 3, 1) := by decide +kernel
theorem dX4_found_70 : decode cX4_found 70 = .ok (.iaload, 1) := by decide +kernel
theorem dX4_found_71 : decode cX4_found 71 = .ok (.iload_n 2, 1) := by decide +kernel
theorem dX4_found_72 : decode cX4_found 72 = .ok (.invokestatic 163, 3) := by decide +kernel
theorem dX4_found_75 : decode cX4_found 75 = .ok (.iadd, 1) := by decide +kernel
theorem dX4_found_76 : decode cX4_found 76 = .ok (.iload 4, 2) := by decide +kernel
theorem dX4_found_78 : decode cX4_found 78 = .ok (.invokestatic 163, 3) := by decide +kernel
theorem dX4_found_81 : decode cX4_found 81 = .ok (.iadd, 1) := by decide +kernel
theorem dX4_found_82 : decode cX4_found 82 = .ok (.invokevirtual 166, 3) := by decide +kernel
theorem dX4_found_85 : decode cX4_found 85 = .ok (.iload_n 2, 1) := by decide +kernel
theorem dX4_found_86 : decode cX4_found 86 = .ok (.iconst 1, 1) := by decide +kernel
theorem dX4_found_87 : decode cX4_found 87 = .ok (.ixor, 1) := by decide +kernel
theorem dX4_found_88 : decode cX4_found 88 = .ok (.invokevirtual 173, 3) := by decide +kernel
theorem dX4_found_91 : decode cX4_found 91 = .ok (.ireturn, 1) := by decide +kernel
theorem dX4_found_92 : decode cX4_found 92 = .ok (.iload 5, 2) := by decide +kernel
theorem dX4_found_94 : decode cX4_found 94 = .ok (.iconst 1, 1) := by decide +kernel
theorem dX4_found_95 : decode cX4_found 95 = .ok (.if_icmp .ne 18, 3) := by decide +kernel
theorem dX4_found_98 : decode cX4_found 98 = .ok (.aload_n 0, 1) := by decide +kernel
theorem dX4_found_99 : decode cX4_found 99 = .ok (.aload_n 0, 1) := by decide +kernel
theorem dX4_found_100 : decode cX4_found 100 = .ok (.iload_n 3, 1) := by decide +kernel
theorem dX4_found_101 : decode cX4_found 101 = .ok (.iload_n 2, 1) := by decide +kernel
theorem dX4_found_102 : decode cX4_found 102 = .ok (.invokevirtual 121, 3) := by decide +kernel
theorem dX4_found_105 : decode cX4_found 105 = .ok (.iload 4, 2) := by decide +kernel
theorem dX4_found_107 : decode cX4_found 107 = .ok (.invokevirtual 173, 3) := by decide +kernel
theorem dX4_found_110 : decode cX4_found 110 = .ok (.goto 9, 3) := by decide +kernel
theorem dX4_found_113 : decode cX4_found 113 = .ok (.aload_n 0, 1) := by decide +kernel
theorem dX4_found_114 : decode cX4_found 114 = .ok (.iload_n 3, 1) := by decide +kernel
theorem dX4_found_115 : decode cX4_found 115 = .ok (.iload_n 2, 1) := by decide +kernel
theorem dX4_found_116 : decode cX4_found 116 = .ok (.invokevirtual 173, 3) := by decide +kernel
theorem dX4_found_119 : decode cX4_found 119 = .ok (.ireturn, 1) := by decide +kernel
theorem dX4_edge_0 : decode cX4_edge 0 = .ok (.aload_n 0, 1) := by decide +kernel
theorem dX4_edge_1 : decode cX4_edge 1 = .ok (.getfield 19, 3) := by decide +kernel
theorem dX4_edge_4 : decode cX4_edge 4 = .ok (.iload_n 1, 1) := by decide +kernel
theorem dX4_edge_5 : decode cX4_edge 5 = .ok (.iaload, 1) := by decide +kernel
theorem dX4_edge_6 : decode cX4_edge 6 = .ok (.istore_n 3, 1) := by decide +kernel
theorem dX4_edge_7 : decode cX4_edge 7 = .ok (.aload_n 0, 1) := by decide +kernel
theorem dX4_edge_8 : decode cX4_edge 8 = .ok (.getfield 22, 3) := by decide +kernel
theorem dX4_edge_11 : decode cX4_edge 11 = .ok (.iload_n 1, 1) := by decide +kernel
theorem dX4_edge_12 : decode cX4_edge 12 = .ok (.iaload, 1) := by decide +kernel
theorem dX4_edge_13 : decode cX4_edge 13 = .ok (.istore 4, 2) := by decide +kernel
theorem dX4_edge_15 : decode cX4_edge 15 = .ok (.aload_n 0, 1) := by decide +kernel
theorem dX4_edge_16 : decode cX4_edge 16 = .ok (.aload_n 0, 1) := by decide +kernel
theorem dX4_edge_17 : decode cX4_edge 17 = .ok (.getfield 7, 3) := by decide +kernel
theorem dX4_edge_20 : decode cX4_edge 20 = .ok (.iload_n 3, 1) := by decide +kernel
theorem dX4_edge_21 : decode cX4_edge 21 = .ok (.iaload, 1) := by decide +kernel
theorem dX4_edge_22 : decode cX4_edge 22 = .ok (.iload_n 2, 1) := by decide +kernel
theorem dX4_edge_23 : decode cX4_edge 23 = .ok (.invokestatic 157, 3) := by decide +kernel
theorem dX4_edge_26 : decode cX4_edge 26 = .ok (.iadd, 1) := by decide +kernel
theorem dX4_edge_27 : decode cX4_edge 27 = .ok (.iload 4, 2) := by decide +kernel
theorem dX4_edge_29 : decode cX4_edge 29 = .ok (.invokestatic 157, 3) := by decide +kernel
theorem dX4_edge_32 : decode cX4_edge 32 = .ok (.iadd, 1) := by decide +kernel
theorem dX4_edge_33 : decode cX4_edge 33 = .ok (.aload_n 0, 1) := by decide +kernel
theorem dX4_edge_34 : decode cX4_edge 34 = .ok (.getfield 13, 3) := by decide +kernel
theorem dX4_edge_37 : decode cX4_edge 37 = .ok (.iload_n 3, 1) := by decide +kernel
theorem dX4_edge_38 : decode cX4_edge 38 = .ok (.iaload, 1) := by decide +kernel
theorem dX4_edge_39 : decode cX4_edge 39 = .ok (.iload_n 2, 1) := by decide +kernel
theorem dX4_edge_40 : decode cX4_edge 40 = .ok (.invokestatic 160, 3) := by decide +kernel
theorem dX4_edge_43 : decode cX4_edge 43 = .ok (.iadd, 1) := by decide +kernel
theorem dX4_edge_44 : decode cX4_edge 44 = .ok (.iload 4, 2) := by decide +kernel
theorem dX4_edge_46 : decode cX4_edge 46 = .ok (.invokestatic 160, 3) := by decide +kernel
theorem dX4_edge_49 : decode cX4_edge 49 = .ok (.iadd, 1) := by decide +kernel
theorem dX4_edge_50 : decode cX4_edge 50 = .ok (.aload_n 0, 1) := by decide +kernel
theorem dX4_edge_51 : decode cX4_edge 51 = .ok (.getfield 16, 3) := by decide +kernel
theorem dX4_edge_54 : decode cX4_edge 54 = .ok (.iload_n 3, 1) := by decide +kernel
theorem dX4_edge_55 : decode cX4_edge 55 = .ok (.iaload, 1) := by decide +kernel
theorem dX4_edge_56 : decode cX4_edge 56 = .ok (.iload_n 2, 1) := by decide +kernel
theorem dX4_edge_57 : decode cX4_edge 57 = .ok (.invokestatic 163, 3) := by decide +kernel
theorem dX4_edge_60 : decode cX4_edge 60 = .ok (.iadd, 1) := by decide +kernel
theorem dX4_edge_61 : decode cX4_edge 61 = .ok (.iload 4, 2) := by decide +kernel
theorem dX4_edge_63 : decode cX4_edge 63 = .ok (.invokestatic 163, 3) := by decide +kernel
theorem dX4_edge_66 : decode cX4_edge 66 = .ok (.iadd, 1) := by decide +kernel
theorem dX4_edge_67 : decode cX4_edge 67 = .ok (.invokevirtual 166, 3) := by decide +kernel
theorem dX4_edge_70 : decode cX4_edge 70 = .ok (.bipush (-9), 2) := by decide +kernel
theorem dX4_edge_72 : decode cX4_edge 72 = .ok (.if_icmp .eq 5, 3) := by decide +kernel
theorem dX4_edge_75 : decode cX4_edge 75 = .ok (.iconst 2, 1) := by decide +kernel
theorem dX4_edge_76 : decode cX4_edge 76 = .ok (.ireturn, 1) := by decide +kernel
theorem dX4_edge_77 : decode cX4_edge 77 = .ok (.aload_n 0, 1) := by decide +kernel
theorem dX4_edge_78 : decode cX4_edge 78 = .ok (.iload_n 3, 1) := by decide +kernel
theorem dX4_edge_79 : decode cX4_edge 79 = .ok (.iload_n 2, 1) := by decide +kernel
theorem dX4_edge_80 : decode cX4_edge 80 = .ok (.invokevirtual 121, 3) := by decide +kernel
theorem dX4_edge_83 : decode cX4_edge 83 = .ok (.bipush (-9), 2) := by decide +kernel
theorem dX4_edge_85 : decode cX4_edge 85 = .ok (.if_icmp .eq 7, 3) := by decide +kernel
theorem dX4_edge_88 : decode cX4_edge 88 = .ok (.iconst 1, 1) := by decide +kernel
theorem dX4_edge_89 : decode cX4_edge 89 = .ok (.goto 4, 3) := by decide +kernel
theorem dX4_edge_92 : decode cX4_edge 92 = .ok (.iconst 0, 1) := by decide +kernel
theorem dX4_edge_93 : decode cX4_edge 93 = .ok (.ireturn, 1) := by decide +kernel
theorem dX4_faceOf_0 : decode cX4_faceOf 0 = .ok (.iconst 0, 1) := by decide +kernel
theorem dX4_faceOf_1 : decode cX4_faceOf 1 = .ok (.istore_n 3, 1) := by decide +kernel
theorem dX4_faceOf_2 : decode cX4_faceOf 2 = .ok (.iload_n 3, 1) := by decide +kernel
theorem dX4_faceOf_3 : decode cX4_faceOf 3 = .ok (.aload_n 0, 1) := by decide +kernel
theorem dX4_faceOf_4 : decode cX4_faceOf 4 = .ok (.getfield 115, 3) := by decide +kernel
theorem dX4_faceOf_7 : decode cX4_faceOf 7 = .ok (.if_icmp .ge 31, 3) := by decide +kernel
theorem dX4_faceOf_10 : decode cX4_faceOf 10 = .ok (.aload_n 0, 1) := by decide +kernel
theorem dX4_faceOf_11 : decode cX4_faceOf 11 = .ok (.getfield 19, 3) := by decide +kernel
theorem dX4_faceOf_14 : decode cX4_faceOf 14 = .ok (.iload_n 3, 1) := by decide +kernel
theorem dX4_faceOf_15 : decode cX4_faceOf 15 = .ok (.iaload, 1) := by decide +kernel
theorem dX4_faceOf_16 : decode cX4_faceOf 16 = .ok (.iload_n 1, 1) := by decide +kernel
theorem dX4_faceOf_17 : decode cX4_faceOf 17 = .ok (.if_icmp .ne 15, 3) := by decide +kernel
theorem dX4_faceOf_20 : decode cX4_faceOf 20 = .ok (.aload_n 0, 1) := by decide +kernel
theorem dX4_faceOf_21 : decode cX4_faceOf 21 = .ok (.getfield 22, 3) := by decide +kernel
theorem dX4_faceOf_24 : decode cX4_faceOf 24 = .ok (.iload_n 3, 1) := by decide +kernel
theorem dX4_faceOf_25 : decode cX4_faceOf 25 = .ok (.iaload, 1) := by decide +kernel
theorem dX4_faceOf_26 : decode cX4_faceOf 26 = .ok (.iload_n 2, 1) := by decide +kernel
theorem dX4_faceOf_27 : decode cX4_faceOf 27 = .ok (.if_icmp .ne 5, 3) := by decide +kernel
theorem dX4_faceOf_30 : decode cX4_faceOf 30 = .ok (.iload_n 3, 1) := by decide +kernel
theorem dX4_faceOf_31 : decode cX4_faceOf 31 = .ok (.ireturn, 1) := by decide +kernel
theorem dX4_faceOf_32 : decode cX4_faceOf 32 = .ok (.iinc 3 1, 3) := by decide +kernel
theorem dX4_faceOf_35 : decode cX4_faceOf 35 = .ok (.goto (-33), 3) := by decide +kernel
theorem dX4_faceOf_38 : decode cX4_faceOf 38 = .ok (.bipush (-9), 2) := by decide +kernel
theorem dX4_faceOf_40 : decode cX4_faceOf 40 = .ok (.ireturn, 1) := by decide +kernel
theorem dX4_led_0 : decode cX4_led 0 = .ok (.aload_n 0, 1) := by decide +kernel
theorem dX4_led_1 : decode cX4_led 1 = .ok (.iload_n 1, 1) := by decide +kernel
theorem dX4_led_2 : decode cX4_led 2 = .ok (.iload_n 2, 1) := by decide +kernel
theorem dX4_led_3 : decode cX4_led 3 = .ok (.invokevirtual 170, 3) := by decide +kernel
theorem dX4_led_6 : decode cX4_led 6 = .ok (.istore_n 3, 1) := by decide +kernel
theorem dX4_led_7 : decode cX4_led 7 = .ok (.iload_n 3, 1) := by decide +kernel
theorem dX4_led_8 : decode cX4_led 8 = .ok (.iconst 2, 1) := by decide +kernel
theorem dX4_led_9 : decode cX4_led 9 = .ok (.if_icmp .ne 12, 3) := by decide +kernel
theorem dX4_led_12 : decode cX4_led 12 = .ok (.aload_n 0, 1) := by decide +kernel
theorem dX4_led_13 : decode cX4_led 13 = .ok (.getfield 22, 3) := by decide +kernel
theorem dX4_led_16 : decode cX4_led 16 = .ok (.iload_n 1, 1) := by decide +kernel
theorem dX4_led_17 : decode cX4_led 17 = .ok (.iaload, 1) := by decide +kernel
theorem dX4_led_18 : decode cX4_led 18 = .ok (.goto 20, 3) := by decide +kernel
theorem dX4_led_21 : decode cX4_led 21 = .ok (.iload_n 3, 1) := by decide +kernel
theorem dX4_led_22 : decode cX4_led 22 = .ok (.iconst 1, 1) := by decide +kernel
theorem dX4_led_23 : decode cX4_led 23 = .ok (.if_icmp .ne 7, 3) := by decide +kernel
theorem dX4_led_26 : decode cX4_led 26 = .ok (.iload_n 2, 1) := by decide +kernel
theorem dX4_led_27 : decode cX4_led 27 = .ok (.goto 11, 3) := by decide +kernel
theorem dX4_led_30 : decode cX4_led 30 = .ok (.aload_n 0, 1) := by decide +kernel
theorem dX4_led_31 : decode cX4_led 31 = .ok (.getfield 22, 3) := by decide +kernel
theorem dX4_led_34 : decode cX4_led 34 = .ok (.iload_n 1, 1) := by decide +kernel
theorem dX4_led_35 : decode cX4_led 35 = .ok (.iaload, 1) := by decide +kernel
theorem dX4_led_36 : decode cX4_led 36 = .ok (.iconst 1, 1) := by decide +kernel
theorem dX4_led_37 : decode cX4_led 37 = .ok (.ixor, 1) := by decide +kernel
theorem dX4_led_38 : decode cX4_led 38 = .ok (.ireturn, 1) := by decide +kernel
theorem dX4_firstRight_0 : decode cX4_firstRight 0 = .ok (.iload_n 0, 1) := by decide +kernel
theorem dX4_firstRight_1 : decode cX4_firstRight 1 = .ok (.ifCond .ne 7, 3) := by decide +kernel
theorem dX4_firstRight_4 : decode cX4_firstRight 4 = .ok (.iconst 2, 1) := by decide +kernel
theorem dX4_firstRight_5 : decode cX4_firstRight 5 = .ok (.goto 32, 3) := by decide +kernel
theorem dX4_firstRight_8 : decode cX4_firstRight 8 = .ok (.iload_n 0, 1) := by decide +kernel
theorem dX4_firstRight_9 : decode cX4_firstRight 9 = .ok (.iconst 1, 1) := by decide +kernel
theorem dX4_firstRight_10 : decode cX4_firstRight 10 = .ok (.if_icmp .eq 8, 3) := by decide +kernel
theorem dX4_firstRight_13 : decode cX4_firstRight 13 = .ok (.iload_n 0, 1) := by decide +kernel
theorem dX4_firstRight_14 : decode cX4_firstRight 14 = .ok (.iconst 2, 1) := by decide +kernel
theorem dX4_firstRight_15 : decode cX4_firstRight 15 = .ok (.if_icmp .ne 7, 3) := by decide +kernel
theorem dX4_firstRight_18 : decode cX4_firstRight 18 = .ok (.iconst 4, 1) := by decide +kernel
theorem dX4_firstRight_19 : decode cX4_firstRight 19 = .ok (.goto 18, 3) := by decide +kernel
theorem dX4_firstRight_22 : decode cX4_firstRight 22 = .ok (.iload_n 0, 1) := by decide +kernel
theorem dX4_firstRight_23 : decode cX4_firstRight 23 = .ok (.iconst 3, 1) := by decide +kernel
theorem dX4_firstRight_24 : decode cX4_firstRight 24 = .ok (.if_icmp .eq 8, 3) := by decide +kernel
theorem dX4_firstRight_27 : decode cX4_firstRight 27 = .ok (.iload_n 0, 1) := by decide +kernel
theorem dX4_firstRight_28 : decode cX4_firstRight 28 = .ok (.iconst 4, 1) := by decide +kernel
theorem dX4_firstRight_29 : decode cX4_firstRight 29 = .ok (.if_icmp .ne 7, 3) := by decide +kernel
theorem dX4_firstRight_32 : decode cX4_firstRight 32 = .ok (.iconst 0, 1) := by decide +kernel
theorem dX4_firstRight_33 : decode cX4_firstRight 33 = .ok (.goto 4, 3) := by decide +kernel
theorem dX4_firstRight_36 : decode cX4_firstRight 36 = .ok (.iconst 2, 1) := by decide +kernel
theorem dX4_firstRight_37 : decode cX4_firstRight 37 = .ok (.ireturn, 1) := by decide +kernel
theorem dX4_firstUp_0 : decode cX4_firstUp 0 = .ok (.iload_n 0, 1) := by decide +kernel
theorem dX4_firstUp_1 : decode cX4_firstUp 1 = .ok (.ifCond .ne 7, 3) := by decide +kernel
theorem dX4_firstUp_4 : decode cX4_firstUp 4 = .ok (.iconst 4, 1) := by decide +kernel
theorem dX4_firstUp_5 : decode cX4_firstUp 5 = .ok (.goto 40, 3) := by decide +kernel
theorem dX4_firstUp_8 : decode cX4_firstUp 8 = .ok (.iload_n 0, 1) := by decide +kernel
theorem dX4_firstUp_9 : decode cX4_firstUp 9 = .ok (.iconst 1, 1) := by decide +kernel
theorem dX4_firstUp_10 : decode cX4_firstUp 10 = .ok (.if_icmp .ne 7, 3) := by decide +kernel
theorem dX4_firstUp_13 : decode cX4_firstUp 13 = .ok (.iconst 2, 1) := by decide +kernel
theorem dX4_firstUp_14 : decode cX4_firstUp 14 = .ok (.goto 31, 3) := by decide +kernel
theorem dX4_firstUp_17 : decode cX4_firstUp 17 = .ok (.iload_n 0, 1) := by decide +kernel
theorem dX4_firstUp_18 : decode cX4_firstUp 18 = .ok (.iconst 2, 1) := by decide +kernel
theorem dX4_firstUp_19 : decode cX4_firstUp 19 = .ok (.if_icmp .ne 7, 3) := by decide +kernel
theorem dX4_firstUp_22 : decode cX4_firstUp 22 = .ok (.iconst 0, 1) := by decide +kernel
theorem dX4_firstUp_23 : decode cX4_firstUp 23 = .ok (.goto 22, 3) := by decide +kernel
theorem dX4_firstUp_26 : decode cX4_firstUp 26 = .ok (.iload_n 0, 1) := by decide +kernel
theorem dX4_firstUp_27 : decode cX4_firstUp 27 = .ok (.iconst 3, 1) := by decide +kernel
theorem dX4_firstUp_28 : decode cX4_firstUp 28 = .ok (.if_icmp .ne 7, 3) := by decide +kernel
theorem dX4_firstUp_31 : decode cX4_firstUp 31 = .ok (.iconst 4, 1) := by decide +kernel
theorem dX4_firstUp_32 : decode cX4_firstUp 32 = .ok (.goto 13, 3) := by decide +kernel
theorem dX4_firstUp_35 : decode cX4_firstUp 35 = .ok (.iload_n 0, 1) := by decide +kernel
theorem dX4_firstUp_36 : decode cX4_firstUp 36 = .ok (.iconst 4, 1) := by decide +kernel
theorem dX4_firstUp_37 : decode cX4_firstUp 37 = .ok (.if_icmp .ne 7, 3) := by decide +kernel
theorem dX4_firstUp_40 : decode cX4_firstUp 40 = .ok (.iconst 2, 1) := by decide +kernel
theorem dX4_firstUp_41 : decode cX4_firstUp 41 = .ok (.goto 4, 3) := by decide +kernel
theorem dX4_firstUp_44 : decode cX4_firstUp 44 = .ok (.iconst 0, 1) := by decide +kernel
theorem dX4_firstUp_45 : decode cX4_firstUp 45 = .ok (.ireturn, 1) := by decide +kernel
theorem dX4_cube_0 : decode cX4_cube 0 = .ok (.iload_n 1, 1) := by decide +kernel
theorem dX4_cube_1 : decode cX4_cube 1 = .ok (.ifCond .lt 26, 3) := by decide +kernel
theorem dX4_cube_4 : decode cX4_cube 4 = .ok (.iload_n 1, 1) := by decide +kernel
theorem dX4_cube_5 : decode cX4_cube 5 = .ok (.iconst 4, 1) := by decide +kernel
theorem dX4_cube_6 : decode cX4_cube 6 = .ok (.if_icmp .gt 21, 3) := by decide +kernel
theorem dX4_cube_9 : decode cX4_cube 9 = .ok (.iload_n 2, 1) := by decide +kernel
theorem dX4_cube_10 : decode cX4_cube 10 = .ok (.ifCond .lt 17, 3) := by decide +kernel
theorem dX4_cube_13 : decode cX4_cube 13 = .ok (.iload_n 2, 1) := by decide +kernel
theorem dX4_cube_14 : decode cX4_cube 14 = .ok (.iconst 4, 1) := by decide +kernel
theorem dX4_cube_15 : decode cX4_cube 15 = .ok (.if_icmp .gt 12, 3) := by decide +kernel
theorem dX4_cube_18 : decode cX4_cube 18 = .ok (.iload_n 3, 1) := by decide +kernel
theorem dX4_cube_19 : decode cX4_cube 19 = .ok (.ifCond .lt 8, 3) := by decide +kernel
theorem dX4_cube_22 : decode cX4_cube 22 = .ok (.iload_n 3, 1) := by decide +kernel
theorem dX4_cube_23 : decode cX4_cube 23 = .ok (.iconst 4, 1) := by decide +kernel
theorem dX4_cube_24 : decode cX4_cube 24 = .ok (.if_icmp .le 5, 3) := by decide +kernel
theorem dX4_cube_27 : decode cX4_cube 27 = .ok (.iconst (-1), 1) := by decide +kernel
theorem dX4_cube_28 : decode cX4_cube 28 = .ok (.ireturn, 1) := by decide +kernel
theorem dX4_cube_29 : decode cX4_cube 29 = .ok (.aload_n 0, 1) := by decide +kernel
theorem dX4_cube_30 : decode cX4_cube 30 = .ok (.getfield 118, 3) := by decide +kernel
theorem dX4_cube_33 : decode cX4_cube 33 = .ok (.ifCond .ne 7, 3) := by decide +kernel
theorem dX4_cube_36 : decode cX4_cube 36 = .ok (.iconst 1, 1) := by decide +kernel
theorem dX4_cube_37 : decode cX4_cube 37 = .ok (.goto 4, 3) := by decide +kernel
theorem dX4_cube_40 : decode cX4_cube 40 = .ok (.iconst 0, 1) := by decide +kernel
theorem dX4_cube_41 : decode cX4_cube 41 = .ok (.istore 4, 2) := by decide +kernel
theorem dX4_cube_43 : decode cX4_cube 43 = .ok (.iconst 0, 1) := by decide +kernel
theorem dX4_cube_44 : decode cX4_cube 44 = .ok (.istore 5, 2) := by decide +kernel
theorem dX4_cube_46 : decode cX4_cube 46 = .ok (.iload 5, 2) := by decide +kernel
theorem dX4_cube_48 : decode cX4_cube 48 = .ok (.bipush 6, 2) := by decide +kernel
theorem dX4_cube_50 : decode cX4_cube 50 = .ok (.if_icmp .ge 51, 3) := by decide +kernel
theorem dX4_cube_53 : decode cX4_cube 53 = .ok (.iload 4, 2) := by decide +kernel
theorem dX4_cube_55 : decode cX4_cube 55 = .ok (.ifCond .ne 33, 3) := by decide +kernel
theorem dX4_cube_58 : decode cX4_cube 58 = .ok (.aload_n 0, 1) := by decide +kernel
theorem dX4_cube_59 : decode cX4_cube 59 = .ok (.iload_n 1, 1) := by decide +kernel
theorem dX4_cube_60 : decode cX4_cube 60 = .ok (.iload 5, 2) := by decide +kernel
theorem dX4_cube_62 : decode cX4_cube 62 = .ok (.invokestatic 157, 3) := by decide +kernel
theorem dX4_cube_65 : decode cX4_cube 65 = .ok (.iadd, 1) := by decide +kernel
theorem dX4_cube_66 : decode cX4_cube 66 = .ok (.iload_n 2, 1) := by decide +kernel
theorem dX4_cube_67 : decode cX4_cube 67 = .ok (.iload 5, 2) := by decide +kernel
theorem dX4_cube_69 : decode cX4_cube 69 = .ok (.invokestatic 160, 3) := by decide +kernel
theorem dX4_cube_72 : decode cX4_cube 72 = .ok (.iadd, 1) := by decide +kernel
theorem dX4_cube_73 : decode cX4_cube 73 = .ok (.iload_n 3, 1) := by decide +kernel
theorem dX4_cube_74 : decode cX4_cube 74 = .ok (.iload 5, 2) := by decide +kernel
theorem dX4_cube_76 : decode cX4_cube 76 = .ok (.invokestatic 163, 3) := by decide +kernel
theorem dX4_cube_79 : decode cX4_cube 79 = .ok (.iadd, 1) := by decide +kernel
theorem dX4_cube_80 : decode cX4_cube 80 = .ok (.invokevirtual 166, 3) := by decide +kernel
theorem dX4_cube_83 : decode cX4_cube 83 = .ok (.bipush (-9), 2) := by decide +kernel
theorem dX4_cube_85 : decode cX4_cube 85 = .ok (.if_icmp .eq 7, 3) := by decide +kernel
theorem dX4_cube_88 : decode cX4_cube 88 = .ok (.iconst 1, 1) := by decide +kernel
theorem dX4_cube_89 : decode cX4_cube 89 = .ok (.goto 4, 3) := by decide +kernel
theorem dX4_cube_92 : decode cX4_cube 92 = .ok (.iconst 0, 1) := by decide +kernel
theorem dX4_cube_93 : decode cX4_cube 93 = .ok (.istore 4, 2) := by decide +kernel
theorem dX4_cube_95 : decode cX4_cube 95 = .ok (.iinc 5 1, 3) := by decide +kernel
theorem dX4_cube_98 : decode cX4_cube 98 = .ok (.goto (-52), 3) := by decide +kernel
theorem dX4_cube_101 : decode cX4_cube 101 = .ok (.aload_n 0, 1) := by decide +kernel
theorem dX4_cube_102 : decode cX4_cube 102 = .ok (.iload_n 1, 1) := by decide +kernel
theorem dX4_cube_103 : decode cX4_cube 103 = .ok (.iload_n 2, 1) := by decide +kernel
theorem dX4_cube_104 : decode cX4_cube 104 = .ok (.iload_n 3, 1) := by decide +kernel
theorem dX4_cube_105 : decode cX4_cube 105 = .ok (.invokevirtual 166, 3) := by decide +kernel
theorem dX4_cube_108 : decode cX4_cube 108 = .ok (.bipush (-9), 2) := by decide +kernel
theorem dX4_cube_110 : decode cX4_cube 110 = .ok (.if_icmp .ne 8, 3) := by decide +kernel
theorem dX4_cube_113 : decode cX4_cube 113 = .ok (.iload 4, 2) := by decide +kernel
theorem dX4_cube_115 : decode cX4_cube 115 = .ok (.ifCond .ne 6, 3) := by decide +kernel
theorem dX4_cube_118 : decode cX4_cube 118 = .ok (.bipush (-3), 2) := by decide +kernel
theorem dX4_cube_120 : decode cX4_cube 120 = .ok (.ireturn, 1) := by decide +kernel
theorem dX4_cube_121 : decode cX4_cube 121 = .ok (.aload_n 0, 1) := by decide +kernel
theorem dX4_cube_122 : decode cX4_cube 122 = .ok (.getfield 118, 3) := by decide +kernel
theorem dX4_cube_125 : decode cX4_cube 125 = .ok (.iconst 5, 1) := by decide +kernel
theorem dX4_cube_126 : decode cX4_cube 126 = .ok (.if_icmp .ne 6, 3) := by decide +kernel
theorem dX4_cube_129 : decode cX4_cube 129 = .ok (.bipush (-4), 2) := by decide +kernel
theorem dX4_cube_131 : decode cX4_cube 131 = .ok (.ireturn, 1) := by decide +kernel
theorem dX4_cube_132 : decode cX4_cube 132 = .ok (.aload_n 0, 1) := by decide +kernel
theorem dX4_cube_133 : decode cX4_cube 133 = .ok (.getfield 7, 3) := by decide +kernel
theorem dX4_cube_136 : decode cX4_cube 136 = .ok (.aload_n 0, 1) := by decide +kernel
theorem dX4_cube_137 : decode cX4_cube 137 = .ok (.getfield 118, 3) := by decide +kernel
theorem dX4_cube_140 : decode cX4_cube 140 = .ok (.iload_n 1, 1) := by decide +kernel
theorem dX4_cube_141 : decode cX4_cube 141 = .ok (.iastore, 1) := by decide +kernel
theorem dX4_cube_142 : decode cX4_cube 142 = .ok (.aload_n 0, 1) := by decide +kernel
theorem dX4_cube_143 : decode cX4_cube 143 = .ok (.getfield 13, 3) := by decide +kernel
theorem dX4_cube_146 : decode cX4_cube 146 = .ok (.aload_n 0, 1) := by decide +kernel
theorem dX4_cube_147 : decode cX4_cube 147 = .ok (.getfield 118, 3) := by decide +kernel
theorem dX4_cube_150 : decode cX4_cube 150 = .ok (.iload_n 2, 1) := by decide +kernel
theorem dX4_cube_151 : decode cX4_cube 151 = .ok (.iastore, 1) := by decide +kernel
theorem dX4_cube_152 : decode cX4_cube 152 = .ok (.aload_n 0, 1) := by decide +kernel
theorem dX4_cube_153 : decode cX4_cube 153 = .ok (.getfield 16, 3) := by decide +kernel
theorem dX4_cube_156 : decode cX4_cube 156 = .ok (.aload_n 0, 1) := by decide +kernel
theorem dX4_cube_157 : decode cX4_cube 157 = .ok (.getfield 118, 3) := by decide +kernel
theorem dX4_cube_160 : decode cX4_cube 160 = .ok (.iload_n 3, 1) := by decide +kernel
theorem dX4_cube_161 : decode cX4_cube 161 = .ok (.iastore, 1) := by decide +kernel
theorem dX4_cube_162 : decode cX4_cube 162 = .ok (.aload_n 0, 1) := by decide +kernel
theorem dX4_cube_163 : decode cX4_cube 163 = .ok (.dup, 1) := by decide +kernel
theorem dX4_cube_164 : decode cX4_cube 164 = .ok (.getfield 118, 3) := by decide +kernel
theorem dX4_cube_167 : decode cX4_cube 167 = .ok (.iconst 1, 1) := by decide +kernel
theorem dX4_cube_168 : decode cX4_cube 168 = .ok (.iadd, 1) := by decide +kernel
theorem dX4_cube_169 : decode cX4_cube 169 = .ok (.putfield 118, 3) := by decide +kernel
theorem dX4_cube_172 : decode cX4_cube 172 = .ok (.aload_n 0, 1) := by decide +kernel
theorem dX4_cube_173 : decode cX4_cube 173 = .ok (.invokevirtual 108, 3) := by decide +kernel
theorem dX4_cube_176 : decode cX4_cube 176 = .ok (.aload_n 0, 1) := by decide +kernel
theorem dX4_cube_177 : decode cX4_cube 177 = .ok (.getfield 115, 3) := by decide +kernel
theorem dX4_cube_180 : decode cX4_cube 180 = .ok (.ireturn, 1) := by decide +kernel
theorem dX4_clear_0 : decode cX4_clear 0 = .ok (.aload_n 0, 1) := by decide +kernel
theorem dX4_clear_1 : decode cX4_clear 1 = .ok (.getfield 118, 3) := by decide +kernel
theorem dX4_clear_4 : decode cX4_clear 4 = .ok (.istore_n 1, 1) := by decide +kernel
theorem dX4_clear_5 : decode cX4_clear 5 = .ok (.aload_n 0, 1) := by decide +kernel
theorem dX4_clear_6 : decode cX4_clear 6 = .ok (.iconst 0, 1) := by decide +kernel
theorem dX4_clear_7 : decode cX4_clear 7 = .ok (.putfield 118, 3) := by decide +kernel
theorem dX4_clear_10 : decode cX4_clear 10 = .ok (.aload_n 0, 1) := by decide +kernel
theorem dX4_clear_11 : decode cX4_clear 11 = .ok (.invokevirtual 108, 3) := by decide +kernel
theorem dX4_clear_14 : decode cX4_clear 14 = .ok (.iload_n 1, 1) := by decide +kernel
theorem dX4_clear_15 : decode cX4_clear 15 = .ok (.ireturn, 1) := by decide +kernel
theorem dX4_forget_0 : decode cX4_forget 0 = .ok (.aload_n 0, 1) := by decide +kernel
theorem dX4_forget_1 : decode cX4_forget 1 = .ok (.getfield 182, 3) := by decide +kernel
theorem dX4_forget_4 : decode cX4_forget 4 = .ok (.istore_n 1, 1) := by decide +kernel
theorem dX4_forget_5 : decode cX4_forget 5 = .ok (.aload_n 0, 1) := by decide +kernel
theorem dX4_forget_6 : decode cX4_forget 6 = .ok (.iconst 0, 1) := by decide +kernel
theorem dX4_forget_7 : decode cX4_forget 7 = .ok (.putfield 182, 3) := by decide +kernel
theorem dX4_forget_10 : decode cX4_forget 10 = .ok (.iload_n 1, 1) := by decide +kernel
theorem dX4_forget_11 : decode cX4_forget 11 = .ok (.ireturn, 1) := by decide +kernel
theorem dX4_face_0 : decode cX4_face 0 = .ok (.aload_n 0, 1) := by decide +kernel
theorem dX4_face_1 : decode cX4_face 1 = .ok (.iload_n 1, 1) := by decide +kernel
theorem dX4_face_2 : decode cX4_face 2 = .ok (.invokevirtual 185, 3) := by decide +kernel
theorem dX4_face_5 : decode cX4_face 5 = .ok (.ifCond .eq 12, 3) := by decide +kernel
theorem dX4_face_8 : decode cX4_face 8 = .ok (.iload_n 2, 1) := by decide +kernel
theorem dX4_face_9 : decode cX4_face 9 = .ok (.ifCond .lt 8, 3) := by decide +kernel
theorem dX4_face_12 : decode cX4_face 12 = .ok (.iload_n 2, 1) := by decide +kernel
theorem dX4_face_13 : decode cX4_face 13 = .ok (.iconst 1, 1) := by decide +kernel
theorem dX4_face_14 : decode cX4_face 14 = .ok (.if_icmp .le 7, 3) := by decide +kernel
theorem dX4_face_17 : decode cX4_face 17 = .ok (.iconst (-1), 1) := by decide +kernel
theorem dX4_face_18 : decode cX4_face 18 = .ok (.goto 22, 3) := by decide +kernel
theorem dX4_face_21 : decode cX4_face 21 = .ok (.iload_n 2, 1) := by decide +kernel
theorem dX4_face_22 : decode cX4_face 22 = .ok (.ifCond .ne 12, 3) := by decide +kernel
theorem dX4_face_25 : decode cX4_face 25 = .ok (.aload_n 0, 1) := by decide +kernel
theorem dX4_face_26 : decode cX4_face 26 = .ok (.getfield 19, 3) := by decide +kernel
theorem dX4_face_29 : decode cX4_face 29 = .ok (.iload_n 1, 1) := by decide +kernel
theorem dX4_face_30 : decode cX4_face 30 = .ok (.iaload, 1) := by decide +kernel
theorem dX4_face_31 : decode cX4_face 31 = .ok (.goto 9, 3) := by decide +kernel
theorem dX4_face_34 : decode cX4_face 34 = .ok (.aload_n 0, 1) := by decide +kernel
theorem dX4_face_35 : decode cX4_face 35 = .ok (.getfield 22, 3) := by decide +kernel
theorem dX4_face_38 : decode cX4_face 38 = .ok (.iload_n 1, 1) := by decide +kernel
theorem dX4_face_39 : decode cX4_face 39 = .ok (.iaload, 1) := by decide +kernel
theorem dX4_face_40 : decode cX4_face 40 = .ok (.ireturn, 1) := by decide +kernel
theorem dX4_isFace_0 : decode cX4_isFace 0 = .ok (.iload_n 1, 1) := by decide +kernel
theorem dX4_isFace_1 : decode cX4_isFace 1 = .ok (.ifCond .lt 15, 3) := by decide +kernel
theorem dX4_isFace_4 : decode cX4_isFace 4 = .ok (.iload_n 1, 1) := by decide +kernel
theorem dX4_isFace_5 : decode cX4_isFace 5 = .ok (.aload_n 0, 1) := by decide +kernel
theorem dX4_isFace_6 : decode cX4_isFace 6 = .ok (.getfield 115, 3) := by decide +kernel
theorem dX4_isFace_9 : decode cX4_isFace 9 = .ok (.if_icmp .ge 7, 3) := by decide +kernel
theorem dX4_isFace_12 : decode cX4_isFace 12 = .ok (.iconst 1, 1) := by decide +kernel
theorem dX4_isFace_13 : decode cX4_isFace 13 = .ok (.goto 4, 3) := by decide +kernel
theorem dX4_isFace_16 : decode cX4_isFace 16 = .ok (.iconst 0, 1) := by decide +kernel
theorem dX4_isFace_17 : decode cX4_isFace 17 = .ok (.ireturn, 1) := by decide +kernel
theorem dX4_across_0 : decode cX4_across 0 = .ok (.aload_n 0, 1) := by decide +kernel
theorem dX4_across_1 : decode cX4_across 1 = .ok (.iload_n 1, 1) := by decide +kernel
theorem dX4_across_2 : decode cX4_across 2 = .ok (.invokevirtual 185, 3) := by decide +kernel
theorem dX4_across_5 : decode cX4_across 5 = .ok (.ifCond .eq 26, 3) := by decide +kernel
theorem dX4_across_8 : decode cX4_across 8 = .ok (.iload_n 2, 1) := by decide +kernel
theorem dX4_across_9 : decode cX4_across 9 = .ok (.ifCond .lt 22, 3) := by decide +kernel
theorem dX4_across_12 : decode cX4_across 12 = .ok (.iload_n 2, 1) := by decide +kernel
theorem dX4_across_13 : decode cX4_across 13 = .ok (.iconst 5, 1) := by decide +kernel
theorem dX4_across_14 : decode cX4_across 14 = .ok (.if_icmp .gt 17, 3) := by decide +kernel
theorem dX4_across_17 : decode cX4_across 17 = .ok (.iload_n 2, 1) := by decide +kernel
theorem dX4_across_18 : decode cX4_across 18 = .ok (.iconst 2, 1) := by decide +kernel
theorem dX4_across_19 : decode cX4_across 19 = .ok (.idiv, 1) := by decide +kernel
theorem dX4_across_20 : decode cX4_across 20 = .ok (.aload_n 0, 1) := by decide +kernel
theorem dX4_across_21 : decode cX4_across 21 = .ok (.getfield 22, 3) := by decide +kernel
theorem dX4_across_24 : decode cX4_across 24 = .ok (.iload_n 1, 1) := by decide +kernel
theorem dX4_across_25 : decode cX4_across 25 = .ok (.iaload, 1) := by decide +kernel
theorem dX4_across_26 : decode cX4_across 26 = .ok (.iconst 2, 1) := by decide +kernel
theorem dX4_across_27 : decode cX4_across 27 = .ok (.idiv, 1) := by decide +kernel
theorem dX4_across_28 : decode cX4_across 28 = .ok (.if_icmp .ne 7, 3) := by decide +kernel
theorem dX4_across_31 : decode cX4_across 31 = .ok (.iconst (-1), 1) := by decide +kernel
theorem dX4_across_32 : decode cX4_across 32 = .ok (.goto 9, 3) := by decide +kernel
theorem dX4_across_35 : decode cX4_across 35 = .ok (.aload_n 0, 1) := by decide +kernel
theorem dX4_across_36 : decode cX4_across 36 = .ok (.iload_n 1, 1) := by decide +kernel
theorem dX4_across_37 : decode cX4_across 37 = .ok (.iload_n 2, 1) := by decide +kernel
theorem dX4_across_38 : decode cX4_across 38 = .ok (.invokevirtual 189, 3) := by decide +kernel
theorem dX4_across_41 : decode cX4_across 41 = .ok (.ireturn, 1) := by decide +kernel
theorem dX4_beside_0 : decode cX4_beside 0 = .ok (.aload_n 0, 1) := by decide +kernel
theorem dX4_beside_1 : decode cX4_beside 1 = .ok (.getfield 74, 3) := by decide +kernel
theorem dX4_beside_4 : decode cX4_beside 4 = .ok (.bipush 6, 2) := by decide +kernel
theorem dX4_beside_6 : decode cX4_beside 6 = .ok (.iload_n 1, 1) := by decide +kernel
theorem dX4_beside_7 : decode cX4_beside 7 = .ok (.imul, 1) := by decide +kernel
theorem dX4_beside_8 : decode cX4_beside 8 = .ok (.iload_n 2, 1) := by decide +kernel
theorem dX4_beside_9 : decode cX4_beside 9 = .ok (.iadd, 1) := by decide +kernel
theorem dX4_beside_10 : decode cX4_beside 10 = .ok (.iaload, 1) := by decide +kernel
theorem dX4_beside_11 : decode cX4_beside 11 = .ok (.ireturn, 1) := by decide +kernel
theorem dX4_trees_0 : decode cX4_trees 0 = .ok (.aload_n 0, 1) := by decide +kernel
theorem dX4_trees_1 : decode cX4_trees 1 = .ok (.getfield 118, 3) := by decide +kernel
theorem dX4_trees_4 : decode cX4_trees 4 = .ok (.ifCond .ne 7, 3) := by decide +kernel
theorem dX4_trees_7 : decode cX4_trees 7 = .ok (.ldc2_w 198, 3) := by decide +kernel
theorem dX4_trees_10 : decode cX4_trees 10 = .ok (.lreturn, 1) := by decide +kernel
theorem dX4_trees_11 : decode cX4_trees 11 = .ok (.ldc2_w 200, 3) := by decide +kernel
theorem dX4_trees_14 : decode cX4_trees 14 = .ok (.lstore_n 1, 1) := by decide +kernel
theorem dX4_trees_15 : decode cX4_trees 15 = .ok (.ldc2_w 202, 3) := by decide +kernel
theorem dX4_trees_18 : decode cX4_trees 18 = .ok (.lstore_n 3, 1) := by decide +kernel
theorem dX4_trees_19 : decode cX4_trees 19 = .ok (.aload_n 0, 1) := by decide +kernel
theorem dX4_trees_20 : decode cX4_trees 20 = .ok (.lload_n 1, 1) := by decide +kernel
theorem dX4_trees_21 : decode cX4_trees 21 = .ok (.invokevirtual 204, 3) := by decide +kernel
theorem dX4_trees_24 : decode cX4_trees 24 = .ok (.lstore 5, 2) := by decide +kernel
theorem dX4_trees_26 : decode cX4_trees 26 = .ok (.aload_n 0, 1) := by decide +kernel
theorem dX4_trees_27 : decode cX4_trees 27 = .ok (.lload_n 3, 1) := by decide +kernel
theorem dX4_trees_28 : decode cX4_trees 28 = .ok (.invokevirtual 204, 3) := by decide +kernel
theorem dX4_trees_31 : decode cX4_trees 31 = .ok (.lstore 7, 2) := by decide +kernel
theorem dX4_trees_33 : decode cX4_trees 33 = .ok (.lload 7, 2) := by decide +kernel
theorem dX4_trees_35 : decode cX4_trees 35 = .ok (.lload 5, 2) := by decide +kernel
theorem dX4_trees_37 : decode cX4_trees 37 = .ok (.lload_n 3, 1) := by decide +kernel
theorem dX4_trees_38 : decode cX4_trees 38 = .ok (.lrem, 1) := by decide +kernel
theorem dX4_trees_39 : decode cX4_trees 39 = .ok (.lsub, 1) := by decide +kernel
theorem dX4_trees_40 : decode cX4_trees 40 = .ok (.lload_n 3, 1) := by decide +kernel
theorem dX4_trees_41 : decode cX4_trees 41 = .ok (.ladd, 1) := by decide +kernel
theorem dX4_trees_42 : decode cX4_trees 42 = .ok (.lload_n 3, 1) := by decide +kernel
theorem dX4_trees_43 : decode cX4_trees 43 = .ok (.lrem, 1) := by decide +kernel
theorem dX4_trees_44 : decode cX4_trees 44 = .ok (.lload_n 1, 1) := by decide +kernel
theorem dX4_trees_45 : decode cX4_trees 45 = .ok (.lload_n 3, 1) := by decide +kernel
theorem dX4_trees_46 : decode cX4_trees 46 = .ok (.lrem, 1) := by decide +kernel
theorem dX4_trees_47 : decode cX4_trees 47 = .ok (.lload_n 3, 1) := by decide +kernel
theorem dX4_trees_48 : decode cX4_trees 48 = .ok (.ldc2_w 192, 3) := by decide +kernel
theorem dX4_trees_51 : decode cX4_trees 51 = .ok (.lsub, 1) := by decide +kernel
theorem dX4_trees_52 : decode cX4_trees 52 = .ok (.lload_n 3, 1) := by decide +kernel
theorem dX4_trees_53 : decode cX4_trees 53 = .ok (.invokestatic 194, 3) := by decide +kernel
theorem dX4_trees_56 : decode cX4_trees 56 = .ok (.lmul, 1) := by decide +kernel
theorem dX4_trees_57 : decode cX4_trees 57 = .ok (.lload_n 3, 1) := by decide +kernel
theorem dX4_trees_58 : decode cX4_trees 58 = .ok (.lrem, 1) := by decide +kernel
theorem dX4_trees_59 : decode cX4_trees 59 = .ok (.lstore 9, 2) := by decide +kernel
theorem dX4_trees_61 : decode cX4_trees 61 = .ok (.lload 5, 2) := by decide +kernel
theorem dX4_trees_63 : decode cX4_trees 63 = .ok (.lload_n 1, 1) := by decide +kernel
theorem dX4_trees_64 : decode cX4_trees 64 = .ok (.lload 9, 2) := by decide +kernel
theorem dX4_trees_66 : decode cX4_trees 66 = .ok (.lmul, 1) := by decide +kernel
theorem dX4_trees_67 : decode cX4_trees 67 = .ok (.ladd, 1) := by decide +kernel
theorem dX4_trees_68 : decode cX4_trees 68 = .ok (.lreturn, 1) := by decide +kernel
theorem dX4_treesBy_0 : decode cX4_treesBy 0 = .ok (.aload_n 0, 1) := by decide +kernel
theorem dX4_treesBy_1 : decode cX4_treesBy 1 = .ok (.getfield 115, 3) := by decide +kernel
theorem dX4_treesBy_4 : decode cX4_treesBy 4 = .ok (.iconst 1, 1) := by decide +kernel
theorem dX4_treesBy_5 : decode cX4_treesBy 5 = .ok (.isub, 1) := by decide +kernel
theorem dX4_treesBy_6 : decode cX4_treesBy 6 = .ok (.istore_n 3, 1) := by decide +kernel
theorem dX4_treesBy_7 : decode cX4_treesBy 7 = .ok (.iconst 0, 1) := by decide +kernel
theorem dX4_treesBy_8 : decode cX4_treesBy 8 = .ok (.istore 4, 2) := by decide +kernel
theorem dX4_treesBy_10 : decode cX4_treesBy 10 = .ok (.iload 4, 2) := by decide +kernel
theorem dX4_treesBy_12 : decode cX4_treesBy 12 = .ok (.sipush 900, 3) := by decide +kernel
theorem dX4_treesBy_15 : decode cX4_treesBy 15 = .ok (.if_icmp .ge 17, 3) := by decide +kernel
theorem dX4_treesBy_18 : decode cX4_treesBy 18 = .ok (.aload_n 0, 1) := by decide +kernel
theorem dX4_treesBy_19 : decode cX4_treesBy 19 = .ok (.getfield 80, 3) := by decide +kernel
theorem dX4_treesBy_22 : decode cX4_treesBy 22 = .ok (.iload 4, 2) := by decide +kernel
theorem dX4_treesBy_24 : decode cX4_treesBy 24 = .ok (.lconst 0, 1) := by decide +kernel
theorem dX4_treesBy_25 : decode cX4_treesBy 25 = .ok (.lastore, 1) := by decide +kernel
theorem dX4_treesBy_26 : decode cX4_treesBy 26 = .ok (.iinc 4 1, 3) := by decide +kernel
theorem dX4_treesBy_29 : decode cX4_treesBy 29 = .ok (.goto (-19), 3) := by decide +kernel
theorem dX4_treesBy_32 : decode cX4_treesBy 32 = .ok (.iconst 0, 1) := by decide +kernel
theorem dX4_treesBy_33 : decode cX4_treesBy 33 = .ok (.istore 4, 2) := by decide +kernel
theorem dX4_treesBy_35 : decode cX4_treesBy 35 = .ok (.iload 4, 2) := by decide +kernel
theorem dX4_treesBy_37 : decode cX4_treesBy 37 = .ok (.iload_n 3, 1) := by decide +kernel
theorem dX4_treesBy_38 : decode cX4_treesBy 38 = .ok (.if_icmp .ge 93, 3) := by decide +kernel
theorem dX4_treesBy_41 : decode cX4_treesBy 41 = .ok (.iconst 0, 1) := by decide +kernel
theorem dX4_treesBy_42 : decode cX4_treesBy 42 = .ok (.istore 5, 2) := by decide +kernel
theorem dX4_treesBy_44 : decode cX4_treesBy 44 = .ok (.iload 5, 2) := by decide +kernel
theorem dX4_treesBy_46 : decode cX4_treesBy 46 = .ok (.bipush 6, 2) := by decide +kernel
theorem dX4_treesBy_48 : decode cX4_treesBy 48 = .ok (.if_icmp .ge 77, 3) := by decide +kernel
theorem dX4_treesBy_51 : decode cX4_treesBy 51 = .ok (.iload 5, 2) := by decide +kernel
theorem dX4_treesBy_53 : decode cX4_treesBy 53 = .ok (.iconst 2, 1) := by decide +kernel
theorem dX4_treesBy_54 : decode cX4_treesBy 54 = .ok (.idiv, 1) := by decide +kernel
theorem dX4_treesBy_55 : decode cX4_treesBy 55 = .ok (.aload_n 0, 1) := by decide +kernel
theorem dX4_treesBy_56 : decode cX4_treesBy 56 = .ok (.getfield 22, 3) := by decide +kernel
theorem dX4_treesBy_59 : decode cX4_treesBy 59 = .ok (.iload 4, 2) := by decide +kernel
theorem dX4_treesBy_61 : decode cX4_treesBy 61 = .ok (.iaload, 1) := by decide +kernel
theorem dX4_treesBy_62 : decode cX4_treesBy 62 = .ok (.iconst 2, 1) := by decide +kernel
theorem dX4_treesBy_63 : decode cX4_treesBy 63 = .ok (.idiv, 1) := by decide +kernel
theorem dX4_treesBy_64 : decode cX4_treesBy 64 = .ok (.if_icmp .eq 55, 3) := by decide +kernel
theorem dX4_treesBy_67 : decode cX4_treesBy 67 = .ok (.aload_n 0, 1) := by decide +kernel
theorem dX4_treesBy_68 : decode cX4_treesBy 68 = .ok (.iload 4, 2) := by decide +kernel
theorem dX4_treesBy_70 : decode cX4_treesBy 70 = .ok (.iload 5, 2) := by decide +kernel
theorem dX4_treesBy_72 : decode cX4_treesBy 72 = .ok (.invokevirtual 189, 3) := by decide +kernel
theorem dX4_treesBy_75 : decode cX4_treesBy 75 = .ok (.istore 6, 2) := by decide +kernel
theorem dX4_treesBy_77 : decode cX4_treesBy 77 = .ok (.aload_n 0, 1) := by decide +kernel
theorem dX4_treesBy_78 : decode cX4_treesBy 78 = .ok (.getfield 80, 3) := by decide +kernel
theorem dX4_treesBy_81 : decode cX4_treesBy 81 = .ok (.bipush 30, 2) := by decide +kernel
theorem dX4_treesBy_83 : decode cX4_treesBy 83 = .ok (.iload 4, 2) := by decide +kernel
theorem dX4_treesBy_85 : decode cX4_treesBy 85 = .ok (.imul, 1) := by decide +kernel
theorem dX4_treesBy_86 : decode cX4_treesBy 86 = .ok (.iload 4, 2) := by decide +kernel
theorem dX4_treesBy_88 : decode cX4_treesBy 88 = .ok (.iadd, 1) := by decide +kernel
theorem dX4_treesBy_89 : decode cX4_treesBy 89 = .ok (.dup2, 1) := by decide +kernel
theorem dX4_treesBy_90 : decode cX4_treesBy 90 = .ok (.laload, 1) := by decide +kernel
theorem dX4_treesBy_91 : decode cX4_treesBy 91 = .ok (.lconst 1, 1) := by decide +kernel
theorem dX4_treesBy_92 : decode cX4_treesBy 92 = .ok (.ladd, 1) := by decide +kernel
theorem dX4_treesBy_93 : decode cX4_treesBy 93 = .ok (.lastore, 1) := by decide +kernel
theorem dX4_treesBy_94 : decode cX4_treesBy 94 = .ok (.iload 6, 2) := by decide +kernel
theorem dX4_treesBy_96 : decode cX4_treesBy 96 = .ok (.iload_n 3, 1) := by decide +kernel
theorem dX4_treesBy_97 : decode cX4_treesBy 97 = .ok (.if_icmp .ge 22, 3) := by decide +kernel
theorem dX4_treesBy_100 : decode cX4_treesBy 100 = .ok (.aload_n 0, 1) := by decide +kernel
theorem dX4_treesBy_101 : decode cX4_treesBy 101 = .ok (.getfield 80, 3) := by decide +kernel
theorem dX4_treesBy_104 : decode cX4_treesBy 104 = .ok (.bipush 30, 2) := by decide +kernel
theorem dX4_treesBy_106 : decode cX4_treesBy 106 = .ok (.iload 4, 2) := by decide +kernel
theorem dX4_treesBy_108 : decode cX4_treesBy 108 = .ok (.imul, 1) := by decide +kernel
theorem dX4_treesBy_109 : decode cX4_treesBy 109 = .ok (.iload 6, 2) := by decide +kernel
theorem dX4_treesBy_111 : decode cX4_treesBy 111 = .ok (.iadd, 1) := by decide +kernel
theorem dX4_treesBy_112 : decode cX4_treesBy 112 = .ok (.dup2, 1) := by decide +kernel
theorem dX4_treesBy_113 : decode cX4_treesBy 113 = .ok (.laload, 1) := by decide +kernel
theorem dX4_treesBy_114 : decode cX4_treesBy 114 = .ok (.lload_n 1, 1) := by decide +kernel
theorem dX4_treesBy_115 : decode cX4_treesBy 115 = .ok (.lconst 1, 1) := by decide +kernel
theorem dX4_treesBy_116 : decode cX4_treesBy 116 = .ok (.lsub, 1) := by decide +kernel
theorem dX4_treesBy_117 : decode cX4_treesBy 117 = .ok (.ladd, 1) := by decide +kernel
theorem dX4_treesBy_118 : decode cX4_treesBy 118 = .ok (.lastore, 1) := by decide +kernel
theorem dX4_treesBy_119 : decode cX4_treesBy 119 = .ok (.iinc 5 1, 3) := by decide +kernel
theorem dX4_treesBy_122 : decode cX4_treesBy 122 = .ok (.goto (-78), 3) := by decide +kernel
theorem dX4_treesBy_125 : decode cX4_treesBy 125 = .ok (.iinc 4 1, 3) := by decide +kernel
theorem dX4_treesBy_128 : decode cX4_treesBy 128 = .ok (.goto (-93), 3) := by decide +kernel
theorem dX4_treesBy_131 : decode cX4_treesBy 131 = .ok (.lconst 1, 1) := by decide +kernel
theorem dX4_treesBy_132 : decode cX4_treesBy 132 = .ok (.lstore 4, 2) := by decide +kernel
theorem dX4_treesBy_134 : decode cX4_treesBy 134 = .ok (.iconst 0, 1) := by decide +kernel
theorem dX4_treesBy_135 : decode cX4_treesBy 135 = .ok (.istore 6, 2) := by decide +kernel
theorem dX4_treesBy_137 : decode cX4_treesBy 137 = .ok (.iload 6, 2) := by decide +kernel
theorem dX4_treesBy_139 : decode cX4_treesBy 139 = .ok (.iload_n 3, 1) := by decide +kernel
theorem dX4_treesBy_140 : decode cX4_treesBy 140 = .ok (.if_icmp .ge 304, 3) := by decide +kernel
theorem dX4_treesBy_143 : decode cX4_treesBy 143 = .ok (.iload 6, 2) := by decide +kernel
theorem dX4_treesBy_145 : decode cX4_treesBy 145 = .ok (.istore 7, 2) := by decide +kernel
theorem dX4_treesBy_147 : decode cX4_treesBy 147 = .ok (.iload 7, 2) := by decide +kernel
theorem dX4_treesBy_149 : decode cX4_treesBy 149 = .ok (.iload_n 3, 1) := by decide +kernel
theorem dX4_treesBy_150 : decode cX4_treesBy 150 = .ok (.if_icmp .ge 29, 3) := by decide +kernel
theorem dX4_treesBy_153 : decode cX4_treesBy 153 = .ok (.aload_n 0, 1) := by decide +kernel
theorem dX4_treesBy_154 : decode cX4_treesBy 154 = .ok (.getfield 80, 3) := by decide +kernel
theorem dX4_treesBy_157 : decode cX4_treesBy 157 = .ok (.bipush 30, 2) := by decide +kernel
theorem dX4_treesBy_159 : decode cX4_treesBy 159 = .ok (.iload 7, 2) := by decide +kernel
theorem dX4_treesBy_161 : decode cX4_treesBy 161 = .ok (.imul, 1) := by decide +kernel
theorem dX4_treesBy_162 : decode cX4_treesBy 162 = .ok (.iload 6, 2) := by decide +kernel
theorem dX4_treesBy_164 : decode cX4_treesBy 164 = .ok (.iadd, 1) := by decide +kernel
theorem dX4_treesBy_165 : decode cX4_treesBy 165 = .ok (.laload, 1) := by decide +kernel
theorem dX4_treesBy_166 : decode cX4_treesBy 166 = .ok (.lload_n 1, 1) := by decide +kernel
theorem dX4_treesBy_167 : decode cX4_treesBy 167 = .ok (.lrem, 1) := by decide +kernel
theorem dX4_treesBy_168 : decode cX4_treesBy 168 = .ok (.lconst 0, 1) := by decide +kernel
theorem dX4_treesBy_169 : decode cX4_treesBy 169 = .ok (.lcmp, 1) := by decide +kernel
theorem dX4_treesBy_170 : decode cX4_treesBy 170 = .ok (.ifCond .ne 9, 3) := by decide +kernel
theorem dX4_treesBy_173 : decode cX4_treesBy 173 = .ok (.iinc 7 1, 3) := by decide +kernel
theorem dX4_treesBy_176 : decode cX4_treesBy 176 = .ok (.goto (-29), 3) := by decide +kernel
theorem dX4_treesBy_179 : decode cX4_treesBy 179 = .ok (.iload 7, 2) := by decide +kernel
theorem dX4_treesBy_181 : decode cX4_treesBy 181 = .ok (.iload_n 3, 1) := by decide +kernel
theorem dX4_treesBy_182 : decode cX4_treesBy 182 = .ok (.if_icmp .ne 5, 3) := by decide +kernel
theorem dX4_treesBy_185 : decode cX4_treesBy 185 = .ok (.lconst 0, 1) := by decide +kernel
theorem dX4_treesBy_186 : decode cX4_treesBy 186 = .ok (.lreturn, 1) := by decide +kernel
theorem dX4_treesBy_187 : decode cX4_treesBy 187 = .ok (.iconst 0, 1) := by decide +kernel
theorem dX4_treesBy_188 : decode cX4_treesBy 188 = .ok (.istore 8, 2) := by decide +kernel
theorem dX4_treesBy_190 : decode cX4_treesBy 190 = .ok (.iload 8, 2) := by decide +kernel
theorem dX4_treesBy_192 : decode cX4_treesBy 192 = .ok (.iload_n 3, 1) := by decide +kernel
theorem dX4_treesBy_193 : decode cX4_treesBy 193 = .ok (.if_icmp .ge 72, 3) := by decide +kernel
theorem dX4_treesBy_196 : decode cX4_treesBy 196 = .ok (.iload 7, 2) := by decide +kernel
theorem dX4_treesBy_198 : decode cX4_treesBy 198 = .ok (.iload 6, 2) := by decide +kernel
theorem dX4_treesBy_200 : decode cX4_treesBy 200 = .ok (.if_icmp .eq 65, 3) := by decide +kernel
theorem dX4_treesBy_203 : decode cX4_treesBy 203 = .ok (.aload_n 0, 1) := by decide +kernel
theorem dX4_treesBy_204 : decode cX4_treesBy 204 = .ok (.getfield 80, 3) := by decide +kernel
theorem dX4_treesBy_207 : decode cX4_treesBy 207 = .ok (.bipush 30, 2) := by decide +kernel
theorem dX4_treesBy_209 : decode cX4_treesBy 209 = .ok (.iload 7, 2) := by decide +kernel
theorem dX4_treesBy_211 : decode cX4_treesBy 211 = .ok (.imul, 1) := by decide +kernel
theorem dX4_treesBy_212 : decode cX4_treesBy 212 = .ok (.iload 8, 2) := by decide +kernel
theorem dX4_treesBy_214 : decode cX4_treesBy 214 = .ok (.iadd, 1) := by decide +kernel
theorem dX4_treesBy_215 : decode cX4_treesBy 215 = .ok (.laload, 1) := by decide +kernel
theorem dX4_treesBy_216 : decode cX4_treesBy 216 = .ok (.lstore 9, 2) := by decide +kernel
theorem dX4_treesBy_218 : decode cX4_treesBy 218 = .ok (.aload_n 0, 1) := by decide +kernel
theorem dX4_treesBy_219 : decode cX4_treesBy 219 = .ok (.getfield 80, 3) := by decide +kernel
theorem dX4_treesBy_222 : decode cX4_treesBy 222 = .ok (.bipush 30, 2) := by decide +kernel
theorem dX4_treesBy_224 : decode cX4_treesBy 224 = .ok (.iload 7, 2) := by decide +kernel
theorem dX4_treesBy_226 : decode cX4_treesBy 226 = .ok (.imul, 1) := by decide +kernel
theorem dX4_treesBy_227 : decode cX4_treesBy 227 = .ok (.iload 8, 2) := by decide +kernel
theorem dX4_treesBy_229 : decode cX4_treesBy 229 = .ok (.iadd, 1) := by decide +kernel
theorem dX4_treesBy_230 : decode cX4_treesBy 230 = .ok (.aload_n 0, 1) := by decide +kernel
theorem dX4_treesBy_231 : decode cX4_treesBy 231 = .ok (.getfield 80, 3) := by decide +kernel
theorem dX4_treesBy_234 : decode cX4_treesBy 234 = .ok (.bipush 30, 2) := by decide +kernel
theorem dX4_treesBy_236 : decode cX4_treesBy 236 = .ok (.iload 6, 2) := by decide +kernel
theorem dX4_treesBy_238 : decode cX4_treesBy 238 = .ok (.imul, 1) := by decide +kernel
theorem dX4_treesBy_239 : decode cX4_treesBy 239 = .ok (.iload 8, 2) := by decide +kernel
theorem dX4_treesBy_241 : decode cX4_treesBy 241 = .ok (.iadd, 1) := by decide +kernel
theorem dX4_treesBy_242 : decode cX4_treesBy 242 = .ok (.laload, 1) := by decide +kernel
theorem dX4_treesBy_243 : decode cX4_treesBy 243 = .ok (.lastore, 1) := by decide +kernel
theorem dX4_treesBy_244 : decode cX4_treesBy 244 = .ok (.aload_n 0, 1) := by decide +kernel
theorem dX4_treesBy_245 : decode cX4_treesBy 245 = .ok (.getfield 80, 3) := by decide +kernel
theorem dX4_treesBy_248 : decode cX4_treesBy 248 = .ok (.bipush 30, 2) := by decide +kernel
theorem dX4_treesBy_250 : decode cX4_treesBy 250 = .ok (.iload 6, 2) := by decide +kernel
theorem dX4_treesBy_252 : decode cX4_treesBy 252 = .ok (.imul, 1) := by decide +kernel
theorem dX4_treesBy_253 : decode cX4_treesBy 253 = .ok (.iload 8, 2) := by decide +kernel
theorem dX4_treesBy_255 : decode cX4_treesBy 255 = .ok (.iadd, 1) := by decide +kernel
theorem dX4_treesBy_256 : decode cX4_treesBy 256 = .ok (.lload 9, 2) := by decide +kernel
theorem dX4_treesBy_258 : decode cX4_treesBy 258 = .ok (.lastore, 1) := by decide +kernel
theorem dX4_treesBy_259 : decode cX4_treesBy 259 = .ok (.iinc 8 1, 3) := by decide +kernel
theorem dX4_treesBy_262 : decode cX4_treesBy 262 = .ok (.goto (-72), 3) := by decide +kernel
theorem dX4_treesBy_265 : decode cX4_treesBy 265 = .ok (.iload 7, 2) := by decide +kernel
theorem dX4_treesBy_267 : decode cX4_treesBy 267 = .ok (.iload 6, 2) := by decide +kernel
theorem dX4_treesBy_269 : decode cX4_treesBy 269 = .ok (.if_icmp .ne 8, 3) := by decide +kernel
theorem dX4_treesBy_272 : decode cX4_treesBy 272 = .ok (.lload 4, 2) := by decide +kernel
theorem dX4_treesBy_274 : decode cX4_treesBy 274 = .ok (.goto 9, 3) := by decide +kernel
theorem dX4_treesBy_277 : decode cX4_treesBy 277 = .ok (.lload_n 1, 1) := by decide +kernel
theorem dX4_treesBy_278 : decode cX4_treesBy 278 = .ok (.lload 4, 2) := by decide +kernel
theorem dX4_treesBy_280 : decode cX4_treesBy 280 = .ok (.lsub, 1) := by decide +kernel
theorem dX4_treesBy_281 : decode cX4_treesBy 281 = .ok (.lload_n 1, 1) := by decide +kernel
theorem dX4_treesBy_282 : decode cX4_treesBy 282 = .ok (.lrem, 1) := by decide +kernel
theorem dX4_treesBy_283 : decode cX4_treesBy 283 = .ok (.lstore 4, 2) := by decide +kernel
theorem dX4_treesBy_285 : decode cX4_treesBy 285 = .ok (.aload_n 0, 1) := by decide +kernel
theorem dX4_treesBy_286 : decode cX4_treesBy 286 = .ok (.getfield 80, 3) := by decide +kernel
theorem dX4_treesBy_289 : decode cX4_treesBy 289 = .ok (.bipush 30, 2) := by decide +kernel
theorem dX4_treesBy_291 : decode cX4_treesBy 291 = .ok (.iload 6, 2) := by decide +kernel
theorem dX4_treesBy_293 : decode cX4_treesBy 293 = .ok (.imul, 1) := by decide +kernel
theorem dX4_treesBy_294 : decode cX4_treesBy 294 = .ok (.iload 6, 2) := by decide +kernel
theorem dX4_treesBy_296 : decode cX4_treesBy 296 = .ok (.iadd, 1) := by decide +kernel
theorem dX4_treesBy_297 : decode cX4_treesBy 297 = .ok (.laload, 1) := by decide +kernel
theorem dX4_treesBy_298 : decode cX4_treesBy 298 = .ok (.lload_n 1, 1) := by decide +kernel
theorem dX4_treesBy_299 : decode cX4_treesBy 299 = .ok (.lrem, 1) := by decide +kernel
theorem dX4_treesBy_300 : decode cX4_treesBy 300 = .ok (.lstore 8, 2) := by decide +kernel
theorem dX4_treesBy_302 : decode cX4_treesBy 302 = .ok (.lload 4, 2) := by decide +kernel
theorem dX4_treesBy_304 : decode cX4_treesBy 304 = .ok (.lload 8, 2) := by decide +kernel
theorem dX4_treesBy_306 : decode cX4_treesBy 306 = .ok (.lmul, 1) := by decide +kernel
theorem dX4_treesBy_307 : decode cX4_treesBy 307 = .ok (.lload_n 1, 1) := by decide +kernel
theorem dX4_treesBy_308 : decode cX4_treesBy 308 = .ok (.lrem, 1) := by decide +kernel
theorem dX4_treesBy_309 : decode cX4_treesBy 309 = .ok (.lstore 4, 2) := by decide +kernel
theorem dX4_treesBy_311 : decode cX4_treesBy 311 = .ok (.lload 8, 2) := by decide +kernel
theorem dX4_treesBy_313 : decode cX4_treesBy 313 = .ok (.lload_n 1, 1) := by decide +kernel
theorem dX4_treesBy_314 : decode cX4_treesBy 314 = .ok (.ldc2_w 192, 3) := by decide +kernel
theorem dX4_treesBy_317 : decode cX4_treesBy 317 = .ok (.lsub, 1) := by decide +kernel
theorem dX4_treesBy_318 : decode cX4_treesBy 318 = .ok (.lload_n 1, 1) := by decide +kernel
theorem dX4_treesBy_319 : decode cX4_treesBy 319 = .ok (.invokestatic 194, 3) := by decide +kernel
theorem dX4_treesBy_322 : decode cX4_treesBy 322 = .ok (.lstore 10, 2) := by decide +kernel
theorem dX4_treesBy_324 : decode cX4_treesBy 324 = .ok (.iload 6, 2) := by decide +kernel
theorem dX4_treesBy_326 : decode cX4_treesBy 326 = .ok (.iconst 1, 1) := by decide +kernel
theorem dX4_treesBy_327 : decode cX4_treesBy 327 = .ok (.iadd, 1) := by decide +kernel
theorem dX4_treesBy_328 : decode cX4_treesBy 328 = .ok (.istore 12, 2) := by decide +kernel
theorem dX4_treesBy_330 : decode cX4_treesBy 330 = .ok (.iload 12, 2) := by decide +kernel
theorem dX4_treesBy_332 : decode cX4_treesBy 332 = .ok (.iload_n 3, 1) := by decide +kernel
theorem dX4_treesBy_333 : decode cX4_treesBy 333 = .ok (.if_icmp .ge 105, 3) := by decide +kernel
theorem dX4_treesBy_336 : decode cX4_treesBy 336 = .ok (.aload_n 0, 1) := by decide +kernel
theorem dX4_treesBy_337 : decode cX4_treesBy 337 = .ok (.getfield 80, 3) := by decide +kernel
theorem dX4_treesBy_340 : decode cX4_treesBy 340 = .ok (.bipush 30, 2) := by decide +kernel
theorem dX4_treesBy_342 : decode cX4_treesBy 342 = .ok (.iload 12, 2) := by decide +kernel
theorem dX4_treesBy_344 : decode cX4_treesBy 344 = .ok (.imul, 1) := by decide +kernel
theorem dX4_treesBy_345 : decode cX4_treesBy 345 = .ok (.iload 6, 2) := by decide +kernel
theorem dX4_treesBy_347 : decode cX4_treesBy 347 = .ok (.iadd, 1) := by decide +kernel
theorem dX4_treesBy_348 : decode cX4_treesBy 348 = .ok (.laload, 1) := by decide +kernel
theorem dX4_treesBy_349 : decode cX4_treesBy 349 = .ok (.lload_n 1, 1) := by decide +kernel
theorem dX4_treesBy_350 : decode cX4_treesBy 350 = .ok (.lrem, 1) := by decide +kernel
theorem dX4_treesBy_351 : decode cX4_treesBy 351 = .ok (.lload 10, 2) := by decide +kernel
theorem dX4_treesBy_353 : decode cX4_treesBy 353 = .ok (.lmul, 1) := by decide +kernel
theorem dX4_treesBy_354 : decode cX4_treesBy 354 = .ok (.lload_n 1, 1) := by decide +kernel
theorem dX4_treesBy_355 : decode cX4_treesBy 355 = .ok (.lrem, 1) := by decide +kernel
theorem dX4_treesBy_356 : decode cX4_treesBy 356 = .ok (.lstore 13, 2) := by decide +kernel
theorem dX4_treesBy_358 : decode cX4_treesBy 358 = .ok (.iload 6, 2) := by decide +kernel
theorem dX4_treesBy_360 : decode cX4_treesBy 360 = .ok (.istore 15, 2) := by decide +kernel
theorem dX4_treesBy_362 : decode cX4_treesBy 362 = .ok (.iload 15, 2) := by decide +kernel
theorem dX4_treesBy_364 : decode cX4_treesBy 364 = .ok (.iload_n 3, 1) := by decide +kernel
theorem dX4_treesBy_365 : decode cX4_treesBy 365 = .ok (.if_icmp .ge 67, 3) := by decide +kernel
theorem dX4_treesBy_368 : decode cX4_treesBy 368 = .ok (.lload 13, 2) := by decide +kernel
theorem dX4_treesBy_370 : decode cX4_treesBy 370 = .ok (.lconst 0, 1) := by decide +kernel
theorem dX4_treesBy_371 : decode cX4_treesBy 371 = .ok (.lcmp, 1) := by decide +kernel
theorem dX4_treesBy_372 : decode cX4_treesBy 372 = .ok (.ifCond .eq 60, 3) := by decide +kernel
theorem dX4_treesBy_375 : decode cX4_treesBy 375 = .ok (.aload_n 0, 1) := by decide +kernel
theorem dX4_treesBy_376 : decode cX4_treesBy 376 = .ok (.getfield 80, 3) := by decide +kernel
theorem dX4_treesBy_379 : decode cX4_treesBy 379 = .ok (.bipush 30, 2) := by decide +kernel
theorem dX4_treesBy_381 : decode cX4_treesBy 381 = .ok (.iload 12, 2) := by decide +kernel
theorem dX4_treesBy_383 : decode cX4_treesBy 383 = .ok (.imul, 1) := by decide +kernel
theorem dX4_treesBy_384 : decode cX4_treesBy 384 = .ok (.iload 15, 2) := by decide +kernel
theorem dX4_treesBy_386 : decode cX4_treesBy 386 = .ok (.iadd, 1) := by decide +kernel
theorem dX4_treesBy_387 : decode cX4_treesBy 387 = .ok (.aload_n 0, 1) := by decide +kernel
theorem dX4_treesBy_388 : decode cX4_treesBy 388 = .ok (.getfield 80, 3) := by decide +kernel
theorem dX4_treesBy_391 : decode cX4_treesBy 391 = .ok (.bipush 30, 2) := by decide +kernel
theorem dX4_treesBy_393 : decode cX4_treesBy 393 = .ok (.iload 12, 2) := by decide +kernel
theorem dX4_treesBy_395 : decode cX4_treesBy 395 = .ok (.imul, 1) := by decide +kernel
theorem dX4_treesBy_396 : decode cX4_treesBy 396 = .ok (.iload 15, 2) := by decide +kernel
theorem dX4_treesBy_398 : decode cX4_treesBy 398 = .ok (.iadd, 1) := by decide +kernel
theorem dX4_treesBy_399 : decode cX4_treesBy 399 = .ok (.laload, 1) := by decide +kernel
theorem dX4_treesBy_400 : decode cX4_treesBy 400 = .ok (.lload_n 1, 1) := by decide +kernel
theorem dX4_treesBy_401 : decode cX4_treesBy 401 = .ok (.lrem, 1) := by decide +kernel
theorem dX4_treesBy_402 : decode cX4_treesBy 402 = .ok (.lload_n 1, 1) := by decide +kernel
theorem dX4_treesBy_403 : decode cX4_treesBy 403 = .ok (.lload 13, 2) := by decide +kernel
theorem dX4_treesBy_405 : decode cX4_treesBy 405 = .ok (.lsub, 1) := by decide +kernel
theorem dX4_treesBy_406 : decode cX4_treesBy 406 = .ok (.aload_n 0, 1) := by decide +kernel
theorem dX4_treesBy_407 : decode cX4_treesBy 407 = .ok (.getfield 80, 3) := by decide +kernel
theorem dX4_treesBy_410 : decode cX4_treesBy 410 = .ok (.bipush 30, 2) := by decide +kernel
theorem dX4_treesBy_412 : decode cX4_treesBy 412 = .ok (.iload 6, 2) := by decide +kernel
theorem dX4_treesBy_414 : decode cX4_treesBy 414 = .ok (.imul, 1) := by decide +kernel
theorem dX4_treesBy_415 : decode cX4_treesBy 415 = .ok (.iload 15, 2) := by decide +kernel
theorem dX4_treesBy_417 : decode cX4_treesBy 417 = .ok (.iadd, 1) := by decide +kernel
theorem dX4_treesBy_418 : decode cX4_treesBy 418 = .ok (.laload, 1) := by decide +kernel
theorem dX4_treesBy_419 : decode cX4_treesBy 419 = .ok (.lload_n 1, 1) := by decide +kernel
theorem dX4_treesBy_420 : decode cX4_treesBy 420 = .ok (.lrem, 1) := by decide +kernel
theorem dX4_treesBy_421 : decode cX4_treesBy 421 = .ok (.lmul, 1) := by decide +kernel
theorem dX4_treesBy_422 : decode cX4_treesBy 422 = .ok (.ladd, 1) := by decide +kernel
theorem dX4_treesBy_423 : decode cX4_treesBy 423 = .ok (.lload_n 1, 1) := by decide +kernel
theorem dX4_treesBy_424 : decode cX4_treesBy 424 = .ok (.lrem, 1) := by decide +kernel
theorem dX4_treesBy_425 : decode cX4_treesBy 425 = .ok (.lastore, 1) := by decide +kernel
theorem dX4_treesBy_426 : decode cX4_treesBy 426 = .ok (.iinc 15 1, 3) := by decide +kernel
theorem dX4_treesBy_429 : decode cX4_treesBy 429 = .ok (.goto (-67), 3) := by decide +kernel
theorem dX4_treesBy_432 : decode cX4_treesBy 432 = .ok (.iinc 12 1, 3) := by decide +kernel
theorem dX4_treesBy_435 : decode cX4_treesBy 435 = .ok (.goto (-105), 3) := by decide +kernel
theorem dX4_treesBy_438 : decode cX4_treesBy 438 = .ok (.iinc 6 1, 3) := by decide +kernel
theorem dX4_treesBy_441 : decode cX4_treesBy 441 = .ok (.goto (-304), 3) := by decide +kernel
theorem dX4_treesBy_444 : decode cX4_treesBy 444 = .ok (.lload 4, 2) := by decide +kernel
theorem dX4_treesBy_446 : decode cX4_treesBy 446 = .ok (.lreturn, 1) := by decide +kernel
theorem dX4_power_0 : decode cX4_power 0 = .ok (.lconst 1, 1) := by decide +kernel
theorem dX4_power_1 : decode cX4_power 1 = .ok (.lstore 6, 2) := by decide +kernel
theorem dX4_power_3 : decode cX4_power 3 = .ok (.lload_n 0, 1) := by decide +kernel
theorem dX4_power_4 : decode cX4_power 4 = .ok (.lstore 8, 2) := by decide +kernel
theorem dX4_power_6 : decode cX4_power 6 = .ok (.lload_n 2, 1) := by decide +kernel
theorem dX4_power_7 : decode cX4_power 7 = .ok (.lstore 10, 2) := by decide +kernel
theorem dX4_power_9 : decode cX4_power 9 = .ok (.lload 10, 2) := by decide +kernel
theorem dX4_power_11 : decode cX4_power 11 = .ok (.lconst 0, 1) := by decide +kernel
theorem dX4_power_12 : decode cX4_power 12 = .ok (.lcmp, 1) := by decide +kernel
theorem dX4_power_13 : decode cX4_power 13 = .ok (.ifCond .le 46, 3) := by decide +kernel
theorem dX4_power_16 : decode cX4_power 16 = .ok (.lload 10, 2) := by decide +kernel
theorem dX4_power_18 : decode cX4_power 18 = .ok (.lconst 1, 1) := by decide +kernel
theorem dX4_power_19 : decode cX4_power 19 = .ok (.land, 1) := by decide +kernel
theorem dX4_power_20 : decode cX4_power 20 = .ok (.lconst 1, 1) := by decide +kernel
theorem dX4_power_21 : decode cX4_power 21 = .ok (.lcmp, 1) := by decide +kernel
theorem dX4_power_22 : decode cX4_power 22 = .ok (.ifCond .ne 14, 3) := by decide +kernel
theorem dX4_power_25 : decode cX4_power 25 = .ok (.lload 6, 2) := by decide +kernel
theorem dX4_power_27 : decode cX4_power 27 = .ok (.lload 8, 2) := by decide +kernel
theorem dX4_power_29 : decode cX4_power 29 = .ok (.lmul, 1) := by decide +kernel
theorem dX4_power_30 : decode cX4_power 30 = .ok (.lload 4, 2) := by decide +kernel
theorem dX4_power_32 : decode cX4_power 32 = .ok (.lrem, 1) := by decide +kernel
theorem dX4_power_33 : decode cX4_power 33 = .ok (.goto 5, 3) := by decide +kernel
theorem dX4_power_36 : decode cX4_power 36 = .ok (.lload 6, 2) := by decide +kernel
theorem dX4_power_38 : decode cX4_power 38 = .ok (.lstore 6, 2) := by decide +kernel
theorem dX4_power_40 : decode cX4_power 40 = .ok (.lload 8, 2) := by decide +kernel
theorem dX4_power_42 : decode cX4_power 42 = .ok (.lload 8, 2) := by decide +kernel
theorem dX4_power_44 : decode cX4_power 44 = .ok (.lmul, 1) := by decide +kernel
theorem dX4_power_45 : decode cX4_power 45 = .ok (.lload 4, 2) := by decide +kernel
theorem dX4_power_47 : decode cX4_power 47 = .ok (.lrem, 1) := by decide +kernel
theorem dX4_power_48 : decode cX4_power 48 = .ok (.lstore 8, 2) := by decide +kernel
theorem dX4_power_50 : decode cX4_power 50 = .ok (.lload 10, 2) := by decide +kernel
theorem dX4_power_52 : decode cX4_power 52 = .ok (.iconst 1, 1) := by decide +kernel
theorem dX4_power_53 : decode cX4_power 53 = .ok (.lshr, 1) := by decide +kernel
theorem dX4_power_54 : decode cX4_power 54 = .ok (.lstore 10, 2) := by decide +kernel
theorem dX4_power_56 : decode cX4_power 56 = .ok (.goto (-47), 3) := by decide +kernel
theorem dX4_power_59 : decode cX4_power 59 = .ok (.lload 6, 2) := by decide +kernel
theorem dX4_power_61 : decode cX4_power 61 = .ok (.lreturn, 1) := by decide +kernel
theorem dX4_lay_0 : decode cX4_lay 0 = .ok (.aload_n 0, 1) := by decide +kernel
theorem dX4_lay_1 : decode cX4_lay 1 = .ok (.iload_n 1, 1) := by decide +kernel
theorem dX4_lay_2 : decode cX4_lay 2 = .ok (.invokevirtual 185, 3) := by decide +kernel
theorem dX4_lay_5 : decode cX4_lay 5 = .ok (.ifCond .ne 5, 3) := by decide +kernel
theorem dX4_lay_8 : decode cX4_lay 8 = .ok (.iconst (-1), 1) := by decide +kernel
theorem dX4_lay_9 : decode cX4_lay 9 = .ok (.ireturn, 1) := by decide +kernel
theorem dX4_lay_10 : decode cX4_lay 10 = .ok (.iconst 0, 1) := by decide +kernel
theorem dX4_lay_11 : decode cX4_lay 11 = .ok (.istore_n 2, 1) := by decide +kernel
theorem dX4_lay_12 : decode cX4_lay 12 = .ok (.iload_n 2, 1) := by decide +kernel
theorem dX4_lay_13 : decode cX4_lay 13 = .ok (.bipush 30, 2) := by decide +kernel
theorem dX4_lay_15 : decode cX4_lay 15 = .ok (.if_icmp .ge 16, 3) := by decide +kernel
theorem dX4_lay_18 : decode cX4_lay 18 = .ok (.aload_n 0, 1) := by decide +kernel
theorem dX4_lay_19 : decode cX4_lay 19 = .ok (.getfield 25, 3) := by decide +kernel
theorem dX4_lay_22 : decode cX4_lay 22 = .ok (.iload_n 2, 1) := by decide +kernel
theorem dX4_lay_23 : decode cX4_lay 23 = .ok (.iconst 0, 1) := by decide +kernel
theorem dX4_lay_24 : decode cX4_lay 24 = .ok (.bastore, 1) := by decide +kernel
theorem dX4_lay_25 : decode cX4_lay 25 = .ok (.iinc 2 1, 3) := by decide +kernel
theorem dX4_lay_28 : decode cX4_lay 28 = .ok (.goto (-16), 3) := by decide +kernel
theorem dX4_lay_31 : decode cX4_lay 31 = .ok (.aload_n 0, 1) := by decide +kernel
theorem dX4_lay_32 : decode cX4_lay 32 = .ok (.getfield 25, 3) := by decide +kernel
theorem dX4_lay_35 : decode cX4_lay 35 = .ok (.iload_n 1, 1) := by decide +kernel
theorem dX4_lay_36 : decode cX4_lay 36 = .ok (.iconst 1, 1) := by decide +kernel
theorem dX4_lay_37 : decode cX4_lay 37 = .ok (.bastore, 1) := by decide +kernel
theorem dX4_lay_38 : decode cX4_lay 38 = .ok (.aload_n 0, 1) := by decide +kernel
theorem dX4_lay_39 : decode cX4_lay 39 = .ok (.getfield 29, 3) := by decide +kernel
theorem dX4_lay_42 : decode cX4_lay 42 = .ok (.iload_n 1, 1) := by decide +kernel
theorem dX4_lay_43 : decode cX4_lay 43 = .ok (.iconst 0, 1) := by decide +kernel
theorem dX4_lay_44 : decode cX4_lay 44 = .ok (.iastore, 1) := by decide +kernel
theorem dX4_lay_45 : decode cX4_lay 45 = .ok (.aload_n 0, 1) := by decide +kernel
theorem dX4_lay_46 : decode cX4_lay 46 = .ok (.getfield 32, 3) := by decide +kernel
theorem dX4_lay_49 : decode cX4_lay 49 = .ok (.iload_n 1, 1) := by decide +kernel
theorem dX4_lay_50 : decode cX4_lay 50 = .ok (.iconst 0, 1) := by decide +kernel
theorem dX4_lay_51 : decode cX4_lay 51 = .ok (.iastore, 1) := by decide +kernel
theorem dX4_lay_52 : decode cX4_lay 52 = .ok (.aload_n 0, 1) := by decide +kernel
theorem dX4_lay_53 : decode cX4_lay 53 = .ok (.getfield 35, 3) := by decide +kernel
theorem dX4_lay_56 : decode cX4_lay 56 = .ok (.iload_n 1, 1) := by decide +kernel
theorem dX4_lay_57 : decode cX4_lay 57 = .ok (.aload_n 0, 1) := by decide +kernel
theorem dX4_lay_58 : decode cX4_lay 58 = .ok (.getfield 22, 3) := by decide +kernel
theorem dX4_lay_61 : decode cX4_lay 61 = .ok (.iload_n 1, 1) := by decide +kernel
theorem dX4_lay_62 : decode cX4_lay 62 = .ok (.iaload, 1) := by decide +kernel
theorem dX4_lay_63 : decode cX4_lay 63 = .ok (.invokestatic 150, 3) := by decide +kernel
theorem dX4_lay_66 : decode cX4_lay 66 = .ok (.iastore, 1) := by decide +kernel
theorem dX4_lay_67 : decode cX4_lay 67 = .ok (.aload_n 0, 1) := by decide +kernel
theorem dX4_lay_68 : decode cX4_lay 68 = .ok (.getfield 38, 3) := by decide +kernel
theorem dX4_lay_71 : decode cX4_lay 71 = .ok (.iload_n 1, 1) := by decide +kernel
theorem dX4_lay_72 : decode cX4_lay 72 = .ok (.aload_n 0, 1) := by decide +kernel
theorem dX4_lay_73 : decode cX4_lay 73 = .ok (.getfield 22, 3) := by decide +kernel
theorem dX4_lay_76 : decode cX4_lay 76 = .ok (.iload_n 1, 1) := by decide +kernel
theorem dX4_lay_77 : decode cX4_lay 77 = .ok (.iaload, 1) := by decide +kernel
theorem dX4_lay_78 : decode cX4_lay 78 = .ok (.invokestatic 154, 3) := by decide +kernel
theorem dX4_lay_81 : decode cX4_lay 81 = .ok (.iastore, 1) := by decide +kernel
theorem dX4_lay_82 : decode cX4_lay 82 = .ok (.aload_n 0, 1) := by decide +kernel
theorem dX4_lay_83 : decode cX4_lay 83 = .ok (.iconst 1, 1) := by decide +kernel
theorem dX4_lay_84 : decode cX4_lay 84 = .ok (.putfield 111, 3) := by decide +kernel
theorem dX4_lay_87 : decode cX4_lay 87 = .ok (.iconst 0, 1) := by decide +kernel
theorem dX4_lay_88 : decode cX4_lay 88 = .ok (.ireturn, 1) := by decide +kernel
theorem dX4_grow_0 : decode cX4_grow 0 = .ok (.aload_n 0, 1) := by decide +kernel
theorem dX4_grow_1 : decode cX4_grow 1 = .ok (.iload_n 1, 1) := by decide +kernel
theorem dX4_grow_2 : decode cX4_grow 2 = .ok (.invokevirtual 185, 3) := by decide +kernel
theorem dX4_grow_5 : decode cX4_grow 5 = .ok (.ifCond .eq 12, 3) := by decide +kernel
theorem dX4_grow_8 : decode cX4_grow 8 = .ok (.iload_n 2, 1) := by decide +kernel
theorem dX4_grow_9 : decode cX4_grow 9 = .ok (.ifCond .lt 8, 3) := by decide +kernel
theorem dX4_grow_12 : decode cX4_grow 12 = .ok (.iload_n 2, 1) := by decide +kernel
theorem dX4_grow_13 : decode cX4_grow 13 = .ok (.iconst 3, 1) := by decide +kernel
theorem dX4_grow_14 : decode cX4_grow 14 = .ok (.if_icmp .le 5, 3) := by decide +kernel
theorem dX4_grow_17 : decode cX4_grow 17 = .ok (.iconst (-1), 1) := by decide +kernel
theorem dX4_grow_18 : decode cX4_grow 18 = .ok (.ireturn, 1) := by decide +kernel
theorem dX4_grow_19 : decode cX4_grow 19 = .ok (.aload_n 0, 1) := by decide +kernel
theorem dX4_grow_20 : decode cX4_grow 20 = .ok (.getfield 25, 3) := by decide +kernel
theorem dX4_grow_23 : decode cX4_grow 23 = .ok (.iload_n 1, 1) := by decide +kernel
theorem dX4_grow_24 : decode cX4_grow 24 = .ok (.baload, 1) := by decide +kernel
theorem dX4_grow_25 : decode cX4_grow 25 = .ok (.ifCond .ne 6, 3) := by decide +kernel
theorem dX4_grow_28 : decode cX4_grow 28 = .ok (.bipush (-2), 2) := by decide +kernel
theorem dX4_grow_30 : decode cX4_grow 30 = .ok (.ireturn, 1) := by decide +kernel
theorem dX4_grow_31 : decode cX4_grow 31 = .ok (.aload_n 0, 1) := by decide +kernel
theorem dX4_grow_32 : decode cX4_grow 32 = .ok (.iload_n 1, 1) := by decide +kernel
theorem dX4_grow_33 : decode cX4_grow 33 = .ok (.iload_n 2, 1) := by decide +kernel
theorem dX4_grow_34 : decode cX4_grow 34 = .ok (.aload_n 0, 1) := by decide +kernel
theorem dX4_grow_35 : decode cX4_grow 35 = .ok (.getfield 35, 3) := by decide +kernel
theorem dX4_grow_38 : decode cX4_grow 38 = .ok (.iload_n 1, 1) := by decide +kernel
theorem dX4_grow_39 : decode cX4_grow 39 = .ok (.iaload, 1) := by decide +kernel
theorem dX4_grow_40 : decode cX4_grow 40 = .ok (.aload_n 0, 1) := by decide +kernel
theorem dX4_grow_41 : decode cX4_grow 41 = .ok (.getfield 38, 3) := by decide +kernel
theorem dX4_grow_44 : decode cX4_grow 44 = .ok (.iload_n 1, 1) := by decide +kernel
theorem dX4_grow_45 : decode cX4_grow 45 = .ok (.iaload, 1) := by decide +kernel
theorem dX4_grow_46 : decode cX4_grow 46 = .ok (.invokestatic 176, 3) := by decide +kernel
theorem dX4_grow_49 : decode cX4_grow 49 = .ok (.invokevirtual 189, 3) := by decide +kernel
theorem dX4_grow_52 : decode cX4_grow 52 = .ok (.istore_n 3, 1) := by decide +kernel
theorem dX4_grow_53 : decode cX4_grow 53 = .ok (.aload_n 0, 1) := by decide +kernel
theorem dX4_grow_54 : decode cX4_grow 54 = .ok (.getfield 25, 3) := by decide +kernel
theorem dX4_grow_57 : decode cX4_grow 57 = .ok (.iload_n 3, 1) := by decide +kernel
theorem dX4_grow_58 : decode cX4_grow 58 = .ok (.baload, 1) := by decide +kernel
theorem dX4_grow_59 : decode cX4_grow 59 = .ok (.ifCond .eq 6, 3) := by decide +kernel
theorem dX4_grow_62 : decode cX4_grow 62 = .ok (.bipush (-3), 2) := by decide +kernel
theorem dX4_grow_64 : decode cX4_grow 64 = .ok (.ireturn, 1) := by decide +kernel
theorem dX4_grow_65 : decode cX4_grow 65 = .ok (.aload_n 0, 1) := by decide +kernel
theorem dX4_grow_66 : decode cX4_grow 66 = .ok (.getfield 29, 3) := by decide +kernel
theorem dX4_grow_69 : decode cX4_grow 69 = .ok (.iload_n 1, 1) := by decide +kernel
theorem dX4_grow_70 : decode cX4_grow 70 = .ok (.iaload, 1) := by decide +kernel
theorem dX4_grow_71 : decode cX4_grow 71 = .ok (.iload_n 2, 1) := by decide +kernel
theorem dX4_grow_72 : decode cX4_grow 72 = .ok (.invokestatic 208, 3) := by decide +kernel
theorem dX4_grow_75 : decode cX4_grow 75 = .ok (.iadd, 1) := by decide +kernel
theorem dX4_grow_76 : decode cX4_grow 76 = .ok (.istore 4, 2) := by decide +kernel
theorem dX4_grow_78 : decode cX4_grow 78 = .ok (.aload_n 0, 1) := by decide +kernel
theorem dX4_grow_79 : decode cX4_grow 79 = .ok (.getfield 32, 3) := by decide +kernel
theorem dX4_grow_82 : decode cX4_grow 82 = .ok (.iload_n 1, 1) := by decide +kernel
theorem dX4_grow_83 : decode cX4_grow 83 = .ok (.iaload, 1) := by decide +kernel
theorem dX4_grow_84 : decode cX4_grow 84 = .ok (.iload_n 2, 1) := by decide +kernel
theorem dX4_grow_85 : decode cX4_grow 85 = .ok (.invokestatic 211, 3) := by decide +kernel
theorem dX4_grow_88 : decode cX4_grow 88 = .ok (.iadd, 1) := by decide +kernel
theorem dX4_grow_89 : decode cX4_grow 89 = .ok (.istore 5, 2) := by decide +kernel
theorem dX4_grow_91 : decode cX4_grow 91 = .ok (.iconst 0, 1) := by decide +kernel
theorem dX4_grow_92 : decode cX4_grow 92 = .ok (.istore 6, 2) := by decide +kernel
theorem dX4_grow_94 : decode cX4_grow 94 = .ok (.iload 6, 2) := by decide +kernel
theorem dX4_grow_96 : decode cX4_grow 96 = .ok (.aload_n 0, 1) := by decide +kernel
theorem dX4_grow_97 : decode cX4_grow 97 = .ok (.getfield 115, 3) := by decide +kernel
theorem dX4_grow_100 : decode cX4_grow 100 = .ok (.if_icmp .ge 49, 3) := by decide +kernel
theorem dX4_grow_103 : decode cX4_grow 103 = .ok (.aload_n 0, 1) := by decide +kernel
theorem dX4_grow_104 : decode cX4_grow 104 = .ok (.getfield 25, 3) := by decide +kernel
theorem dX4_grow_107 : decode cX4_grow 107 = .ok (.iload 6, 2) := by decide +kernel
theorem dX4_grow_109 : decode cX4_grow 109 = .ok (.baload, 1) := by decide +kernel
theorem dX4_grow_110 : decode cX4_grow 110 = .ok (.ifCond .eq 33, 3) := by decide +kernel
theorem dX4_grow_113 : decode cX4_grow 113 = .ok (.aload_n 0, 1) := by decide +kernel
theorem dX4_grow_114 : decode cX4_grow 114 = .ok (.getfield 29, 3) := by decide +kernel
theorem dX4_grow_117 : decode cX4_grow 117 = .ok (.iload 6, 2) := by decide +kernel
theorem dX4_grow_119 : decode cX4_grow 119 = .ok (.iaload, 1) := by decide +kernel
theorem dX4_grow_120 : decode cX4_grow 120 = .ok (.iload 4, 2) := by decide +kernel
theorem dX4_grow_122 : decode cX4_grow 122 = .ok (.if_icmp .ne 21, 3) := by decide +kernel
theorem dX4_grow_125 : decode cX4_grow 125 = .ok (.aload_n 0, 1) := by decide +kernel
theorem dX4_grow_126 : decode cX4_grow 126 = .ok (.getfield 32, 3) := by decide +kernel
theorem dX4_grow_129 : decode cX4_grow 129 = .ok (.iload 6, 2) := by decide +kernel
theorem dX4_grow_131 : decode cX4_grow 131 = .ok (.iaload, 1) := by decide +kernel
theorem dX4_grow_132 : decode cX4_grow 132 = .ok (.iload 5, 2) := by decide +kernel
theorem dX4_grow_134 : decode cX4_grow 134 = .ok (.if_icmp .ne 9, 3) := by decide +kernel
theorem dX4_grow_137 : decode cX4_grow 137 = .ok (.bipush (-10), 2) := by decide +kernel
theorem dX4_grow_139 : decode cX4_grow 139 = .ok (.iload 6, 2) := by decide +kernel
theorem dX4_grow_141 : decode cX4_grow 141 = .ok (.isub, 1) := by decide +kernel
theorem dX4_grow_142 : decode cX4_grow 142 = .ok (.ireturn, 1) := by decide +kernel
theorem dX4_grow_143 : decode cX4_grow 143 = .ok (.iinc 6 1, 3) := by decide +kernel
theorem dX4_grow_146 : decode cX4_grow 146 = .ok (.goto (-52), 3) := by decide +kernel
theorem dX4_grow_149 : decode cX4_grow 149 = .ok (.aload_n 0, 1) := by decide +kernel
theorem dX4_grow_150 : decode cX4_grow 150 = .ok (.getfield 25, 3) := by decide +kernel
theorem dX4_grow_153 : decode cX4_grow 153 = .ok (.iload_n 3, 1) := by decide +kernel
theorem dX4_grow_154 : decode cX4_grow 154 = .ok (.iconst 1, 1) := by decide +kernel
theorem dX4_grow_155 : decode cX4_grow 155 = .ok (.bastore, 1) := by decide +kernel
theorem dX4_grow_156 : decode cX4_grow 156 = .ok (.aload_n 0, 1) := by decide +kernel
theorem dX4_grow_157 : decode cX4_grow 157 = .ok (.getfield 29, 3) := by decide +kernel
theorem dX4_grow_160 : decode cX4_grow 160 = .ok (.iload_n 3, 1) := by decide +kernel
theorem dX4_grow_161 : decode cX4_grow 161 = .ok (.iload 4, 2) := by decide +kernel
theorem dX4_grow_163 : decode cX4_grow 163 = .ok (.iastore, 1) := by decide +kernel
theorem dX4_grow_164 : decode cX4_grow 164 = .ok (.aload_n 0, 1) := by decide +kernel
theorem dX4_grow_165 : decode cX4_grow 165 = .ok (.getfield 32, 3) := by decide +kernel
theorem dX4_grow_168 : decode cX4_grow 168 = .ok (.iload_n 3, 1) := by decide +kernel
theorem dX4_grow_169 : decode cX4_grow 169 = .ok (.iload 5, 2) := by decide +kernel
theorem dX4_grow_171 : decode cX4_grow 171 = .ok (.iastore, 1) := by decide +kernel
theorem dX4_grow_172 : decode cX4_grow 172 = .ok (.aload_n 0, 1) := by decide +kernel
theorem dX4_grow_173 : decode cX4_grow 173 = .ok (.getfield 35, 3) := by decide +kernel
theorem dX4_grow_176 : decode cX4_grow 176 = .ok (.iload_n 3, 1) := by decide +kernel
theorem dX4_grow_177 : decode cX4_grow 177 = .ok (.aload_n 0, 1) := by decide +kernel
theorem dX4_grow_178 : decode cX4_grow 178 = .ok (.iload_n 1, 1) := by decide +kernel
theorem dX4_grow_179 : decode cX4_grow 179 = .ok (.iload_n 2, 1) := by decide +kernel
theorem dX4_grow_180 : decode cX4_grow 180 = .ok (.aload_n 0, 1) := by decide +kernel
theorem dX4_grow_181 : decode cX4_grow 181 = .ok (.getfield 35, 3) := by decide +kernel
theorem dX4_grow_184 : decode cX4_grow 184 = .ok (.iload_n 1, 1) := by decide +kernel
theorem dX4_grow_185 : decode cX4_grow 185 = .ok (.iaload, 1) := by decide +kernel
theorem dX4_grow_186 : decode cX4_grow 186 = .ok (.aload_n 0, 1) := by decide +kernel
theorem dX4_grow_187 : decode cX4_grow 187 = .ok (.getfield 38, 3) := by decide +kernel
theorem dX4_grow_190 : decode cX4_grow 190 = .ok (.iload_n 1, 1) := by decide +kernel
theorem dX4_grow_191 : decode cX4_grow 191 = .ok (.iaload, 1) := by decide +kernel
theorem dX4_grow_192 : decode cX4_grow 192 = .ok (.invokevirtual 214, 3) := by decide +kernel
theorem dX4_grow_195 : decode cX4_grow 195 = .ok (.iastore, 1) := by decide +kernel
theorem dX4_grow_196 : decode cX4_grow 196 = .ok (.aload_n 0, 1) := by decide +kernel
theorem dX4_grow_197 : decode cX4_grow 197 = .ok (.getfield 38, 3) := by decide +kernel
theorem dX4_grow_200 : decode cX4_grow 200 = .ok (.iload_n 3, 1) := by decide +kernel
theorem dX4_grow_201 : decode cX4_grow 201 = .ok (.aload_n 0, 1) := by decide +kernel
theorem dX4_grow_202 : decode cX4_grow 202 = .ok (.iload_n 1, 1) := by decide +kernel
theorem dX4_grow_203 : decode cX4_grow 203 = .ok (.iload_n 2, 1) := by decide +kernel
theorem dX4_grow_204 : decode cX4_grow 204 = .ok (.aload_n 0, 1) := by decide +kernel
theorem dX4_grow_205 : decode cX4_grow 205 = .ok (.getfield 35, 3) := by decide +kernel
theorem dX4_grow_208 : decode cX4_grow 208 = .ok (.iload_n 1, 1) := by decide +kernel
theorem dX4_grow_209 : decode cX4_grow 209 = .ok (.iaload, 1) := by decide +kernel
theorem dX4_grow_210 : decode cX4_grow 210 = .ok (.aload_n 0, 1) := by decide +kernel
theorem dX4_grow_211 : decode cX4_grow 211 = .ok (.getfield 38, 3) := by decide +kernel
theorem dX4_grow_214 : decode cX4_grow 214 = .ok (.iload_n 1, 1) := by decide +kernel
theorem dX4_grow_215 : decode cX4_grow 215 = .ok (.iaload, 1) := by decide +kernel
theorem dX4_grow_216 : decode cX4_grow 216 = .ok (.invokevirtual 218, 3) := by decide +kernel
theorem dX4_grow_219 : decode cX4_grow 219 = .ok (.iastore, 1) := by decide +kernel
theorem dX4_grow_220 : decode cX4_grow 220 = .ok (.aload_n 0, 1) := by decide +kernel
theorem dX4_grow_221 : decode cX4_grow 221 = .ok (.dup, 1) := by decide +kernel
theorem dX4_grow_222 : decode cX4_grow 222 = .ok (.getfield 111, 3) := by decide +kernel
theorem dX4_grow_225 : decode cX4_grow 225 = .ok (.iconst 1, 1) := by decide +kernel
theorem dX4_grow_226 : decode cX4_grow 226 = .ok (.iadd, 1) := by decide +kernel
theorem dX4_grow_227 : decode cX4_grow 227 = .ok (.putfield 111, 3) := by decide +kernel
theorem dX4_grow_230 : decode cX4_grow 230 = .ok (.iload_n 3, 1) := by decide +kernel
theorem dX4_grow_231 : decode cX4_grow 231 = .ok (.ireturn, 1) := by decide +kernel
theorem dX4_sideOf_0 : decode cX4_sideOf 0 = .ok (.iload_n 0, 1) := by decide +kernel
theorem dX4_sideOf_1 : decode cX4_sideOf 1 = .ok (.ifCond .ne 7, 3) := by decide +kernel
theorem dX4_sideOf_4 : decode cX4_sideOf 4 = .ok (.iload_n 1, 1) := by decide +kernel
