set_option maxRecDepth 100000
theorem dX0_init_0 : decode cX0_init 0 = .ok (.aload_n 0, 1) := by decide +kernel
theorem dX0_init_1 : decode cX0_init 1 = .ok (.invokespecial 1, 3) := by decide +kernel
theorem dX0_init_4 : decode cX0_init 4 = .ok (.aload_n 0, 1) := by decide +kernel
theorem dX0_init_5 : decode cX0_init 5 = .ok (.invokestatic 7, 3) := by decide +kernel
theorem dX0_init_8 : decode cX0_init 8 = .ok (.putfield 13, 3) := by decide +kernel
theorem dX0_init_11 : decode cX0_init 11 = .ok (.aload_n 0, 1) := by decide +kernel
theorem dX0_init_12 : decode cX0_init 12 = .ok (.bipush 6, 2) := by decide +kernel
theorem dX0_init_14 : decode cX0_init 14 = .ok (.newarray .int, 2) := by decide +kernel
theorem dX0_init_16 : decode cX0_init 16 = .ok (.dup, 1) := by decide +kernel
theorem dX0_init_17 : decode cX0_init 17 = .ok (.iconst 0, 1) := by decide +kernel
theorem dX0_init_18 : decode cX0_init 18 = .ok (.iconst 2, 1) := by decide +kernel
theorem dX0_init_19 : decode cX0_init 19 = .ok (.iastore, 1) := by decide +kernel
theorem dX0_init_20 : decode cX0_init 20 = .ok (.dup, 1) := by decide +kernel
theorem dX0_init_21 : decode cX0_init 21 = .ok (.iconst 1, 1) := by decide +kernel
theorem dX0_init_22 : decode cX0_init 22 = .ok (.iconst 4, 1) := by decide +kernel
theorem dX0_init_23 : decode cX0_init 23 = .ok (.iastore, 1) := by decide +kernel
theorem dX0_init_24 : decode cX0_init 24 = .ok (.dup, 1) := by decide +kernel
theorem dX0_init_25 : decode cX0_init 25 = .ok (.iconst 2, 1) := by decide +kernel
theorem dX0_init_26 : decode cX0_init 26 = .ok (.iconst 4, 1) := by decide +kernel
theorem dX0_init_27 : decode cX0_init 27 = .ok (.iastore, 1) := by decide +kernel
theorem dX0_init_28 : decode cX0_init 28 = .ok (.dup, 1) := by decide +kernel
theorem dX0_init_29 : decode cX0_init 29 = .ok (.iconst 3, 1) := by decide +kernel
theorem dX0_init_30 : decode cX0_init 30 = .ok (.iconst 0, 1) := by decide +kernel
theorem dX0_init_31 : decode cX0_init 31 = .ok (.iastore, 1) := by decide +kernel
theorem dX0_init_32 : decode cX0_init 32 = .ok (.dup, 1) := by decide +kernel
theorem dX0_init_33 : decode cX0_init 33 = .ok (.iconst 4, 1) := by decide +kernel
theorem dX0_init_34 : decode cX0_init 34 = .ok (.iconst 0, 1) := by decide +kernel
theorem dX0_init_35 : decode cX0_init 35 = .ok (.iastore, 1) := by decide +kernel
theorem dX0_init_36 : decode cX0_init 36 = .ok (.dup, 1) := by decide +kernel
theorem dX0_init_37 : decode cX0_init 37 = .ok (.iconst 5, 1) := by decide +kernel
theorem dX0_init_38 : decode cX0_init 38 = .ok (.iconst 2, 1) := by decide +kernel
theorem dX0_init_39 : decode cX0_init 39 = .ok (.iastore, 1) := by decide +kernel
theorem dX0_init_40 : decode cX0_init 40 = .ok (.putfield 19, 3) := by decide +kernel
theorem dX0_init_43 : decode cX0_init 43 = .ok (.aload_n 0, 1) := by decide +kernel
theorem dX0_init_44 : decode cX0_init 44 = .ok (.bipush 6, 2) := by decide +kernel
theorem dX0_init_46 : decode cX0_init 46 = .ok (.newarray .int, 2) := by decide +kernel
theorem dX0_init_48 : decode cX0_init 48 = .ok (.dup, 1) := by decide +kernel
theorem dX0_init_49 : decode cX0_init 49 = .ok (.iconst 0, 1) := by decide +kernel
theorem dX0_init_50 : decode cX0_init 50 = .ok (.iconst 4, 1) := by decide +kernel
theorem dX0_init_51 : decode cX0_init 51 = .ok (.iastore, 1) := by decide +kernel
theorem dX0_init_52 : decode cX0_init 52 = .ok (.dup, 1) := by decide +kernel
theorem dX0_init_53 : decode cX0_init 53 = .ok (.iconst 1, 1) := by decide +kernel
theorem dX0_init_54 : decode cX0_init 54 = .ok (.iconst 2, 1) := by decide +kernel
theorem dX0_init_55 : decode cX0_init 55 = .ok (.iastore, 1) := by decide +kernel
theorem dX0_init_56 : decode cX0_init 56 = .ok (.dup, 1) := by decide +kernel
theorem dX0_init_57 : decode cX0_init 57 = .ok (.iconst 2, 1) := by decide +kernel
theorem dX0_init_58 : decode cX0_init 58 = .ok (.iconst 0, 1) := by decide +kernel
theorem dX0_init_59 : decode cX0_init 59 = .ok (.iastore, 1) := by decide +kernel
theorem dX0_init_60 : decode cX0_init 60 = .ok (.dup, 1) := by decide +kernel
theorem dX0_init_61 : decode cX0_init 61 = .ok (.iconst 3, 1) := by decide +kernel
theorem dX0_init_62 : decode cX0_init 62 = .ok (.iconst 4, 1) := by decide +kernel
theorem dX0_init_63 : decode cX0_init 63 = .ok (.iastore, 1) := by decide +kernel
theorem dX0_init_64 : decode cX0_init 64 = .ok (.dup, 1) := by decide +kernel
theorem dX0_init_65 : decode cX0_init 65 = .ok (.iconst 4, 1) := by decide +kernel
theorem dX0_init_66 : decode cX0_init 66 = .ok (.iconst 2, 1) := by decide +kernel
theorem dX0_init_67 : decode cX0_init 67 = .ok (.iastore, 1) := by decide +kernel
theorem dX0_init_68 : decode cX0_init 68 = .ok (.dup, 1) := by decide +kernel
theorem dX0_init_69 : decode cX0_init 69 = .ok (.iconst 5, 1) := by decide +kernel
theorem dX0_init_70 : decode cX0_init 70 = .ok (.iconst 0, 1) := by decide +kernel
theorem dX0_init_71 : decode cX0_init 71 = .ok (.iastore, 1) := by decide +kernel
theorem dX0_init_72 : decode cX0_init 72 = .ok (.putfield 23, 3) := by decide +kernel
theorem dX0_init_75 : decode cX0_init 75 = .ok (.aload_n 0, 1) := by decide +kernel
theorem dX0_init_76 : decode cX0_init 76 = .ok (.iconst 5, 1) := by decide +kernel
theorem dX0_init_77 : decode cX0_init 77 = .ok (.newarray .int, 2) := by decide +kernel
theorem dX0_init_79 : decode cX0_init 79 = .ok (.putfield 26, 3) := by decide +kernel
theorem dX0_init_82 : decode cX0_init 82 = .ok (.aload_n 0, 1) := by decide +kernel
theorem dX0_init_83 : decode cX0_init 83 = .ok (.iconst 5, 1) := by decide +kernel
theorem dX0_init_84 : decode cX0_init 84 = .ok (.newarray .int, 2) := by decide +kernel
theorem dX0_init_86 : decode cX0_init 86 = .ok (.putfield 29, 3) := by decide +kernel
theorem dX0_init_89 : decode cX0_init 89 = .ok (.aload_n 0, 1) := by decide +kernel
theorem dX0_init_90 : decode cX0_init 90 = .ok (.iconst 5, 1) := by decide +kernel
theorem dX0_init_91 : decode cX0_init 91 = .ok (.newarray .int, 2) := by decide +kernel
theorem dX0_init_93 : decode cX0_init 93 = .ok (.putfield 32, 3) := by decide +kernel
theorem dX0_init_96 : decode cX0_init 96 = .ok (.aload_n 0, 1) := by decide +kernel
theorem dX0_init_97 : decode cX0_init 97 = .ok (.bipush 22, 2) := by decide +kernel
theorem dX0_init_99 : decode cX0_init 99 = .ok (.anewarray 35, 3) := by decide +kernel
theorem dX0_init_102 : decode cX0_init 102 = .ok (.putfield 37, 3) := by decide +kernel
theorem dX0_init_105 : decode cX0_init 105 = .ok (.aload_n 0, 1) := by decide +kernel
theorem dX0_init_106 : decode cX0_init 106 = .ok (.bipush 22, 2) := by decide +kernel
theorem dX0_init_108 : decode cX0_init 108 = .ok (.bipush 22, 2) := by decide +kernel
theorem dX0_init_110 : decode cX0_init 110 = .ok (.multianewarray 41 2, 4) := by decide +kernel
theorem dX0_init_114 : decode cX0_init 114 = .ok (.putfield 43, 3) := by decide +kernel
theorem dX0_init_117 : decode cX0_init 117 = .ok (.aload_n 0, 1) := by decide +kernel
theorem dX0_init_118 : decode cX0_init 118 = .ok (.new 46, 3) := by decide +kernel
theorem dX0_init_121 : decode cX0_init 121 = .ok (.dup, 1) := by decide +kernel
theorem dX0_init_122 : decode cX0_init 122 = .ok (.aload_n 0, 1) := by decide +kernel
theorem dX0_init_123 : decode cX0_init 123 = .ok (.getfield 37, 3) := by decide +kernel
theorem dX0_init_126 : decode cX0_init 126 = .ok (.aload_n 0, 1) := by decide +kernel
theorem dX0_init_127 : decode cX0_init 127 = .ok (.getfield 19, 3) := by decide +kernel
theorem dX0_init_130 : decode cX0_init 130 = .ok (.aload_n 0, 1) := by decide +kernel
theorem dX0_init_131 : decode cX0_init 131 = .ok (.getfield 23, 3) := by decide +kernel
theorem dX0_init_134 : decode cX0_init 134 = .ok (.invokespecial 48, 3) := by decide +kernel
theorem dX0_init_137 : decode cX0_init 137 = .ok (.putfield 51, 3) := by decide +kernel
theorem dX0_init_140 : decode cX0_init 140 = .ok (.aload_n 0, 1) := by decide +kernel
theorem dX0_init_141 : decode cX0_init 141 = .ok (.new 46, 3) := by decide +kernel
theorem dX0_init_144 : decode cX0_init 144 = .ok (.dup, 1) := by decide +kernel
theorem dX0_init_145 : decode cX0_init 145 = .ok (.aload_n 0, 1) := by decide +kernel
theorem dX0_init_146 : decode cX0_init 146 = .ok (.getfield 37, 3) := by decide +kernel
theorem dX0_init_149 : decode cX0_init 149 = .ok (.aload_n 0, 1) := by decide +kernel
theorem dX0_init_150 : decode cX0_init 150 = .ok (.getfield 19, 3) := by decide +kernel
theorem dX0_init_153 : decode cX0_init 153 = .ok (.aload_n 0, 1) := by decide +kernel
theorem dX0_init_154 : decode cX0_init 154 = .ok (.getfield 23, 3) := by decide +kernel
theorem dX0_init_157 : decode cX0_init 157 = .ok (.invokespecial 48, 3) := by decide +kernel
theorem dX0_init_160 : decode cX0_init 160 = .ok (.putfield 55, 3) := by decide +kernel
theorem dX0_init_163 : decode cX0_init 163 = .ok (.aload_n 0, 1) := by decide +kernel
theorem dX0_init_164 : decode cX0_init 164 = .ok (.bipush 22, 2) := by decide +kernel
theorem dX0_init_166 : decode cX0_init 166 = .ok (.newarray .int, 2) := by decide +kernel
theorem dX0_init_168 : decode cX0_init 168 = .ok (.putfield 58, 3) := by decide +kernel
theorem dX0_init_171 : decode cX0_init 171 = .ok (.aload_n 0, 1) := by decide +kernel
theorem dX0_init_172 : decode cX0_init 172 = .ok (.bipush 22, 2) := by decide +kernel
theorem dX0_init_174 : decode cX0_init 174 = .ok (.newarray .int, 2) := by decide +kernel
theorem dX0_init_176 : decode cX0_init 176 = .ok (.putfield 61, 3) := by decide +kernel
theorem dX0_init_179 : decode cX0_init 179 = .ok (.aload_n 0, 1) := by decide +kernel
theorem dX0_init_180 : decode cX0_init 180 = .ok (.bipush 22, 2) := by decide +kernel
theorem dX0_init_182 : decode cX0_init 182 = .ok (.newarray .int, 2) := by decide +kernel
theorem dX0_init_184 : decode cX0_init 184 = .ok (.putfield 64, 3) := by decide +kernel
theorem dX0_init_187 : decode cX0_init 187 = .ok (.aload_n 0, 1) := by decide +kernel
theorem dX0_init_188 : decode cX0_init 188 = .ok (.bipush 64, 2) := by decide +kernel
theorem dX0_init_190 : decode cX0_init 190 = .ok (.anewarray 67, 3) := by decide +kernel
theorem dX0_init_193 : decode cX0_init 193 = .ok (.putfield 68, 3) := by decide +kernel
theorem dX0_init_196 : decode cX0_init 196 = .ok (.aload_n 0, 1) := by decide +kernel
theorem dX0_init_197 : decode cX0_init 197 = .ok (.bipush 64, 2) := by decide +kernel
theorem dX0_init_199 : decode cX0_init 199 = .ok (.newarray .int, 2) := by decide +kernel
theorem dX0_init_201 : decode cX0_init 201 = .ok (.putfield 72, 3) := by decide +kernel
theorem dX0_init_204 : decode cX0_init 204 = .ok (.aload_n 0, 1) := by decide +kernel
theorem dX0_init_205 : decode cX0_init 205 = .ok (.bipush 22, 2) := by decide +kernel
theorem dX0_init_207 : decode cX0_init 207 = .ok (.newarray .int, 2) := by decide +kernel
theorem dX0_init_209 : decode cX0_init 209 = .ok (.putfield 75, 3) := by decide +kernel
theorem dX0_init_212 : decode cX0_init 212 = .ok (.aload_n 0, 1) := by decide +kernel
theorem dX0_init_213 : decode cX0_init 213 = .ok (.bipush 22, 2) := by decide +kernel
theorem dX0_init_215 : decode cX0_init 215 = .ok (.newarray .int, 2) := by decide +kernel
theorem dX0_init_217 : decode cX0_init 217 = .ok (.putfield 78, 3) := by decide +kernel
theorem dX0_init_220 : decode cX0_init 220 = .ok (.aload_n 0, 1) := by decide +kernel
theorem dX0_init_221 : decode cX0_init 221 = .ok (.bipush 22, 2) := by decide +kernel
theorem dX0_init_223 : decode cX0_init 223 = .ok (.newarray .int, 2) := by decide +kernel
theorem dX0_init_225 : decode cX0_init 225 = .ok (.putfield 81, 3) := by decide +kernel
theorem dX0_init_228 : decode cX0_init 228 = .ok (.aload_n 0, 1) := by decide +kernel
theorem dX0_init_229 : decode cX0_init 229 = .ok (.bipush 22, 2) := by decide +kernel
theorem dX0_init_231 : decode cX0_init 231 = .ok (.newarray .int, 2) := by decide +kernel
theorem dX0_init_233 : decode cX0_init 233 = .ok (.putfield 84, 3) := by decide +kernel
theorem dX0_init_236 : decode cX0_init 236 = .ok (.aload_n 0, 1) := by decide +kernel
theorem dX0_init_237 : decode cX0_init 237 = .ok (.bipush 22, 2) := by decide +kernel
theorem dX0_init_239 : decode cX0_init 239 = .ok (.newarray .int, 2) := by decide +kernel
theorem dX0_init_241 : decode cX0_init 241 = .ok (.putfield 87, 3) := by decide +kernel
theorem dX0_init_244 : decode cX0_init 244 = .ok (.aload_n 0, 1) := by decide +kernel
theorem dX0_init_245 : decode cX0_init 245 = .ok (.bipush 88, 2) := by decide +kernel
theorem dX0_init_247 : decode cX0_init 247 = .ok (.newarray .int, 2) := by decide +kernel
theorem dX0_init_249 : decode cX0_init 249 = .ok (.putfield 90, 3) := by decide +kernel
theorem dX0_init_252 : decode cX0_init 252 = .ok (.aload_n 0, 1) := by decide +kernel
theorem dX0_init_253 : decode cX0_init 253 = .ok (.bipush 22, 2) := by decide +kernel
theorem dX0_init_255 : decode cX0_init 255 = .ok (.newarray .int, 2) := by decide +kernel
theorem dX0_init_257 : decode cX0_init 257 = .ok (.putfield 93, 3) := by decide +kernel
theorem dX0_init_260 : decode cX0_init 260 = .ok (.iconst 0, 1) := by decide +kernel
theorem dX0_init_261 : decode cX0_init 261 = .ok (.istore_n 1, 1) := by decide +kernel
theorem dX0_init_262 : decode cX0_init 262 = .ok (.iload_n 1, 1) := by decide +kernel
theorem dX0_init_263 : decode cX0_init 263 = .ok (.bipush 22, 2) := by decide +kernel
theorem dX0_init_265 : decode cX0_init 265 = .ok (.if_icmp .ge 22, 3) := by decide +kernel
theorem dX0_init_268 : decode cX0_init 268 = .ok (.aload_n 0, 1) := by decide +kernel
theorem dX0_init_269 : decode cX0_init 269 = .ok (.getfield 37, 3) := by decide +kernel
theorem dX0_init_272 : decode cX0_init 272 = .ok (.iload_n 1, 1) := by decide +kernel
theorem dX0_init_273 : decode cX0_init 273 = .ok (.new 35, 3) := by decide +kernel
theorem dX0_init_276 : decode cX0_init 276 = .ok (.dup, 1) := by decide +kernel
theorem dX0_init_277 : decode cX0_init 277 = .ok (.invokespecial 96, 3) := by decide +kernel
theorem dX0_init_280 : decode cX0_init 280 = .ok (.aastore, 1) := by decide +kernel
theorem dX0_init_281 : decode cX0_init 281 = .ok (.iinc 1 1, 3) := by decide +kernel
theorem dX0_init_284 : decode cX0_init 284 = .ok (.goto (-22), 3) := by decide +kernel
theorem dX0_init_287 : decode cX0_init 287 = .ok (.iconst 0, 1) := by decide +kernel
theorem dX0_init_288 : decode cX0_init 288 = .ok (.istore_n 1, 1) := by decide +kernel
theorem dX0_init_289 : decode cX0_init 289 = .ok (.iload_n 1, 1) := by decide +kernel
theorem dX0_init_290 : decode cX0_init 290 = .ok (.bipush 64, 2) := by decide +kernel
theorem dX0_init_292 : decode cX0_init 292 = .ok (.if_icmp .ge 19, 3) := by decide +kernel
theorem dX0_init_295 : decode cX0_init 295 = .ok (.aload_n 0, 1) := by decide +kernel
theorem dX0_init_296 : decode cX0_init 296 = .ok (.getfield 68, 3) := by decide +kernel
theorem dX0_init_299 : decode cX0_init 299 = .ok (.iload_n 1, 1) := by decide +kernel
theorem dX0_init_300 : decode cX0_init 300 = .ok (.bipush 22, 2) := by decide +kernel
theorem dX0_init_302 : decode cX0_init 302 = .ok (.newarray .int, 2) := by decide +kernel
theorem dX0_init_304 : decode cX0_init 304 = .ok (.aastore, 1) := by decide +kernel
theorem dX0_init_305 : decode cX0_init 305 = .ok (.iinc 1 1, 3) := by decide +kernel
theorem dX0_init_308 : decode cX0_init 308 = .ok (.goto (-19), 3) := by decide +kernel
theorem dX0_init_311 : decode cX0_init 311 = .ok (.aload_n 0, 1) := by decide +kernel
theorem dX0_init_312 : decode cX0_init 312 = .ok (.invokevirtual 97, 3) := by decide +kernel
theorem dX0_init_315 : decode cX0_init 315 = .ok (.return_, 1) := by decide +kernel
theorem dX0_renew_0 : decode cX0_renew 0 = .ok (.aload_n 0, 1) := by decide +kernel
theorem dX0_renew_1 : decode cX0_renew 1 = .ok (.iconst 0, 1) := by decide +kernel
theorem dX0_renew_2 : decode cX0_renew 2 = .ok (.putfield 123, 3) := by decide +kernel
theorem dX0_renew_5 : decode cX0_renew 5 = .ok (.iconst 0, 1) := by decide +kernel
theorem dX0_renew_6 : decode cX0_renew 6 = .ok (.istore_n 1, 1) := by decide +kernel
theorem dX0_renew_7 : decode cX0_renew 7 = .ok (.iload_n 1, 1) := by decide +kernel
theorem dX0_renew_8 : decode cX0_renew 8 = .ok (.aload_n 0, 1) := by decide +kernel
theorem dX0_renew_9 : decode cX0_renew 9 = .ok (.getfield 100, 3) := by decide +kernel
theorem dX0_renew_12 : decode cX0_renew 12 = .ok (.if_icmp .ge 72, 3) := by decide +kernel
theorem dX0_renew_15 : decode cX0_renew 15 = .ok (.iconst 0, 1) := by decide +kernel
theorem dX0_renew_16 : decode cX0_renew 16 = .ok (.istore_n 2, 1) := by decide +kernel
theorem dX0_renew_17 : decode cX0_renew 17 = .ok (.iload_n 2, 1) := by decide +kernel
theorem dX0_renew_18 : decode cX0_renew 18 = .ok (.bipush 6, 2) := by decide +kernel
theorem dX0_renew_20 : decode cX0_renew 20 = .ok (.if_icmp .ge 58, 3) := by decide +kernel
theorem dX0_renew_23 : decode cX0_renew 23 = .ok (.aload_n 0, 1) := by decide +kernel
theorem dX0_renew_24 : decode cX0_renew 24 = .ok (.iload_n 1, 1) := by decide +kernel
theorem dX0_renew_25 : decode cX0_renew 25 = .ok (.iload_n 2, 1) := by decide +kernel
theorem dX0_renew_26 : decode cX0_renew 26 = .ok (.bipush (-9), 2) := by decide +kernel
theorem dX0_renew_28 : decode cX0_renew 28 = .ok (.invokevirtual 126, 3) := by decide +kernel
theorem dX0_renew_31 : decode cX0_renew 31 = .ok (.bipush (-9), 2) := by decide +kernel
theorem dX0_renew_33 : decode cX0_renew 33 = .ok (.if_icmp .ne 39, 3) := by decide +kernel
theorem dX0_renew_36 : decode cX0_renew 36 = .ok (.aload_n 0, 1) := by decide +kernel
theorem dX0_renew_37 : decode cX0_renew 37 = .ok (.getfield 37, 3) := by decide +kernel
theorem dX0_renew_40 : decode cX0_renew 40 = .ok (.aload_n 0, 1) := by decide +kernel
theorem dX0_renew_41 : decode cX0_renew 41 = .ok (.getfield 123, 3) := by decide +kernel
theorem dX0_renew_44 : decode cX0_renew 44 = .ok (.aaload, 1) := by decide +kernel
theorem dX0_renew_45 : decode cX0_renew 45 = .ok (.iload_n 1, 1) := by decide +kernel
theorem dX0_renew_46 : decode cX0_renew 46 = .ok (.putfield 117, 3) := by decide +kernel
theorem dX0_renew_49 : decode cX0_renew 49 = .ok (.aload_n 0, 1) := by decide +kernel
theorem dX0_renew_50 : decode cX0_renew 50 = .ok (.getfield 37, 3) := by decide +kernel
theorem dX0_renew_53 : decode cX0_renew 53 = .ok (.aload_n 0, 1) := by decide +kernel
theorem dX0_renew_54 : decode cX0_renew 54 = .ok (.getfield 123, 3) := by decide +kernel
theorem dX0_renew_57 : decode cX0_renew 57 = .ok (.aaload, 1) := by decide +kernel
theorem dX0_renew_58 : decode cX0_renew 58 = .ok (.iload_n 2, 1) := by decide +kernel
theorem dX0_renew_59 : decode cX0_renew 59 = .ok (.putfield 120, 3) := by decide +kernel
theorem dX0_renew_62 : decode cX0_renew 62 = .ok (.aload_n 0, 1) := by decide +kernel
theorem dX0_renew_63 : decode cX0_renew 63 = .ok (.dup, 1) := by decide +kernel
theorem dX0_renew_64 : decode cX0_renew 64 = .ok (.getfield 123, 3) := by decide +kernel
theorem dX0_renew_67 : decode cX0_renew 67 = .ok (.iconst 1, 1) := by decide +kernel
theorem dX0_renew_68 : decode cX0_renew 68 = .ok (.iadd, 1) := by decide +kernel
theorem dX0_renew_69 : decode cX0_renew 69 = .ok (.putfield 123, 3) := by decide +kernel
theorem dX0_renew_72 : decode cX0_renew 72 = .ok (.iinc 2 1, 3) := by decide +kernel
theorem dX0_renew_75 : decode cX0_renew 75 = .ok (.goto (-58), 3) := by decide +kernel
theorem dX0_renew_78 : decode cX0_renew 78 = .ok (.iinc 1 1, 3) := by decide +kernel
theorem dX0_renew_81 : decode cX0_renew 81 = .ok (.goto (-74), 3) := by decide +kernel
theorem dX0_renew_84 : decode cX0_renew 84 = .ok (.iconst 0, 1) := by decide +kernel
theorem dX0_renew_85 : decode cX0_renew 85 = .ok (.istore_n 1, 1) := by decide +kernel
theorem dX0_renew_86 : decode cX0_renew 86 = .ok (.iload_n 1, 1) := by decide +kernel
theorem dX0_renew_87 : decode cX0_renew 87 = .ok (.aload_n 0, 1) := by decide +kernel
theorem dX0_renew_88 : decode cX0_renew 88 = .ok (.getfield 123, 3) := by decide +kernel
theorem dX0_renew_91 : decode cX0_renew 91 = .ok (.if_icmp .ge 55, 3) := by decide +kernel
theorem dX0_renew_94 : decode cX0_renew 94 = .ok (.aload_n 0, 1) := by decide +kernel
theorem dX0_renew_95 : decode cX0_renew 95 = .ok (.getfield 37, 3) := by decide +kernel
theorem dX0_renew_98 : decode cX0_renew 98 = .ok (.iload_n 1, 1) := by decide +kernel
theorem dX0_renew_99 : decode cX0_renew 99 = .ok (.aaload, 1) := by decide +kernel
theorem dX0_renew_100 : decode cX0_renew 100 = .ok (.astore_n 2, 1) := by decide +kernel
theorem dX0_renew_101 : decode cX0_renew 101 = .ok (.iconst 0, 1) := by decide +kernel
theorem dX0_renew_102 : decode cX0_renew 102 = .ok (.istore_n 3, 1) := by decide +kernel
theorem dX0_renew_103 : decode cX0_renew 103 = .ok (.iload_n 3, 1) := by decide +kernel
theorem dX0_renew_104 : decode cX0_renew 104 = .ok (.bipush 6, 2) := by decide +kernel
theorem dX0_renew_106 : decode cX0_renew 106 = .ok (.if_icmp .ge 34, 3) := by decide +kernel
theorem dX0_renew_109 : decode cX0_renew 109 = .ok (.aload_n 2, 1) := by decide +kernel
theorem dX0_renew_110 : decode cX0_renew 110 = .ok (.getfield 129, 3) := by decide +kernel
theorem dX0_renew_113 : decode cX0_renew 113 = .ok (.iload_n 3, 1) := by decide +kernel
theorem dX0_renew_114 : decode cX0_renew 114 = .ok (.iconst (-1), 1) := by decide +kernel
theorem dX0_renew_115 : decode cX0_renew 115 = .ok (.iastore, 1) := by decide +kernel
theorem dX0_renew_116 : decode cX0_renew 116 = .ok (.iload_n 3, 1) := by decide +kernel
theorem dX0_renew_117 : decode cX0_renew 117 = .ok (.iconst 1, 1) := by decide +kernel
theorem dX0_renew_118 : decode cX0_renew 118 = .ok (.ishr, 1) := by decide +kernel
theorem dX0_renew_119 : decode cX0_renew 119 = .ok (.aload_n 2, 1) := by decide +kernel
theorem dX0_renew_120 : decode cX0_renew 120 = .ok (.getfield 120, 3) := by decide +kernel
theorem dX0_renew_123 : decode cX0_renew 123 = .ok (.iconst 1, 1) := by decide +kernel
theorem dX0_renew_124 : decode cX0_renew 124 = .ok (.ishr, 1) := by decide +kernel
theorem dX0_renew_125 : decode cX0_renew 125 = .ok (.if_icmp .eq 9, 3) := by decide +kernel
theorem dX0_renew_128 : decode cX0_renew 128 = .ok (.aload_n 0, 1) := by decide +kernel
theorem dX0_renew_129 : decode cX0_renew 129 = .ok (.aload_n 2, 1) := by decide +kernel
theorem dX0_renew_130 : decode cX0_renew 130 = .ok (.iload_n 3, 1) := by decide +kernel
theorem dX0_renew_131 : decode cX0_renew 131 = .ok (.invokevirtual 132, 3) := by decide +kernel
theorem dX0_renew_134 : decode cX0_renew 134 = .ok (.iinc 3 1, 3) := by decide +kernel
theorem dX0_renew_137 : decode cX0_renew 137 = .ok (.goto (-34), 3) := by decide +kernel
theorem dX0_renew_140 : decode cX0_renew 140 = .ok (.iinc 1 1, 3) := by decide +kernel
theorem dX0_renew_143 : decode cX0_renew 143 = .ok (.goto (-57), 3) := by decide +kernel
theorem dX0_renew_146 : decode cX0_renew 146 = .ok (.aload_n 0, 1) := by decide +kernel
theorem dX0_renew_147 : decode cX0_renew 147 = .ok (.getfield 51, 3) := by decide +kernel
theorem dX0_renew_150 : decode cX0_renew 150 = .ok (.invokevirtual 136, 3) := by decide +kernel
theorem dX0_renew_153 : decode cX0_renew 153 = .ok (.aload_n 0, 1) := by decide +kernel
theorem dX0_renew_154 : decode cX0_renew 154 = .ok (.getfield 55, 3) := by decide +kernel
theorem dX0_renew_157 : decode cX0_renew 157 = .ok (.invokevirtual 136, 3) := by decide +kernel
theorem dX0_renew_160 : decode cX0_renew 160 = .ok (.aload_n 0, 1) := by decide +kernel
theorem dX0_renew_161 : decode cX0_renew 161 = .ok (.iconst 0, 1) := by decide +kernel
theorem dX0_renew_162 : decode cX0_renew 162 = .ok (.putfield 139, 3) := by decide +kernel
theorem dX0_renew_165 : decode cX0_renew 165 = .ok (.aload_n 0, 1) := by decide +kernel
theorem dX0_renew_166 : decode cX0_renew 166 = .ok (.iconst 0, 1) := by decide +kernel
theorem dX0_renew_167 : decode cX0_renew 167 = .ok (.putfield 142, 3) := by decide +kernel
theorem dX0_renew_170 : decode cX0_renew 170 = .ok (.aload_n 0, 1) := by decide +kernel
theorem dX0_renew_171 : decode cX0_renew 171 = .ok (.iconst 0, 1) := by decide +kernel
theorem dX0_renew_172 : decode cX0_renew 172 = .ok (.putfield 145, 3) := by decide +kernel
theorem dX0_renew_175 : decode cX0_renew 175 = .ok (.aload_n 0, 1) := by decide +kernel
theorem dX0_renew_176 : decode cX0_renew 176 = .ok (.iconst 0, 1) := by decide +kernel
theorem dX0_renew_177 : decode cX0_renew 177 = .ok (.putfield 148, 3) := by decide +kernel
theorem dX0_renew_180 : decode cX0_renew 180 = .ok (.aload_n 0, 1) := by decide +kernel
theorem dX0_renew_181 : decode cX0_renew 181 = .ok (.iconst 0, 1) := by decide +kernel
theorem dX0_renew_182 : decode cX0_renew 182 = .ok (.putfield 151, 3) := by decide +kernel
theorem dX0_renew_185 : decode cX0_renew 185 = .ok (.aload_n 0, 1) := by decide +kernel
theorem dX0_renew_186 : decode cX0_renew 186 = .ok (.bipush (-9), 2) := by decide +kernel
theorem dX0_renew_188 : decode cX0_renew 188 = .ok (.putfield 155, 3) := by decide +kernel
theorem dX0_renew_191 : decode cX0_renew 191 = .ok (.aload_n 0, 1) := by decide +kernel
theorem dX0_renew_192 : decode cX0_renew 192 = .ok (.getfield 100, 3) := by decide +kernel
theorem dX0_renew_195 : decode cX0_renew 195 = .ok (.ifCond .le 11, 3) := by decide +kernel
theorem dX0_renew_198 : decode cX0_renew 198 = .ok (.aload_n 0, 1) := by decide +kernel
theorem dX0_renew_199 : decode cX0_renew 199 = .ok (.getfield 55, 3) := by decide +kernel
theorem dX0_renew_202 : decode cX0_renew 202 = .ok (.iconst 0, 1) := by decide +kernel
theorem dX0_renew_203 : decode cX0_renew 203 = .ok (.invokevirtual 158, 3) := by decide +kernel
theorem dX0_renew_206 : decode cX0_renew 206 = .ok (.return_, 1) := by decide +kernel
theorem dX0_cubeBy_0 : decode cX0_cubeBy 0 = .ok (.aload_n 0, 1) := by decide +kernel
theorem dX0_cubeBy_1 : decode cX0_cubeBy 1 = .ok (.getfield 13, 3) := by decide +kernel
theorem dX0_cubeBy_4 : decode cX0_cubeBy 4 = .ok (.iload_n 2, 1) := by decide +kernel
theorem dX0_cubeBy_5 : decode cX0_cubeBy 5 = .ok (.aaload, 1) := by decide +kernel
theorem dX0_cubeBy_6 : decode cX0_cubeBy 6 = .ok (.getfield 104, 3) := by decide +kernel
theorem dX0_cubeBy_9 : decode cX0_cubeBy 9 = .ok (.iload_n 3, 1) := by decide +kernel
theorem dX0_cubeBy_10 : decode cX0_cubeBy 10 = .ok (.bipush (-9), 2) := by decide +kernel
theorem dX0_cubeBy_12 : decode cX0_cubeBy 12 = .ok (.if_icmp .ne 7, 3) := by decide +kernel
theorem dX0_cubeBy_15 : decode cX0_cubeBy 15 = .ok (.iconst 0, 1) := by decide +kernel
theorem dX0_cubeBy_16 : decode cX0_cubeBy 16 = .ok (.goto 12, 3) := by decide +kernel
theorem dX0_cubeBy_19 : decode cX0_cubeBy 19 = .ok (.aload_n 0, 1) := by decide +kernel
theorem dX0_cubeBy_20 : decode cX0_cubeBy 20 = .ok (.getfield 13, 3) := by decide +kernel
theorem dX0_cubeBy_23 : decode cX0_cubeBy 23 = .ok (.iload_n 3, 1) := by decide +kernel
theorem dX0_cubeBy_24 : decode cX0_cubeBy 24 = .ok (.aaload, 1) := by decide +kernel
theorem dX0_cubeBy_25 : decode cX0_cubeBy 25 = .ok (.getfield 104, 3) := by decide +kernel
theorem dX0_cubeBy_28 : decode cX0_cubeBy 28 = .ok (.iadd, 1) := by decide +kernel
theorem dX0_cubeBy_29 : decode cX0_cubeBy 29 = .ok (.istore 4, 2) := by decide +kernel
theorem dX0_cubeBy_31 : decode cX0_cubeBy 31 = .ok (.aload_n 0, 1) := by decide +kernel
theorem dX0_cubeBy_32 : decode cX0_cubeBy 32 = .ok (.getfield 13, 3) := by decide +kernel
theorem dX0_cubeBy_35 : decode cX0_cubeBy 35 = .ok (.iload_n 2, 1) := by decide +kernel
theorem dX0_cubeBy_36 : decode cX0_cubeBy 36 = .ok (.aaload, 1) := by decide +kernel
theorem dX0_cubeBy_37 : decode cX0_cubeBy 37 = .ok (.getfield 107, 3) := by decide +kernel
theorem dX0_cubeBy_40 : decode cX0_cubeBy 40 = .ok (.iload_n 3, 1) := by decide +kernel
theorem dX0_cubeBy_41 : decode cX0_cubeBy 41 = .ok (.bipush (-9), 2) := by decide +kernel
theorem dX0_cubeBy_43 : decode cX0_cubeBy 43 = .ok (.if_icmp .ne 7, 3) := by decide +kernel
theorem dX0_cubeBy_46 : decode cX0_cubeBy 46 = .ok (.iconst 0, 1) := by decide +kernel
theorem dX0_cubeBy_47 : decode cX0_cubeBy 47 = .ok (.goto 12, 3) := by decide +kernel
theorem dX0_cubeBy_50 : decode cX0_cubeBy 50 = .ok (.aload_n 0, 1) := by decide +kernel
theorem dX0_cubeBy_51 : decode cX0_cubeBy 51 = .ok (.getfield 13, 3) := by decide +kernel
theorem dX0_cubeBy_54 : decode cX0_cubeBy 54 = .ok (.iload_n 3, 1) := by decide +kernel
theorem dX0_cubeBy_55 : decode cX0_cubeBy 55 = .ok (.aaload, 1) := by decide +kernel
theorem dX0_cubeBy_56 : decode cX0_cubeBy 56 = .ok (.getfield 107, 3) := by decide +kernel
theorem dX0_cubeBy_59 : decode cX0_cubeBy 59 = .ok (.iadd, 1) := by decide +kernel
theorem dX0_cubeBy_60 : decode cX0_cubeBy 60 = .ok (.istore 5, 2) := by decide +kernel
theorem dX0_cubeBy_62 : decode cX0_cubeBy 62 = .ok (.aload_n 0, 1) := by decide +kernel
theorem dX0_cubeBy_63 : decode cX0_cubeBy 63 = .ok (.getfield 13, 3) := by decide +kernel
theorem dX0_cubeBy_66 : decode cX0_cubeBy 66 = .ok (.iload_n 2, 1) := by decide +kernel
theorem dX0_cubeBy_67 : decode cX0_cubeBy 67 = .ok (.aaload, 1) := by decide +kernel
theorem dX0_cubeBy_68 : decode cX0_cubeBy 68 = .ok (.getfield 110, 3) := by decide +kernel
theorem dX0_cubeBy_71 : decode cX0_cubeBy 71 = .ok (.iload_n 3, 1) := by decide +kernel
theorem dX0_cubeBy_72 : decode cX0_cubeBy 72 = .ok (.bipush (-9), 2) := by decide +kernel
theorem dX0_cubeBy_74 : decode cX0_cubeBy 74 = .ok (.if_icmp .ne 7, 3) := by decide +kernel
theorem dX0_cubeBy_77 : decode cX0_cubeBy 77 = .ok (.iconst 0, 1) := by decide +kernel
theorem dX0_cubeBy_78 : decode cX0_cubeBy 78 = .ok (.goto 12, 3) := by decide +kernel
theorem dX0_cubeBy_81 : decode cX0_cubeBy 81 = .ok (.aload_n 0, 1) := by decide +kernel
theorem dX0_cubeBy_82 : decode cX0_cubeBy 82 = .ok (.getfield 13, 3) := by decide +kernel
theorem dX0_cubeBy_85 : decode cX0_cubeBy 85 = .ok (.iload_n 3, 1) := by decide +kernel
theorem dX0_cubeBy_86 : decode cX0_cubeBy 86 = .ok (.aaload, 1) := by decide +kernel
theorem dX0_cubeBy_87 : decode cX0_cubeBy 87 = .ok (.getfield 110, 3) := by decide +kernel
theorem dX0_cubeBy_90 : decode cX0_cubeBy 90 = .ok (.iadd, 1) := by decide +kernel
theorem dX0_cubeBy_91 : decode cX0_cubeBy 91 = .ok (.istore 6, 2) := by decide +kernel
theorem dX0_cubeBy_93 : decode cX0_cubeBy 93 = .ok (.aload_n 0, 1) := by decide +kernel
theorem dX0_cubeBy_94 : decode cX0_cubeBy 94 = .ok (.aload_n 0, 1) := by decide +kernel
theorem dX0_cubeBy_95 : decode cX0_cubeBy 95 = .ok (.getfield 26, 3) := by decide +kernel
theorem dX0_cubeBy_98 : decode cX0_cubeBy 98 = .ok (.iload_n 1, 1) := by decide +kernel
theorem dX0_cubeBy_99 : decode cX0_cubeBy 99 = .ok (.iaload, 1) := by decide +kernel
theorem dX0_cubeBy_100 : decode cX0_cubeBy 100 = .ok (.iload 4, 2) := by decide +kernel
theorem dX0_cubeBy_102 : decode cX0_cubeBy 102 = .ok (.iadd, 1) := by decide +kernel
theorem dX0_cubeBy_103 : decode cX0_cubeBy 103 = .ok (.aload_n 0, 1) := by decide +kernel
theorem dX0_cubeBy_104 : decode cX0_cubeBy 104 = .ok (.getfield 29, 3) := by decide +kernel
theorem dX0_cubeBy_107 : decode cX0_cubeBy 107 = .ok (.iload_n 1, 1) := by decide +kernel
theorem dX0_cubeBy_108 : decode cX0_cubeBy 108 = .ok (.iaload, 1) := by decide +kernel
theorem dX0_cubeBy_109 : decode cX0_cubeBy 109 = .ok (.iload 5, 2) := by decide +kernel
theorem dX0_cubeBy_111 : decode cX0_cubeBy 111 = .ok (.iadd, 1) := by decide +kernel
theorem dX0_cubeBy_112 : decode cX0_cubeBy 112 = .ok (.aload_n 0, 1) := by decide +kernel
theorem dX0_cubeBy_113 : decode cX0_cubeBy 113 = .ok (.getfield 32, 3) := by decide +kernel
theorem dX0_cubeBy_116 : decode cX0_cubeBy 116 = .ok (.iload_n 1, 1) := by decide +kernel
theorem dX0_cubeBy_117 : decode cX0_cubeBy 117 = .ok (.iaload, 1) := by decide +kernel
theorem dX0_cubeBy_118 : decode cX0_cubeBy 118 = .ok (.iload 6, 2) := by decide +kernel
theorem dX0_cubeBy_120 : decode cX0_cubeBy 120 = .ok (.iadd, 1) := by decide +kernel
theorem dX0_cubeBy_121 : decode cX0_cubeBy 121 = .ok (.invokevirtual 113, 3) := by decide +kernel
theorem dX0_cubeBy_124 : decode cX0_cubeBy 124 = .ok (.ireturn, 1) := by decide +kernel
theorem dX0_cubeAt_0 : decode cX0_cubeAt 0 = .ok (.iconst 0, 1) := by decide +kernel
theorem dX0_cubeAt_1 : decode cX0_cubeAt 1 = .ok (.istore 4, 2) := by decide +kernel
theorem dX0_cubeAt_3 : decode cX0_cubeAt 3 = .ok (.iload 4, 2) := by decide +kernel
theorem dX0_cubeAt_5 : decode cX0_cubeAt 5 = .ok (.aload_n 0, 1) := by decide +kernel
theorem dX0_cubeAt_6 : decode cX0_cubeAt 6 = .ok (.getfield 100, 3) := by decide +kernel
theorem dX0_cubeAt_9 : decode cX0_cubeAt 9 = .ok (.if_icmp .ge 45, 3) := by decide +kernel
theorem dX0_cubeAt_12 : decode cX0_cubeAt 12 = .ok (.aload_n 0, 1) := by decide +kernel
theorem dX0_cubeAt_13 : decode cX0_cubeAt 13 = .ok (.getfield 26, 3) := by decide +kernel
theorem dX0_cubeAt_16 : decode cX0_cubeAt 16 = .ok (.iload 4, 2) := by decide +kernel
theorem dX0_cubeAt_18 : decode cX0_cubeAt 18 = .ok (.iaload, 1) := by decide +kernel
theorem dX0_cubeAt_19 : decode cX0_cubeAt 19 = .ok (.iload_n 1, 1) := by decide +kernel
theorem dX0_cubeAt_20 : decode cX0_cubeAt 20 = .ok (.if_icmp .ne 28, 3) := by decide +kernel
theorem dX0_cubeAt_23 : decode cX0_cubeAt 23 = .ok (.aload_n 0, 1) := by decide +kernel
theorem dX0_cubeAt_24 : decode cX0_cubeAt 24 = .ok (.getfield 29, 3) := by decide +kernel
theorem dX0_cubeAt_27 : decode cX0_cubeAt 27 = .ok (.iload 4, 2) := by decide +kernel
theorem dX0_cubeAt_29 : decode cX0_cubeAt 29 = .ok (.iaload, 1) := by decide +kernel
theorem dX0_cubeAt_30 : decode cX0_cubeAt 30 = .ok (.iload_n 2, 1) := by decide +kernel
theorem dX0_cubeAt_31 : decode cX0_cubeAt 31 = .ok (.if_icmp .ne 17, 3) := by decide +kernel
theorem dX0_cubeAt_34 : decode cX0_cubeAt 34 = .ok (.aload_n 0, 1) := by decide +kernel
theorem dX0_cubeAt_35 : decode cX0_cubeAt 35 = .ok (.getfield 32, 3) := by decide +kernel
theorem dX0_cubeAt_38 : decode cX0_cubeAt 38 = .ok (.iload 4, 2) := by decide +kernel
theorem dX0_cubeAt_40 : decode cX0_cubeAt 40 = .ok (.iaload, 1) := by decide +kernel
theorem dX0_cubeAt_41 : decode cX0_cubeAt 41 = .ok (.iload_n 3, 1) := by decide +kernel
theorem dX0_cubeAt_42 : decode cX0_cubeAt 42 = .ok (.if_icmp .ne 6, 3) := by decide +kernel
theorem dX0_cubeAt_45 : decode cX0_cubeAt 45 = .ok (.iload 4, 2) := by decide +kernel
theorem dX0_cubeAt_47 : decode cX0_cubeAt 47 = .ok (.ireturn, 1) := by decide +kernel
theorem dX0_cubeAt_48 : decode cX0_cubeAt 48 = .ok (.iinc 4 1, 3) := by decide +kernel
theorem dX0_cubeAt_51 : decode cX0_cubeAt 51 = .ok (.goto (-48), 3) := by decide +kernel
theorem dX0_cubeAt_54 : decode cX0_cubeAt 54 = .ok (.bipush (-9), 2) := by decide +kernel
theorem dX0_cubeAt_56 : decode cX0_cubeAt 56 = .ok (.ireturn, 1) := by decide +kernel
theorem dX0_findAcross_0 : decode cX0_findAcross 0 = .ok (.aload_n 0, 1) := by decide +kernel
theorem dX0_findAcross_1 : decode cX0_findAcross 1 = .ok (.aload_n 1, 1) := by decide +kernel
theorem dX0_findAcross_2 : decode cX0_findAcross 2 = .ok (.getfield 117, 3) := by decide +kernel
theorem dX0_findAcross_5 : decode cX0_findAcross 5 = .ok (.aload_n 1, 1) := by decide +kernel
theorem dX0_findAcross_6 : decode cX0_findAcross 6 = .ok (.getfield 120, 3) := by decide +kernel
theorem dX0_findAcross_9 : decode cX0_findAcross 9 = .ok (.iload_n 2, 1) := by decide +kernel
theorem dX0_findAcross_10 : decode cX0_findAcross 10 = .ok (.invokevirtual 126, 3) := by decide +kernel
theorem dX0_findAcross_13 : decode cX0_findAcross 13 = .ok (.istore_n 3, 1) := by decide +kernel
theorem dX0_findAcross_14 : decode cX0_findAcross 14 = .ok (.aload_n 0, 1) := by decide +kernel
theorem dX0_findAcross_15 : decode cX0_findAcross 15 = .ok (.aload_n 1, 1) := by decide +kernel
theorem dX0_findAcross_16 : decode cX0_findAcross 16 = .ok (.getfield 117, 3) := by decide +kernel
theorem dX0_findAcross_19 : decode cX0_findAcross 19 = .ok (.iload_n 2, 1) := by decide +kernel
theorem dX0_findAcross_20 : decode cX0_findAcross 20 = .ok (.bipush (-9), 2) := by decide +kernel
theorem dX0_findAcross_22 : decode cX0_findAcross 22 = .ok (.invokevirtual 126, 3) := by decide +kernel
theorem dX0_findAcross_25 : decode cX0_findAcross 25 = .ok (.istore 4, 2) := by decide +kernel
theorem dX0_findAcross_27 : decode cX0_findAcross 27 = .ok (.iload_n 3, 1) := by decide +kernel
theorem dX0_findAcross_28 : decode cX0_findAcross 28 = .ok (.bipush (-9), 2) := by decide +kernel
theorem dX0_findAcross_30 : decode cX0_findAcross 30 = .ok (.if_icmp .eq 30, 3) := by decide +kernel
theorem dX0_findAcross_33 : decode cX0_findAcross 33 = .ok (.aload_n 1, 1) := by decide +kernel
theorem dX0_findAcross_34 : decode cX0_findAcross 34 = .ok (.getfield 129, 3) := by decide +kernel
theorem dX0_findAcross_37 : decode cX0_findAcross 37 = .ok (.iload_n 2, 1) := by decide +kernel
theorem dX0_findAcross_38 : decode cX0_findAcross 38 = .ok (.aload_n 0, 1) := by decide +kernel
theorem dX0_findAcross_39 : decode cX0_findAcross 39 = .ok (.iload_n 3, 1) := by decide +kernel
theorem dX0_findAcross_40 : decode cX0_findAcross 40 = .ok (.iload_n 2, 1) := by decide +kernel
theorem dX0_findAcross_41 : decode cX0_findAcross 41 = .ok (.iconst 1, 1) := by decide +kernel
theorem dX0_findAcross_42 : decode cX0_findAcross 42 = .ok (.ixor, 1) := by decide +kernel
theorem dX0_findAcross_43 : decode cX0_findAcross 43 = .ok (.invokevirtual 162, 3) := by decide +kernel
theorem dX0_findAcross_46 : decode cX0_findAcross 46 = .ok (.iastore, 1) := by decide +kernel
theorem dX0_findAcross_47 : decode cX0_findAcross 47 = .ok (.aload_n 1, 1) := by decide +kernel
theorem dX0_findAcross_48 : decode cX0_findAcross 48 = .ok (.getfield 166, 3) := by decide +kernel
theorem dX0_findAcross_51 : decode cX0_findAcross 51 = .ok (.iload_n 2, 1) := by decide +kernel
theorem dX0_findAcross_52 : decode cX0_findAcross 52 = .ok (.aload_n 1, 1) := by decide +kernel
theorem dX0_findAcross_53 : decode cX0_findAcross 53 = .ok (.getfield 120, 3) := by decide +kernel
theorem dX0_findAcross_56 : decode cX0_findAcross 56 = .ok (.iastore, 1) := by decide +kernel
theorem dX0_findAcross_57 : decode cX0_findAcross 57 = .ok (.goto 63, 3) := by decide +kernel
theorem dX0_findAcross_60 : decode cX0_findAcross 60 = .ok (.iload 4, 2) := by decide +kernel
theorem dX0_findAcross_62 : decode cX0_findAcross 62 = .ok (.bipush (-9), 2) := by decide +kernel
theorem dX0_findAcross_64 : decode cX0_findAcross 64 = .ok (.if_icmp .eq 29, 3) := by decide +kernel
theorem dX0_findAcross_67 : decode cX0_findAcross 67 = .ok (.aload_n 1, 1) := by decide +kernel
theorem dX0_findAcross_68 : decode cX0_findAcross 68 = .ok (.getfield 129, 3) := by decide +kernel
theorem dX0_findAcross_71 : decode cX0_findAcross 71 = .ok (.iload_n 2, 1) := by decide +kernel
theorem dX0_findAcross_72 : decode cX0_findAcross 72 = .ok (.aload_n 0, 1) := by decide +kernel
theorem dX0_findAcross_73 : decode cX0_findAcross 73 = .ok (.iload 4, 2) := by decide +kernel
theorem dX0_findAcross_75 : decode cX0_findAcross 75 = .ok (.aload_n 1, 1) := by decide +kernel
theorem dX0_findAcross_76 : decode cX0_findAcross 76 = .ok (.getfield 120, 3) := by decide +kernel
theorem dX0_findAcross_79 : decode cX0_findAcross 79 = .ok (.invokevirtual 162, 3) := by decide +kernel
theorem dX0_findAcross_82 : decode cX0_findAcross 82 = .ok (.iastore, 1) := by decide +kernel
theorem dX0_findAcross_83 : decode cX0_findAcross 83 = .ok (.aload_n 1, 1) := by decide +kernel
theorem dX0_findAcross_84 : decode cX0_findAcross 84 = .ok (.getfield 166, 3) := by decide +kernel
theorem dX0_findAcross_87 : decode cX0_findAcross 87 = .ok (.iload_n 2, 1) := by decide +kernel
theorem dX0_findAcross_88 : decode cX0_findAcross 88 = .ok (.iload_n 2, 1) := by decide +kernel
theorem dX0_findAcross_89 : decode cX0_findAcross 89 = .ok (.iastore, 1) := by decide +kernel
theorem dX0_findAcross_90 : decode cX0_findAcross 90 = .ok (.goto 30, 3) := by decide +kernel
theorem dX0_findAcross_93 : decode cX0_findAcross 93 = .ok (.aload_n 1, 1) := by decide +kernel
theorem dX0_findAcross_94 : decode cX0_findAcross 94 = .ok (.getfield 129, 3) := by decide +kernel
theorem dX0_findAcross_97 : decode cX0_findAcross 97 = .ok (.iload_n 2, 1) := by decide +kernel
theorem dX0_findAcross_98 : decode cX0_findAcross 98 = .ok (.aload_n 0, 1) := by decide +kernel
theorem dX0_findAcross_99 : decode cX0_findAcross 99 = .ok (.aload_n 1, 1) := by decide +kernel
theorem dX0_findAcross_100 : decode cX0_findAcross 100 = .ok (.getfield 117, 3) := by decide +kernel
theorem dX0_findAcross_103 : decode cX0_findAcross 103 = .ok (.iload_n 2, 1) := by decide +kernel
theorem dX0_findAcross_104 : decode cX0_findAcross 104 = .ok (.invokevirtual 162, 3) := by decide +kernel
theorem dX0_findAcross_107 : decode cX0_findAcross 107 = .ok (.iastore, 1) := by decide +kernel
theorem dX0_findAcross_108 : decode cX0_findAcross 108 = .ok (.aload_n 1, 1) := by decide +kernel
theorem dX0_findAcross_109 : decode cX0_findAcross 109 = .ok (.getfield 166, 3) := by decide +kernel
theorem dX0_findAcross_112 : decode cX0_findAcross 112 = .ok (.iload_n 2, 1) := by decide +kernel
theorem dX0_findAcross_113 : decode cX0_findAcross 113 = .ok (.aload_n 1, 1) := by decide +kernel
theorem dX0_findAcross_114 : decode cX0_findAcross 114 = .ok (.getfield 120, 3) := by decide +kernel
theorem dX0_findAcross_117 : decode cX0_findAcross 117 = .ok (.iconst 1, 1) := by decide +kernel
theorem dX0_findAcross_118 : decode cX0_findAcross 118 = .ok (.ixor, 1) := by decide +kernel
theorem dX0_findAcross_119 : decode cX0_findAcross 119 = .ok (.iastore, 1) := by decide +kernel
theorem dX0_findAcross_120 : decode cX0_findAcross 120 = .ok (.return_, 1) := by decide +kernel
theorem dX0_faceAt_0 : decode cX0_faceAt 0 = .ok (.iconst 0, 1) := by decide +kernel
theorem dX0_faceAt_1 : decode cX0_faceAt 1 = .ok (.istore_n 3, 1) := by decide +kernel
theorem dX0_faceAt_2 : decode cX0_faceAt 2 = .ok (.aload_n 0, 1) := by decide +kernel
theorem dX0_faceAt_3 : decode cX0_faceAt 3 = .ok (.getfield 37, 3) := by decide +kernel
theorem dX0_faceAt_6 : decode cX0_faceAt 6 = .ok (.iload_n 3, 1) := by decide +kernel
theorem dX0_faceAt_7 : decode cX0_faceAt 7 = .ok (.aaload, 1) := by decide +kernel
theorem dX0_faceAt_8 : decode cX0_faceAt 8 = .ok (.getfield 117, 3) := by decide +kernel
theorem dX0_faceAt_11 : decode cX0_faceAt 11 = .ok (.iload_n 1, 1) := by decide +kernel
theorem dX0_faceAt_12 : decode cX0_faceAt 12 = .ok (.if_icmp .ne 16, 3) := by decide +kernel
theorem dX0_faceAt_15 : decode cX0_faceAt 15 = .ok (.aload_n 0, 1) := by decide +kernel
theorem dX0_faceAt_16 : decode cX0_faceAt 16 = .ok (.getfield 37, 3) := by decide +kernel
theorem dX0_faceAt_19 : decode cX0_faceAt 19 = .ok (.iload_n 3, 1) := by decide +kernel
theorem dX0_faceAt_20 : decode cX0_faceAt 20 = .ok (.aaload, 1) := by decide +kernel
theorem dX0_faceAt_21 : decode cX0_faceAt 21 = .ok (.getfield 120, 3) := by decide +kernel
theorem dX0_faceAt_24 : decode cX0_faceAt 24 = .ok (.iload_n 2, 1) := by decide +kernel
theorem dX0_faceAt_25 : decode cX0_faceAt 25 = .ok (.if_icmp .eq 9, 3) := by decide +kernel
theorem dX0_faceAt_28 : decode cX0_faceAt 28 = .ok (.iinc 3 1, 3) := by decide +kernel
theorem dX0_faceAt_31 : decode cX0_faceAt 31 = .ok (.goto (-29), 3) := by decide +kernel
theorem dX0_faceAt_34 : decode cX0_faceAt 34 = .ok (.iload_n 3, 1) := by decide +kernel
theorem dX0_faceAt_35 : decode cX0_faceAt 35 = .ok (.ireturn, 1) := by decide +kernel
theorem dX0_cube_0 : decode cX0_cube 0 = .ok (.iload_n 1, 1) := by decide +kernel
theorem dX0_cube_1 : decode cX0_cube 1 = .ok (.iconst 0, 1) := by decide +kernel
theorem dX0_cube_2 : decode cX0_cube 2 = .ok (.iconst 4, 1) := by decide +kernel
theorem dX0_cube_3 : decode cX0_cube 3 = .ok (.invokestatic 169, 3) := by decide +kernel
theorem dX0_cube_6 : decode cX0_cube 6 = .ok (.ifCond .eq 21, 3) := by decide +kernel
theorem dX0_cube_9 : decode cX0_cube 9 = .ok (.iload_n 2, 1) := by decide +kernel
theorem dX0_cube_10 : decode cX0_cube 10 = .ok (.iconst 0, 1) := by decide +kernel
theorem dX0_cube_11 : decode cX0_cube 11 = .ok (.iconst 4, 1) := by decide +kernel
theorem dX0_cube_12 : decode cX0_cube 12 = .ok (.invokestatic 169, 3) := by decide +kernel
theorem dX0_cube_15 : decode cX0_cube 15 = .ok (.ifCond .eq 12, 3) := by decide +kernel
theorem dX0_cube_18 : decode cX0_cube 18 = .ok (.iload_n 3, 1) := by decide +kernel
theorem dX0_cube_19 : decode cX0_cube 19 = .ok (.iconst 0, 1) := by decide +kernel
theorem dX0_cube_20 : decode cX0_cube 20 = .ok (.iconst 4, 1) := by decide +kernel
theorem dX0_cube_21 : decode cX0_cube 21 = .ok (.invokestatic 169, 3) := by decide +kernel
theorem dX0_cube_24 : decode cX0_cube 24 = .ok (.ifCond .ne 5, 3) := by decide +kernel
theorem dX0_cube_27 : decode cX0_cube 27 = .ok (.iconst (-1), 1) := by decide +kernel
theorem dX0_cube_28 : decode cX0_cube 28 = .ok (.ireturn, 1) := by decide +kernel
theorem dX0_cube_29 : decode cX0_cube 29 = .ok (.aload_n 0, 1) := by decide +kernel
theorem dX0_cube_30 : decode cX0_cube 30 = .ok (.getfield 100, 3) := by decide +kernel
theorem dX0_cube_33 : decode cX0_cube 33 = .ok (.ifCond .ne 7, 3) := by decide +kernel
theorem dX0_cube_36 : decode cX0_cube 36 = .ok (.iconst 1, 1) := by decide +kernel
theorem dX0_cube_37 : decode cX0_cube 37 = .ok (.goto 4, 3) := by decide +kernel
theorem dX0_cube_40 : decode cX0_cube 40 = .ok (.iconst 0, 1) := by decide +kernel
theorem dX0_cube_41 : decode cX0_cube 41 = .ok (.istore 4, 2) := by decide +kernel
theorem dX0_cube_43 : decode cX0_cube 43 = .ok (.aload_n 0, 1) := by decide +kernel
theorem dX0_cube_44 : decode cX0_cube 44 = .ok (.getfield 13, 3) := by decide +kernel
theorem dX0_cube_47 : decode cX0_cube 47 = .ok (.astore 5, 2) := by decide +kernel
theorem dX0_cube_49 : decode cX0_cube 49 = .ok (.aload 5, 2) := by decide +kernel
theorem dX0_cube_51 : decode cX0_cube 51 = .ok (.arraylength, 1) := by decide +kernel
theorem dX0_cube_52 : decode cX0_cube 52 = .ok (.istore 6, 2) := by decide +kernel
theorem dX0_cube_54 : decode cX0_cube 54 = .ok (.iconst 0, 1) := by decide +kernel
theorem dX0_cube_55 : decode cX0_cube 55 = .ok (.istore 7, 2) := by decide +kernel
theorem dX0_cube_57 : decode cX0_cube 57 = .ok (.iload 7, 2) := by decide +kernel
theorem dX0_cube_59 : decode cX0_cube 59 = .ok (.iload 6, 2) := by decide +kernel
theorem dX0_cube_61 : decode cX0_cube 61 = .ok (.if_icmp .ge 56, 3) := by decide +kernel
theorem dX0_cube_64 : decode cX0_cube 64 = .ok (.aload 5, 2) := by decide +kernel
theorem dX0_cube_66 : decode cX0_cube 66 = .ok (.iload 7, 2) := by decide +kernel
theorem dX0_cube_68 : decode cX0_cube 68 = .ok (.aaload, 1) := by decide +kernel
theorem dX0_cube_69 : decode cX0_cube 69 = .ok (.astore 8, 2) := by decide +kernel
theorem dX0_cube_71 : decode cX0_cube 71 = .ok (.iload 4, 2) := by decide +kernel
theorem dX0_cube_73 : decode cX0_cube 73 = .ok (.aload_n 0, 1) := by decide +kernel
theorem dX0_cube_74 : decode cX0_cube 74 = .ok (.iload_n 1, 1) := by decide +kernel
theorem dX0_cube_75 : decode cX0_cube 75 = .ok (.aload 8, 2) := by decide +kernel
theorem dX0_cube_77 : decode cX0_cube 77 = .ok (.getfield 104, 3) := by decide +kernel
theorem dX0_cube_80 : decode cX0_cube 80 = .ok (.iadd, 1) := by decide +kernel
theorem dX0_cube_81 : decode cX0_cube 81 = .ok (.iload_n 2, 1) := by decide +kernel
theorem dX0_cube_82 : decode cX0_cube 82 = .ok (.aload 8, 2) := by decide +kernel
theorem dX0_cube_84 : decode cX0_cube 84 = .ok (.getfield 107, 3) := by decide +kernel
theorem dX0_cube_87 : decode cX0_cube 87 = .ok (.iadd, 1) := by decide +kernel
theorem dX0_cube_88 : decode cX0_cube 88 = .ok (.iload_n 3, 1) := by decide +kernel
theorem dX0_cube_89 : decode cX0_cube 89 = .ok (.aload 8, 2) := by decide +kernel
theorem dX0_cube_91 : decode cX0_cube 91 = .ok (.getfield 110, 3) := by decide +kernel
theorem dX0_cube_94 : decode cX0_cube 94 = .ok (.iadd, 1) := by decide +kernel
theorem dX0_cube_95 : decode cX0_cube 95 = .ok (.invokevirtual 113, 3) := by decide +kernel
theorem dX0_cube_98 : decode cX0_cube 98 = .ok (.bipush (-9), 2) := by decide +kernel
theorem dX0_cube_100 : decode cX0_cube 100 = .ok (.if_icmp .eq 7, 3) := by decide +kernel
theorem dX0_cube_103 : decode cX0_cube 103 = .ok (.iconst 1, 1) := by decide +kernel
theorem dX0_cube_104 : decode cX0_cube 104 = .ok (.goto 4, 3) := by decide +kernel
theorem dX0_cube_107 : decode cX0_cube 107 = .ok (.iconst 0, 1) := by decide +kernel
theorem dX0_cube_108 : decode cX0_cube 108 = .ok (.ior, 1) := by decide +kernel
theorem dX0_cube_109 : decode cX0_cube 109 = .ok (.istore 4, 2) := by decide +kernel
theorem dX0_cube_111 : decode cX0_cube 111 = .ok (.iinc 7 1, 3) := by decide +kernel
theorem dX0_cube_114 : decode cX0_cube 114 = .ok (.goto (-57), 3) := by decide +kernel
theorem dX0_cube_117 : decode cX0_cube 117 = .ok (.aload_n 0, 1) := by decide +kernel
theorem dX0_cube_118 : decode cX0_cube 118 = .ok (.iload_n 1, 1) := by decide +kernel
theorem dX0_cube_119 : decode cX0_cube 119 = .ok (.iload_n 2, 1) := by decide +kernel
theorem dX0_cube_120 : decode cX0_cube 120 = .ok (.iload_n 3, 1) := by decide +kernel
theorem dX0_cube_121 : decode cX0_cube 121 = .ok (.invokevirtual 113, 3) := by decide +kernel
theorem dX0_cube_124 : decode cX0_cube 124 = .ok (.bipush (-9), 2) := by decide +kernel
theorem dX0_cube_126 : decode cX0_cube 126 = .ok (.if_icmp .ne 8, 3) := by decide +kernel
theorem dX0_cube_129 : decode cX0_cube 129 = .ok (.iload 4, 2) := by decide +kernel
theorem dX0_cube_131 : decode cX0_cube 131 = .ok (.ifCond .ne 6, 3) := by decide +kernel
theorem dX0_cube_134 : decode cX0_cube 134 = .ok (.bipush (-3), 2) := by decide +kernel
theorem dX0_cube_136 : decode cX0_cube 136 = .ok (.ireturn, 1) := by decide +kernel
theorem dX0_cube_137 : decode cX0_cube 137 = .ok (.aload_n 0, 1) := by decide +kernel
theorem dX0_cube_138 : decode cX0_cube 138 = .ok (.getfield 100, 3) := by decide +kernel
theorem dX0_cube_141 : decode cX0_cube 141 = .ok (.iconst 5, 1) := by decide +kernel
theorem dX0_cube_142 : decode cX0_cube 142 = .ok (.if_icmp .ne 6, 3) := by decide +kernel
theorem dX0_cube_145 : decode cX0_cube 145 = .ok (.bipush (-4), 2) := by decide +kernel
theorem dX0_cube_147 : decode cX0_cube 147 = .ok (.ireturn, 1) := by decide +kernel
theorem dX0_cube_148 : decode cX0_cube 148 = .ok (.aload_n 0, 1) := by decide +kernel
theorem dX0_cube_149 : decode cX0_cube 149 = .ok (.getfield 26, 3) := by decide +kernel
theorem dX0_cube_152 : decode cX0_cube 152 = .ok (.aload_n 0, 1) := by decide +kernel
theorem dX0_cube_153 : decode cX0_cube 153 = .ok (.getfield 100, 3) := by decide +kernel
theorem dX0_cube_156 : decode cX0_cube 156 = .ok (.iload_n 1, 1) := by decide +kernel
theorem dX0_cube_157 : decode cX0_cube 157 = .ok (.iastore, 1) := by decide +kernel
theorem dX0_cube_158 : decode cX0_cube 158 = .ok (.aload_n 0, 1) := by decide +kernel
theorem dX0_cube_159 : decode cX0_cube 159 = .ok (.getfield 29, 3) := by decide +kernel
theorem dX0_cube_162 : decode cX0_cube 162 = .ok (.aload_n 0, 1) := by decide +kernel
theorem dX0_cube_163 : decode cX0_cube 163 = .ok (.getfield 100, 3) := by decide +kernel
theorem dX0_cube_166 : decode cX0_cube 166 = .ok (.iload_n 2, 1) := by decide +kernel
theorem dX0_cube_167 : decode cX0_cube 167 = .ok (.iastore, 1) := by decide +kernel
theorem dX0_cube_168 : decode cX0_cube 168 = .ok (.aload_n 0, 1) := by decide +kernel
theorem dX0_cube_169 : decode cX0_cube 169 = .ok (.getfield 32, 3) := by decide +kernel
theorem dX0_cube_172 : decode cX0_cube 172 = .ok (.aload_n 0, 1) := by decide +kernel
theorem dX0_cube_173 : decode cX0_cube 173 = .ok (.getfield 100, 3) := by decide +kernel
theorem dX0_cube_176 : decode cX0_cube 176 = .ok (.iload_n 3, 1) := by decide +kernel
theorem dX0_cube_177 : decode cX0_cube 177 = .ok (.iastore, 1) := by decide +kernel
theorem dX0_cube_178 : decode cX0_cube 178 = .ok (.aload_n 0, 1) := by decide +kernel
theorem dX0_cube_179 : decode cX0_cube 179 = .ok (.dup, 1) := by decide +kernel
theorem dX0_cube_180 : decode cX0_cube 180 = .ok (.getfield 100, 3) := by decide +kernel
theorem dX0_cube_183 : decode cX0_cube 183 = .ok (.iconst 1, 1) := by decide +kernel
theorem dX0_cube_184 : decode cX0_cube 184 = .ok (.iadd, 1) := by decide +kernel
theorem dX0_cube_185 : decode cX0_cube 185 = .ok (.putfield 100, 3) := by decide +kernel
theorem dX0_cube_188 : decode cX0_cube 188 = .ok (.aload_n 0, 1) := by decide +kernel
theorem dX0_cube_189 : decode cX0_cube 189 = .ok (.invokevirtual 97, 3) := by decide +kernel
theorem dX0_cube_192 : decode cX0_cube 192 = .ok (.aload_n 0, 1) := by decide +kernel
theorem dX0_cube_193 : decode cX0_cube 193 = .ok (.getfield 123, 3) := by decide +kernel
theorem dX0_cube_196 : decode cX0_cube 196 = .ok (.ireturn, 1) := by decide +kernel
theorem dX0_in_0 : decode cX0_in 0 = .ok (.iload_n 0, 1) := by decide +kernel
theorem dX0_in_1 : decode cX0_in 1 = .ok (.iload_n 1, 1) := by decide +kernel
theorem dX0_in_2 : decode cX0_in 2 = .ok (.if_icmp .lt 12, 3) := by decide +kernel
theorem dX0_in_5 : decode cX0_in 5 = .ok (.iload_n 0, 1) := by decide +kernel
theorem dX0_in_6 : decode cX0_in 6 = .ok (.iload_n 2, 1) := by decide +kernel
theorem dX0_in_7 : decode cX0_in 7 = .ok (.if_icmp .gt 7, 3) := by decide +kernel
theorem dX0_in_10 : decode cX0_in 10 = .ok (.iconst 1, 1) := by decide +kernel
theorem dX0_in_11 : decode cX0_in 11 = .ok (.goto 4, 3) := by decide +kernel
theorem dX0_in_14 : decode cX0_in 14 = .ok (.iconst 0, 1) := by decide +kernel
theorem dX0_in_15 : decode cX0_in 15 = .ok (.ireturn, 1) := by decide +kernel
theorem dX0_clear_0 : decode cX0_clear 0 = .ok (.aload_n 0, 1) := by decide +kernel
theorem dX0_clear_1 : decode cX0_clear 1 = .ok (.getfield 100, 3) := by decide +kernel
theorem dX0_clear_4 : decode cX0_clear 4 = .ok (.istore_n 1, 1) := by decide +kernel
theorem dX0_clear_5 : decode cX0_clear 5 = .ok (.aload_n 0, 1) := by decide +kernel
theorem dX0_clear_6 : decode cX0_clear 6 = .ok (.iconst 0, 1) := by decide +kernel
theorem dX0_clear_7 : decode cX0_clear 7 = .ok (.putfield 100, 3) := by decide +kernel
theorem dX0_clear_10 : decode cX0_clear 10 = .ok (.aload_n 0, 1) := by decide +kernel
theorem dX0_clear_11 : decode cX0_clear 11 = .ok (.invokevirtual 97, 3) := by decide +kernel
theorem dX0_clear_14 : decode cX0_clear 14 = .ok (.iload_n 1, 1) := by decide +kernel
theorem dX0_clear_15 : decode cX0_clear 15 = .ok (.ireturn, 1) := by decide +kernel
theorem dX0_face_0 : decode cX0_face 0 = .ok (.aload_n 0, 1) := by decide +kernel
theorem dX0_face_1 : decode cX0_face 1 = .ok (.iload_n 1, 1) := by decide +kernel
theorem dX0_face_2 : decode cX0_face 2 = .ok (.invokevirtual 173, 3) := by decide +kernel
theorem dX0_face_5 : decode cX0_face 5 = .ok (.ifCond .ne 7, 3) := by decide +kernel
theorem dX0_face_8 : decode cX0_face 8 = .ok (.iconst (-1), 1) := by decide +kernel
theorem dX0_face_9 : decode cX0_face 9 = .ok (.goto 37, 3) := by decide +kernel
theorem dX0_face_12 : decode cX0_face 12 = .ok (.iload_n 2, 1) := by decide +kernel
theorem dX0_face_13 : decode cX0_face 13 = .ok (.ifCond .ne 15, 3) := by decide +kernel
theorem dX0_face_16 : decode cX0_face 16 = .ok (.aload_n 0, 1) := by decide +kernel
theorem dX0_face_17 : decode cX0_face 17 = .ok (.getfield 37, 3) := by decide +kernel
theorem dX0_face_20 : decode cX0_face 20 = .ok (.iload_n 1, 1) := by decide +kernel
theorem dX0_face_21 : decode cX0_face 21 = .ok (.aaload, 1) := by decide +kernel
theorem dX0_face_22 : decode cX0_face 22 = .ok (.getfield 117, 3) := by decide +kernel
theorem dX0_face_25 : decode cX0_face 25 = .ok (.goto 21, 3) := by decide +kernel
theorem dX0_face_28 : decode cX0_face 28 = .ok (.iload_n 2, 1) := by decide +kernel
theorem dX0_face_29 : decode cX0_face 29 = .ok (.iconst 1, 1) := by decide +kernel
theorem dX0_face_30 : decode cX0_face 30 = .ok (.if_icmp .ne 15, 3) := by decide +kernel
theorem dX0_face_33 : decode cX0_face 33 = .ok (.aload_n 0, 1) := by decide +kernel
theorem dX0_face_34 : decode cX0_face 34 = .ok (.getfield 37, 3) := by decide +kernel
theorem dX0_face_37 : decode cX0_face 37 = .ok (.iload_n 1, 1) := by decide +kernel
theorem dX0_face_38 : decode cX0_face 38 = .ok (.aaload, 1) := by decide +kernel
theorem dX0_face_39 : decode cX0_face 39 = .ok (.getfield 120, 3) := by decide +kernel
theorem dX0_face_42 : decode cX0_face 42 = .ok (.goto 4, 3) := by decide +kernel
theorem dX0_face_45 : decode cX0_face 45 = .ok (.iconst (-1), 1) := by decide +kernel
theorem dX0_face_46 : decode cX0_face 46 = .ok (.ireturn, 1) := by decide +kernel
theorem dX0_isFace_0 : decode cX0_isFace 0 = .ok (.iload_n 1, 1) := by decide +kernel
theorem dX0_isFace_1 : decode cX0_isFace 1 = .ok (.iconst 0, 1) := by decide +kernel
theorem dX0_isFace_2 : decode cX0_isFace 2 = .ok (.aload_n 0, 1) := by decide +kernel
theorem dX0_isFace_3 : decode cX0_isFace 3 = .ok (.getfield 123, 3) := by decide +kernel
theorem dX0_isFace_6 : decode cX0_isFace 6 = .ok (.iconst 1, 1) := by decide +kernel
theorem dX0_isFace_7 : decode cX0_isFace 7 = .ok (.isub, 1) := by decide +kernel
theorem dX0_isFace_8 : decode cX0_isFace 8 = .ok (.invokestatic 169, 3) := by decide +kernel
theorem dX0_isFace_11 : decode cX0_isFace 11 = .ok (.ireturn, 1) := by decide +kernel
theorem dX0_across_0 : decode cX0_across 0 = .ok (.aload_n 0, 1) := by decide +kernel
theorem dX0_across_1 : decode cX0_across 1 = .ok (.iload_n 1, 1) := by decide +kernel
theorem dX0_across_2 : decode cX0_across 2 = .ok (.invokevirtual 173, 3) := by decide +kernel
theorem dX0_across_5 : decode cX0_across 5 = .ok (.ifCond .eq 26, 3) := by decide +kernel
theorem dX0_across_8 : decode cX0_across 8 = .ok (.iload_n 2, 1) := by decide +kernel
theorem dX0_across_9 : decode cX0_across 9 = .ok (.iconst 0, 1) := by decide +kernel
theorem dX0_across_10 : decode cX0_across 10 = .ok (.iconst 5, 1) := by decide +kernel
theorem dX0_across_11 : decode cX0_across 11 = .ok (.invokestatic 169, 3) := by decide +kernel
theorem dX0_across_14 : decode cX0_across 14 = .ok (.ifCond .eq 17, 3) := by decide +kernel
theorem dX0_across_17 : decode cX0_across 17 = .ok (.aload_n 0, 1) := by decide +kernel
theorem dX0_across_18 : decode cX0_across 18 = .ok (.getfield 37, 3) := by decide +kernel
theorem dX0_across_21 : decode cX0_across 21 = .ok (.iload_n 1, 1) := by decide +kernel
theorem dX0_across_22 : decode cX0_across 22 = .ok (.aaload, 1) := by decide +kernel
theorem dX0_across_23 : decode cX0_across 23 = .ok (.getfield 129, 3) := by decide +kernel
theorem dX0_across_26 : decode cX0_across 26 = .ok (.iload_n 2, 1) := by decide +kernel
theorem dX0_across_27 : decode cX0_across 27 = .ok (.iaload, 1) := by decide +kernel
theorem dX0_across_28 : decode cX0_across 28 = .ok (.goto 4, 3) := by decide +kernel
theorem dX0_across_31 : decode cX0_across 31 = .ok (.iconst (-1), 1) := by decide +kernel
theorem dX0_across_32 : decode cX0_across 32 = .ok (.ireturn, 1) := by decide +kernel
theorem dX0_trees_0 : decode cX0_trees 0 = .ok (.aload_n 0, 1) := by decide +kernel
theorem dX0_trees_1 : decode cX0_trees 1 = .ok (.getfield 100, 3) := by decide +kernel
theorem dX0_trees_4 : decode cX0_trees 4 = .ok (.ifCond .ne 7, 3) := by decide +kernel
theorem dX0_trees_7 : decode cX0_trees 7 = .ok (.ldc2_w 191, 3) := by decide +kernel
theorem dX0_trees_10 : decode cX0_trees 10 = .ok (.lreturn, 1) := by decide +kernel
theorem dX0_trees_11 : decode cX0_trees 11 = .ok (.ldc2_w 193, 3) := by decide +kernel
theorem dX0_trees_14 : decode cX0_trees 14 = .ok (.lstore_n 1, 1) := by decide +kernel
theorem dX0_trees_15 : decode cX0_trees 15 = .ok (.ldc2_w 195, 3) := by decide +kernel
theorem dX0_trees_18 : decode cX0_trees 18 = .ok (.lstore_n 3, 1) := by decide +kernel
theorem dX0_trees_19 : decode cX0_trees 19 = .ok (.aload_n 0, 1) := by decide +kernel
theorem dX0_trees_20 : decode cX0_trees 20 = .ok (.lload_n 1, 1) := by decide +kernel
theorem dX0_trees_21 : decode cX0_trees 21 = .ok (.invokevirtual 197, 3) := by decide +kernel
theorem dX0_trees_24 : decode cX0_trees 24 = .ok (.lstore 5, 2) := by decide +kernel
theorem dX0_trees_26 : decode cX0_trees 26 = .ok (.aload_n 0, 1) := by decide +kernel
theorem dX0_trees_27 : decode cX0_trees 27 = .ok (.lload_n 3, 1) := by decide +kernel
theorem dX0_trees_28 : decode cX0_trees 28 = .ok (.invokevirtual 197, 3) := by decide +kernel
theorem dX0_trees_31 : decode cX0_trees 31 = .ok (.lstore 7, 2) := by decide +kernel
theorem dX0_trees_33 : decode cX0_trees 33 = .ok (.lload 7, 2) := by decide +kernel
theorem dX0_trees_35 : decode cX0_trees 35 = .ok (.lload 5, 2) := by decide +kernel
theorem dX0_trees_37 : decode cX0_trees 37 = .ok (.lload_n 3, 1) := by decide +kernel
theorem dX0_trees_38 : decode cX0_trees 38 = .ok (.lrem, 1) := by decide +kernel
theorem dX0_trees_39 : decode cX0_trees 39 = .ok (.lsub, 1) := by decide +kernel
theorem dX0_trees_40 : decode cX0_trees 40 = .ok (.lload_n 3, 1) := by decide +kernel
theorem dX0_trees_41 : decode cX0_trees 41 = .ok (.ladd, 1) := by decide +kernel
theorem dX0_trees_42 : decode cX0_trees 42 = .ok (.lload_n 3, 1) := by decide +kernel
theorem dX0_trees_43 : decode cX0_trees 43 = .ok (.lrem, 1) := by decide +kernel
theorem dX0_trees_44 : decode cX0_trees 44 = .ok (.lload_n 1, 1) := by decide +kernel
theorem dX0_trees_45 : decode cX0_trees 45 = .ok (.lload_n 3, 1) := by decide +kernel
theorem dX0_trees_46 : decode cX0_trees 46 = .ok (.lrem, 1) := by decide +kernel
theorem dX0_trees_47 : decode cX0_trees 47 = .ok (.lload_n 3, 1) := by decide +kernel
theorem dX0_trees_48 : decode cX0_trees 48 = .ok (.ldc2_w 185, 3) := by decide +kernel
theorem dX0_trees_51 : decode cX0_trees 51 = .ok (.lsub, 1) := by decide +kernel
theorem dX0_trees_52 : decode cX0_trees 52 = .ok (.lload_n 3, 1) := by decide +kernel
theorem dX0_trees_53 : decode cX0_trees 53 = .ok (.invokestatic 187, 3) := by decide +kernel
theorem dX0_trees_56 : decode cX0_trees 56 = .ok (.lmul, 1) := by decide +kernel
theorem dX0_trees_57 : decode cX0_trees 57 = .ok (.lload_n 3, 1) := by decide +kernel
theorem dX0_trees_58 : decode cX0_trees 58 = .ok (.lrem, 1) := by decide +kernel
theorem dX0_trees_59 : decode cX0_trees 59 = .ok (.lstore 9, 2) := by decide +kernel
theorem dX0_trees_61 : decode cX0_trees 61 = .ok (.lload 5, 2) := by decide +kernel
theorem dX0_trees_63 : decode cX0_trees 63 = .ok (.lload 9, 2) := by decide +kernel
theorem dX0_trees_65 : decode cX0_trees 65 = .ok (.lload_n 1, 1) := by decide +kernel
theorem dX0_trees_66 : decode cX0_trees 66 = .ok (.lmul, 1) := by decide +kernel
theorem dX0_trees_67 : decode cX0_trees 67 = .ok (.ladd, 1) := by decide +kernel
theorem dX0_trees_68 : decode cX0_trees 68 = .ok (.lreturn, 1) := by decide +kernel
theorem dX0_treesBy_0 : decode cX0_treesBy 0 = .ok (.aload_n 0, 1) := by decide +kernel
theorem dX0_treesBy_1 : decode cX0_treesBy 1 = .ok (.getfield 123, 3) := by decide +kernel
theorem dX0_treesBy_4 : decode cX0_treesBy 4 = .ok (.iconst 1, 1) := by decide +kernel
theorem dX0_treesBy_5 : decode cX0_treesBy 5 = .ok (.isub, 1) := by decide +kernel
theorem dX0_treesBy_6 : decode cX0_treesBy 6 = .ok (.istore_n 3, 1) := by decide +kernel
theorem dX0_treesBy_7 : decode cX0_treesBy 7 = .ok (.iconst 0, 1) := by decide +kernel
theorem dX0_treesBy_8 : decode cX0_treesBy 8 = .ok (.istore 4, 2) := by decide +kernel
theorem dX0_treesBy_10 : decode cX0_treesBy 10 = .ok (.iload 4, 2) := by decide +kernel
theorem dX0_treesBy_12 : decode cX0_treesBy 12 = .ok (.iload_n 3, 1) := by decide +kernel
theorem dX0_treesBy_13 : decode cX0_treesBy 13 = .ok (.if_icmp .ge 101, 3) := by decide +kernel
theorem dX0_treesBy_16 : decode cX0_treesBy 16 = .ok (.aload_n 0, 1) := by decide +kernel
theorem dX0_treesBy_17 : decode cX0_treesBy 17 = .ok (.getfield 43, 3) := by decide +kernel
theorem dX0_treesBy_20 : decode cX0_treesBy 20 = .ok (.iload 4, 2) := by decide +kernel
theorem dX0_treesBy_22 : decode cX0_treesBy 22 = .ok (.aaload, 1) := by decide +kernel
theorem dX0_treesBy_23 : decode cX0_treesBy 23 = .ok (.lconst 0, 1) := by decide +kernel
theorem dX0_treesBy_24 : decode cX0_treesBy 24 = .ok (.invokestatic 177, 3) := by decide +kernel
theorem dX0_treesBy_27 : decode cX0_treesBy 27 = .ok (.aload_n 0, 1) := by decide +kernel
theorem dX0_treesBy_28 : decode cX0_treesBy 28 = .ok (.getfield 43, 3) := by decide +kernel
theorem dX0_treesBy_31 : decode cX0_treesBy 31 = .ok (.iload 4, 2) := by decide +kernel
theorem dX0_treesBy_33 : decode cX0_treesBy 33 = .ok (.aaload, 1) := by decide +kernel
theorem dX0_treesBy_34 : decode cX0_treesBy 34 = .ok (.iload 4, 2) := by decide +kernel
theorem dX0_treesBy_36 : decode cX0_treesBy 36 = .ok (.ldc2_w 183, 3) := by decide +kernel
theorem dX0_treesBy_39 : decode cX0_treesBy 39 = .ok (.lastore, 1) := by decide +kernel
theorem dX0_treesBy_40 : decode cX0_treesBy 40 = .ok (.iconst 0, 1) := by decide +kernel
theorem dX0_treesBy_41 : decode cX0_treesBy 41 = .ok (.istore 5, 2) := by decide +kernel
theorem dX0_treesBy_43 : decode cX0_treesBy 43 = .ok (.iload 5, 2) := by decide +kernel
theorem dX0_treesBy_45 : decode cX0_treesBy 45 = .ok (.bipush 6, 2) := by decide +kernel
theorem dX0_treesBy_47 : decode cX0_treesBy 47 = .ok (.if_icmp .ge 61, 3) := by decide +kernel
theorem dX0_treesBy_50 : decode cX0_treesBy 50 = .ok (.aload_n 0, 1) := by decide +kernel
theorem dX0_treesBy_51 : decode cX0_treesBy 51 = .ok (.getfield 37, 3) := by decide +kernel
theorem dX0_treesBy_54 : decode cX0_treesBy 54 = .ok (.iload 4, 2) := by decide +kernel
theorem dX0_treesBy_56 : decode cX0_treesBy 56 = .ok (.aaload, 1) := by decide +kernel
theorem dX0_treesBy_57 : decode cX0_treesBy 57 = .ok (.getfield 129, 3) := by decide +kernel
theorem dX0_treesBy_60 : decode cX0_treesBy 60 = .ok (.iload 5, 2) := by decide +kernel
theorem dX0_treesBy_62 : decode cX0_treesBy 62 = .ok (.iaload, 1) := by decide +kernel
theorem dX0_treesBy_63 : decode cX0_treesBy 63 = .ok (.istore 6, 2) := by decide +kernel
theorem dX0_treesBy_65 : decode cX0_treesBy 65 = .ok (.iload 6, 2) := by decide +kernel
theorem dX0_treesBy_67 : decode cX0_treesBy 67 = .ok (.ifCond .lt 35, 3) := by decide +kernel
theorem dX0_treesBy_70 : decode cX0_treesBy 70 = .ok (.iload 6, 2) := by decide +kernel
theorem dX0_treesBy_72 : decode cX0_treesBy 72 = .ok (.iload_n 3, 1) := by decide +kernel
theorem dX0_treesBy_73 : decode cX0_treesBy 73 = .ok (.if_icmp .ge 29, 3) := by decide +kernel
theorem dX0_treesBy_76 : decode cX0_treesBy 76 = .ok (.aload_n 0, 1) := by decide +kernel
theorem dX0_treesBy_77 : decode cX0_treesBy 77 = .ok (.getfield 43, 3) := by decide +kernel
theorem dX0_treesBy_80 : decode cX0_treesBy 80 = .ok (.iload 4, 2) := by decide +kernel
theorem dX0_treesBy_82 : decode cX0_treesBy 82 = .ok (.aaload, 1) := by decide +kernel
theorem dX0_treesBy_83 : decode cX0_treesBy 83 = .ok (.iload 6, 2) := by decide +kernel
theorem dX0_treesBy_85 : decode cX0_treesBy 85 = .ok (.aload_n 0, 1) := by decide +kernel
theorem dX0_treesBy_86 : decode cX0_treesBy 86 = .ok (.getfield 43, 3) := by decide +kernel
theorem dX0_treesBy_89 : decode cX0_treesBy 89 = .ok (.iload 4, 2) := by decide +kernel
theorem dX0_treesBy_91 : decode cX0_treesBy 91 = .ok (.aaload, 1) := by decide +kernel
theorem dX0_treesBy_92 : decode cX0_treesBy 92 = .ok (.iload 6, 2) := by decide +kernel
theorem dX0_treesBy_94 : decode cX0_treesBy 94 = .ok (.laload, 1) := by decide +kernel
theorem dX0_treesBy_95 : decode cX0_treesBy 95 = .ok (.lload_n 1, 1) := by decide +kernel
theorem dX0_treesBy_96 : decode cX0_treesBy 96 = .ok (.ladd, 1) := by decide +kernel
theorem dX0_treesBy_97 : decode cX0_treesBy 97 = .ok (.lconst 1, 1) := by decide +kernel
theorem dX0_treesBy_98 : decode cX0_treesBy 98 = .ok (.lsub, 1) := by decide +kernel
theorem dX0_treesBy_99 : decode cX0_treesBy 99 = .ok (.lload_n 1, 1) := by decide +kernel
theorem dX0_treesBy_100 : decode cX0_treesBy 100 = .ok (.lrem, 1) := by decide +kernel
theorem dX0_treesBy_101 : decode cX0_treesBy 101 = .ok (.lastore, 1) := by decide +kernel
theorem dX0_treesBy_102 : decode cX0_treesBy 102 = .ok (.iinc 5 1, 3) := by decide +kernel
theorem dX0_treesBy_105 : decode cX0_treesBy 105 = .ok (.goto (-62), 3) := by decide +kernel
theorem dX0_treesBy_108 : decode cX0_treesBy 108 = .ok (.iinc 4 1, 3) := by decide +kernel
theorem dX0_treesBy_111 : decode cX0_treesBy 111 = .ok (.goto (-101), 3) := by decide +kernel
theorem dX0_treesBy_114 : decode cX0_treesBy 114 = .ok (.lconst 1, 1) := by decide +kernel
theorem dX0_treesBy_115 : decode cX0_treesBy 115 = .ok (.lstore 4, 2) := by decide +kernel
theorem dX0_treesBy_117 : decode cX0_treesBy 117 = .ok (.iconst 0, 1) := by decide +kernel
theorem dX0_treesBy_118 : decode cX0_treesBy 118 = .ok (.istore 6, 2) := by decide +kernel
theorem dX0_treesBy_120 : decode cX0_treesBy 120 = .ok (.iload 6, 2) := by decide +kernel
theorem dX0_treesBy_122 : decode cX0_treesBy 122 = .ok (.iload_n 3, 1) := by decide +kernel
theorem dX0_treesBy_123 : decode cX0_treesBy 123 = .ok (.if_icmp .ge 220, 3) := by decide +kernel
theorem dX0_treesBy_126 : decode cX0_treesBy 126 = .ok (.iload 6, 2) := by decide +kernel
theorem dX0_treesBy_128 : decode cX0_treesBy 128 = .ok (.istore 7, 2) := by decide +kernel
theorem dX0_treesBy_130 : decode cX0_treesBy 130 = .ok (.iload 7, 2) := by decide +kernel
theorem dX0_treesBy_132 : decode cX0_treesBy 132 = .ok (.iload_n 3, 1) := by decide +kernel
theorem dX0_treesBy_133 : decode cX0_treesBy 133 = .ok (.if_icmp .ge 24, 3) := by decide +kernel
theorem dX0_treesBy_136 : decode cX0_treesBy 136 = .ok (.aload_n 0, 1) := by decide +kernel
theorem dX0_treesBy_137 : decode cX0_treesBy 137 = .ok (.getfield 43, 3) := by decide +kernel
theorem dX0_treesBy_140 : decode cX0_treesBy 140 = .ok (.iload 7, 2) := by decide +kernel
theorem dX0_treesBy_142 : decode cX0_treesBy 142 = .ok (.aaload, 1) := by decide +kernel
theorem dX0_treesBy_143 : decode cX0_treesBy 143 = .ok (.iload 6, 2) := by decide +kernel
theorem dX0_treesBy_145 : decode cX0_treesBy 145 = .ok (.laload, 1) := by decide +kernel
theorem dX0_treesBy_146 : decode cX0_treesBy 146 = .ok (.lconst 0, 1) := by decide +kernel
theorem dX0_treesBy_147 : decode cX0_treesBy 147 = .ok (.lcmp, 1) := by decide +kernel
theorem dX0_treesBy_148 : decode cX0_treesBy 148 = .ok (.ifCond .ne 9, 3) := by decide +kernel
theorem dX0_treesBy_151 : decode cX0_treesBy 151 = .ok (.iinc 7 1, 3) := by decide +kernel
theorem dX0_treesBy_154 : decode cX0_treesBy 154 = .ok (.goto (-24), 3) := by decide +kernel
theorem dX0_treesBy_157 : decode cX0_treesBy 157 = .ok (.iload 7, 2) := by decide +kernel
theorem dX0_treesBy_159 : decode cX0_treesBy 159 = .ok (.iload_n 3, 1) := by decide +kernel
theorem dX0_treesBy_160 : decode cX0_treesBy 160 = .ok (.if_icmp .ne 5, 3) := by decide +kernel
theorem dX0_treesBy_163 : decode cX0_treesBy 163 = .ok (.lconst 0, 1) := by decide +kernel
theorem dX0_treesBy_164 : decode cX0_treesBy 164 = .ok (.lreturn, 1) := by decide +kernel
theorem dX0_treesBy_165 : decode cX0_treesBy 165 = .ok (.iload 7, 2) := by decide +kernel
theorem dX0_treesBy_167 : decode cX0_treesBy 167 = .ok (.iload 6, 2) := by decide +kernel
theorem dX0_treesBy_169 : decode cX0_treesBy 169 = .ok (.if_icmp .eq 41, 3) := by decide +kernel
theorem dX0_treesBy_172 : decode cX0_treesBy 172 = .ok (.aload_n 0, 1) := by decide +kernel
theorem dX0_treesBy_173 : decode cX0_treesBy 173 = .ok (.getfield 43, 3) := by decide +kernel
theorem dX0_treesBy_176 : decode cX0_treesBy 176 = .ok (.iload 6, 2) := by decide +kernel
theorem dX0_treesBy_178 : decode cX0_treesBy 178 = .ok (.aaload, 1) := by decide +kernel
theorem dX0_treesBy_179 : decode cX0_treesBy 179 = .ok (.astore 8, 2) := by decide +kernel
theorem dX0_treesBy_181 : decode cX0_treesBy 181 = .ok (.aload_n 0, 1) := by decide +kernel
theorem dX0_treesBy_182 : decode cX0_treesBy 182 = .ok (.getfield 43, 3) := by decide +kernel
theorem dX0_treesBy_185 : decode cX0_treesBy 185 = .ok (.iload 6, 2) := by decide +kernel
theorem dX0_treesBy_187 : decode cX0_treesBy 187 = .ok (.aload_n 0, 1) := by decide +kernel
theorem dX0_treesBy_188 : decode cX0_treesBy 188 = .ok (.getfield 43, 3) := by decide +kernel
theorem dX0_treesBy_191 : decode cX0_treesBy 191 = .ok (.iload 7, 2) := by decide +kernel
theorem dX0_treesBy_193 : decode cX0_treesBy 193 = .ok (.aaload, 1) := by decide +kernel
theorem dX0_treesBy_194 : decode cX0_treesBy 194 = .ok (.aastore, 1) := by decide +kernel
theorem dX0_treesBy_195 : decode cX0_treesBy 195 = .ok (.aload_n 0, 1) := by decide +kernel
theorem dX0_treesBy_196 : decode cX0_treesBy 196 = .ok (.getfield 43, 3) := by decide +kernel
theorem dX0_treesBy_199 : decode cX0_treesBy 199 = .ok (.iload 7, 2) := by decide +kernel
theorem dX0_treesBy_201 : decode cX0_treesBy 201 = .ok (.aload 8, 2) := by decide +kernel
theorem dX0_treesBy_203 : decode cX0_treesBy 203 = .ok (.aastore, 1) := by decide +kernel
theorem dX0_treesBy_204 : decode cX0_treesBy 204 = .ok (.lload_n 1, 1) := by decide +kernel
theorem dX0_treesBy_205 : decode cX0_treesBy 205 = .ok (.lload 4, 2) := by decide +kernel
theorem dX0_treesBy_207 : decode cX0_treesBy 207 = .ok (.lsub, 1) := by decide +kernel
theorem dX0_treesBy_208 : decode cX0_treesBy 208 = .ok (.lstore 4, 2) := by decide +kernel
theorem dX0_treesBy_210 : decode cX0_treesBy 210 = .ok (.lload 4, 2) := by decide +kernel
theorem dX0_treesBy_212 : decode cX0_treesBy 212 = .ok (.aload_n 0, 1) := by decide +kernel
theorem dX0_treesBy_213 : decode cX0_treesBy 213 = .ok (.getfield 43, 3) := by decide +kernel
theorem dX0_treesBy_216 : decode cX0_treesBy 216 = .ok (.iload 6, 2) := by decide +kernel
theorem dX0_treesBy_218 : decode cX0_treesBy 218 = .ok (.aaload, 1) := by decide +kernel
theorem dX0_treesBy_219 : decode cX0_treesBy 219 = .ok (.iload 6, 2) := by decide +kernel
theorem dX0_treesBy_221 : decode cX0_treesBy 221 = .ok (.laload, 1) := by decide +kernel
theorem dX0_treesBy_222 : decode cX0_treesBy 222 = .ok (.lmul, 1) := by decide +kernel
theorem dX0_treesBy_223 : decode cX0_treesBy 223 = .ok (.lload_n 1, 1) := by decide +kernel
theorem dX0_treesBy_224 : decode cX0_treesBy 224 = .ok (.lrem, 1) := by decide +kernel
theorem dX0_treesBy_225 : decode cX0_treesBy 225 = .ok (.lstore 4, 2) := by decide +kernel
theorem dX0_treesBy_227 : decode cX0_treesBy 227 = .ok (.aload_n 0, 1) := by decide +kernel
theorem dX0_treesBy_228 : decode cX0_treesBy 228 = .ok (.getfield 43, 3) := by decide +kernel
theorem dX0_treesBy_231 : decode cX0_treesBy 231 = .ok (.iload 6, 2) := by decide +kernel
theorem dX0_treesBy_233 : decode cX0_treesBy 233 = .ok (.aaload, 1) := by decide +kernel
theorem dX0_treesBy_234 : decode cX0_treesBy 234 = .ok (.iload 6, 2) := by decide +kernel
theorem dX0_treesBy_236 : decode cX0_treesBy 236 = .ok (.laload, 1) := by decide +kernel
theorem dX0_treesBy_237 : decode cX0_treesBy 237 = .ok (.lload_n 1, 1) := by decide +kernel
theorem dX0_treesBy_238 : decode cX0_treesBy 238 = .ok (.ldc2_w 185, 3) := by decide +kernel
theorem dX0_treesBy_241 : decode cX0_treesBy 241 = .ok (.lsub, 1) := by decide +kernel
theorem dX0_treesBy_242 : decode cX0_treesBy 242 = .ok (.lload_n 1, 1) := by decide +kernel
theorem dX0_treesBy_243 : decode cX0_treesBy 243 = .ok (.invokestatic 187, 3) := by decide +kernel
theorem dX0_treesBy_246 : decode cX0_treesBy 246 = .ok (.lstore 8, 2) := by decide +kernel
theorem dX0_treesBy_248 : decode cX0_treesBy 248 = .ok (.iload 6, 2) := by decide +kernel
theorem dX0_treesBy_250 : decode cX0_treesBy 250 = .ok (.iconst 1, 1) := by decide +kernel
theorem dX0_treesBy_251 : decode cX0_treesBy 251 = .ok (.iadd, 1) := by decide +kernel
theorem dX0_treesBy_252 : decode cX0_treesBy 252 = .ok (.istore 10, 2) := by decide +kernel
theorem dX0_treesBy_254 : decode cX0_treesBy 254 = .ok (.iload 10, 2) := by decide +kernel
theorem dX0_treesBy_256 : decode cX0_treesBy 256 = .ok (.iload_n 3, 1) := by decide +kernel
theorem dX0_treesBy_257 : decode cX0_treesBy 257 = .ok (.if_icmp .ge 80, 3) := by decide +kernel
theorem dX0_treesBy_260 : decode cX0_treesBy 260 = .ok (.aload_n 0, 1) := by decide +kernel
theorem dX0_treesBy_261 : decode cX0_treesBy 261 = .ok (.getfield 43, 3) := by decide +kernel
theorem dX0_treesBy_264 : decode cX0_treesBy 264 = .ok (.iload 10, 2) := by decide +kernel
theorem dX0_treesBy_266 : decode cX0_treesBy 266 = .ok (.aaload, 1) := by decide +kernel
theorem dX0_treesBy_267 : decode cX0_treesBy 267 = .ok (.iload 6, 2) := by decide +kernel
theorem dX0_treesBy_269 : decode cX0_treesBy 269 = .ok (.laload, 1) := by decide +kernel
theorem dX0_treesBy_270 : decode cX0_treesBy 270 = .ok (.lload 8, 2) := by decide +kernel
theorem dX0_treesBy_272 : decode cX0_treesBy 272 = .ok (.lmul, 1) := by decide +kernel
theorem dX0_treesBy_273 : decode cX0_treesBy 273 = .ok (.lload_n 1, 1) := by decide +kernel
theorem dX0_treesBy_274 : decode cX0_treesBy 274 = .ok (.lrem, 1) := by decide +kernel
theorem dX0_treesBy_275 : decode cX0_treesBy 275 = .ok (.lstore 11, 2) := by decide +kernel
theorem dX0_treesBy_277 : decode cX0_treesBy 277 = .ok (.iload 6, 2) := by decide +kernel
theorem dX0_treesBy_279 : decode cX0_treesBy 279 = .ok (.istore 13, 2) := by decide +kernel
theorem dX0_treesBy_281 : decode cX0_treesBy 281 = .ok (.iload 13, 2) := by decide +kernel
theorem dX0_treesBy_283 : decode cX0_treesBy 283 = .ok (.iload_n 3, 1) := by decide +kernel
theorem dX0_treesBy_284 : decode cX0_treesBy 284 = .ok (.if_icmp .ge 47, 3) := by decide +kernel
theorem dX0_treesBy_287 : decode cX0_treesBy 287 = .ok (.aload_n 0, 1) := by decide +kernel
theorem dX0_treesBy_288 : decode cX0_treesBy 288 = .ok (.getfield 43, 3) := by decide +kernel
theorem dX0_treesBy_291 : decode cX0_treesBy 291 = .ok (.iload 10, 2) := by decide +kernel
theorem dX0_treesBy_293 : decode cX0_treesBy 293 = .ok (.aaload, 1) := by decide +kernel
theorem dX0_treesBy_294 : decode cX0_treesBy 294 = .ok (.iload 13, 2) := by decide +kernel
theorem dX0_treesBy_296 : decode cX0_treesBy 296 = .ok (.aload_n 0, 1) := by decide +kernel
theorem dX0_treesBy_297 : decode cX0_treesBy 297 = .ok (.getfield 43, 3) := by decide +kernel
theorem dX0_treesBy_300 : decode cX0_treesBy 300 = .ok (.iload 10, 2) := by decide +kernel
theorem dX0_treesBy_302 : decode cX0_treesBy 302 = .ok (.aaload, 1) := by decide +kernel
theorem dX0_treesBy_303 : decode cX0_treesBy 303 = .ok (.iload 13, 2) := by decide +kernel
theorem dX0_treesBy_305 : decode cX0_treesBy 305 = .ok (.laload, 1) := by decide +kernel
theorem dX0_treesBy_306 : decode cX0_treesBy 306 = .ok (.lload_n 1, 1) := by decide +kernel
theorem dX0_treesBy_307 : decode cX0_treesBy 307 = .ok (.lload 11, 2) := by decide +kernel
theorem dX0_treesBy_309 : decode cX0_treesBy 309 = .ok (.lsub, 1) := by decide +kernel
theorem dX0_treesBy_310 : decode cX0_treesBy 310 = .ok (.aload_n 0, 1) := by decide +kernel
theorem dX0_treesBy_311 : decode cX0_treesBy 311 = .ok (.getfield 43, 3) := by decide +kernel
theorem dX0_treesBy_314 : decode cX0_treesBy 314 = .ok (.iload 6, 2) := by decide +kernel
theorem dX0_treesBy_316 : decode cX0_treesBy 316 = .ok (.aaload, 1) := by decide +kernel
theorem dX0_treesBy_317 : decode cX0_treesBy 317 = .ok (.iload 13, 2) := by decide +kernel
theorem dX0_treesBy_319 : decode cX0_treesBy 319 = .ok (.laload, 1) := by decide +kernel
theorem dX0_treesBy_320 : decode cX0_treesBy 320 = .ok (.lmul, 1) := by decide +kernel
theorem dX0_treesBy_321 : decode cX0_treesBy 321 = .ok (.ladd, 1) := by decide +kernel
theorem dX0_treesBy_322 : decode cX0_treesBy 322 = .ok (.lload_n 1, 1) := by decide +kernel
theorem dX0_treesBy_323 : decode cX0_treesBy 323 = .ok (.lrem, 1) := by decide +kernel
theorem dX0_treesBy_324 : decode cX0_treesBy 324 = .ok (.lastore, 1) := by decide +kernel
theorem dX0_treesBy_325 : decode cX0_treesBy 325 = .ok (.iinc 13 1, 3) := by decide +kernel
theorem dX0_treesBy_328 : decode cX0_treesBy 328 = .ok (.goto (-47), 3) := by decide +kernel
theorem dX0_treesBy_331 : decode cX0_treesBy 331 = .ok (.iinc 10 1, 3) := by decide +kernel
theorem dX0_treesBy_334 : decode cX0_treesBy 334 = .ok (.goto (-80), 3) := by decide +kernel
theorem dX0_treesBy_337 : decode cX0_treesBy 337 = .ok (.iinc 6 1, 3) := by decide +kernel
theorem dX0_treesBy_340 : decode cX0_treesBy 340 = .ok (.goto (-220), 3) := by decide +kernel
theorem dX0_treesBy_343 : decode cX0_treesBy 343 = .ok (.lload 4, 2) := by decide +kernel
theorem dX0_treesBy_345 : decode cX0_treesBy 345 = .ok (.lload_n 1, 1) := by decide +kernel
theorem dX0_treesBy_346 : decode cX0_treesBy 346 = .ok (.lrem, 1) := by decide +kernel
theorem dX0_treesBy_347 : decode cX0_treesBy 347 = .ok (.lreturn, 1) := by decide +kernel
theorem dX0_power_0 : decode cX0_power 0 = .ok (.lconst 1, 1) := by decide +kernel
theorem dX0_power_1 : decode cX0_power 1 = .ok (.lstore 6, 2) := by decide +kernel
theorem dX0_power_3 : decode cX0_power 3 = .ok (.lload_n 0, 1) := by decide +kernel
theorem dX0_power_4 : decode cX0_power 4 = .ok (.lstore 8, 2) := by decide +kernel
theorem dX0_power_6 : decode cX0_power 6 = .ok (.lload_n 2, 1) := by decide +kernel
theorem dX0_power_7 : decode cX0_power 7 = .ok (.lstore 10, 2) := by decide +kernel
theorem dX0_power_9 : decode cX0_power 9 = .ok (.lload 10, 2) := by decide +kernel
theorem dX0_power_11 : decode cX0_power 11 = .ok (.lconst 0, 1) := by decide +kernel
theorem dX0_power_12 : decode cX0_power 12 = .ok (.lcmp, 1) := by decide +kernel
theorem dX0_power_13 : decode cX0_power 13 = .ok (.ifCond .le 46, 3) := by decide +kernel
theorem dX0_power_16 : decode cX0_power 16 = .ok (.lload 10, 2) := by decide +kernel
theorem dX0_power_18 : decode cX0_power 18 = .ok (.lconst 1, 1) := by decide +kernel
theorem dX0_power_19 : decode cX0_power 19 = .ok (.land, 1) := by decide +kernel
theorem dX0_power_20 : decode cX0_power 20 = .ok (.lconst 1, 1) := by decide +kernel
theorem dX0_power_21 : decode cX0_power 21 = .ok (.lcmp, 1) := by decide +kernel
theorem dX0_power_22 : decode cX0_power 22 = .ok (.ifCond .ne 14, 3) := by decide +kernel
theorem dX0_power_25 : decode cX0_power 25 = .ok (.lload 6, 2) := by decide +kernel
theorem dX0_power_27 : decode cX0_power 27 = .ok (.lload 8, 2) := by decide +kernel
theorem dX0_power_29 : decode cX0_power 29 = .ok (.lmul, 1) := by decide +kernel
theorem dX0_power_30 : decode cX0_power 30 = .ok (.lload 4, 2) := by decide +kernel
theorem dX0_power_32 : decode cX0_power 32 = .ok (.lrem, 1) := by decide +kernel
theorem dX0_power_33 : decode cX0_power 33 = .ok (.goto 5, 3) := by decide +kernel
theorem dX0_power_36 : decode cX0_power 36 = .ok (.lload 6, 2) := by decide +kernel
theorem dX0_power_38 : decode cX0_power 38 = .ok (.lstore 6, 2) := by decide +kernel
theorem dX0_power_40 : decode cX0_power 40 = .ok (.lload 8, 2) := by decide +kernel
theorem dX0_power_42 : decode cX0_power 42 = .ok (.lload 8, 2) := by decide +kernel
theorem dX0_power_44 : decode cX0_power 44 = .ok (.lmul, 1) := by decide +kernel
theorem dX0_power_45 : decode cX0_power 45 = .ok (.lload 4, 2) := by decide +kernel
theorem dX0_power_47 : decode cX0_power 47 = .ok (.lrem, 1) := by decide +kernel
theorem dX0_power_48 : decode cX0_power 48 = .ok (.lstore 8, 2) := by decide +kernel
theorem dX0_power_50 : decode cX0_power 50 = .ok (.lload 10, 2) := by decide +kernel
theorem dX0_power_52 : decode cX0_power 52 = .ok (.iconst 1, 1) := by decide +kernel
theorem dX0_power_53 : decode cX0_power 53 = .ok (.lshr, 1) := by decide +kernel
theorem dX0_power_54 : decode cX0_power 54 = .ok (.lstore 10, 2) := by decide +kernel
theorem dX0_power_56 : decode cX0_power 56 = .ok (.goto (-47), 3) := by decide +kernel
theorem dX0_power_59 : decode cX0_power 59 = .ok (.lload 6, 2) := by decide +kernel
theorem dX0_power_61 : decode cX0_power 61 = .ok (.lreturn, 1) := by decide +kernel
theorem dX0_lay_0 : decode cX0_lay 0 = .ok (.aload_n 0, 1) := by decide +kernel
theorem dX0_lay_1 : decode cX0_lay 1 = .ok (.iload_n 1, 1) := by decide +kernel
theorem dX0_lay_2 : decode cX0_lay 2 = .ok (.invokevirtual 173, 3) := by decide +kernel
theorem dX0_lay_5 : decode cX0_lay 5 = .ok (.ifCond .ne 5, 3) := by decide +kernel
theorem dX0_lay_8 : decode cX0_lay 8 = .ok (.iconst (-1), 1) := by decide +kernel
theorem dX0_lay_9 : decode cX0_lay 9 = .ok (.ireturn, 1) := by decide +kernel
theorem dX0_lay_10 : decode cX0_lay 10 = .ok (.aload_n 0, 1) := by decide +kernel
theorem dX0_lay_11 : decode cX0_lay 11 = .ok (.getfield 51, 3) := by decide +kernel
theorem dX0_lay_14 : decode cX0_lay 14 = .ok (.invokevirtual 136, 3) := by decide +kernel
theorem dX0_lay_17 : decode cX0_lay 17 = .ok (.aload_n 0, 1) := by decide +kernel
theorem dX0_lay_18 : decode cX0_lay 18 = .ok (.getfield 51, 3) := by decide +kernel
theorem dX0_lay_21 : decode cX0_lay 21 = .ok (.iload_n 1, 1) := by decide +kernel
theorem dX0_lay_22 : decode cX0_lay 22 = .ok (.invokevirtual 158, 3) := by decide +kernel
theorem dX0_lay_25 : decode cX0_lay 25 = .ok (.iconst 0, 1) := by decide +kernel
theorem dX0_lay_26 : decode cX0_lay 26 = .ok (.ireturn, 1) := by decide +kernel
theorem dX0_grow_0 : decode cX0_grow 0 = .ok (.aload_n 0, 1) := by decide +kernel
theorem dX0_grow_1 : decode cX0_grow 1 = .ok (.iload_n 1, 1) := by decide +kernel
theorem dX0_grow_2 : decode cX0_grow 2 = .ok (.invokevirtual 173, 3) := by decide +kernel
theorem dX0_grow_5 : decode cX0_grow 5 = .ok (.ifCond .eq 12, 3) := by decide +kernel
theorem dX0_grow_8 : decode cX0_grow 8 = .ok (.iload_n 2, 1) := by decide +kernel
theorem dX0_grow_9 : decode cX0_grow 9 = .ok (.iconst 0, 1) := by decide +kernel
theorem dX0_grow_10 : decode cX0_grow 10 = .ok (.iconst 3, 1) := by decide +kernel
theorem dX0_grow_11 : decode cX0_grow 11 = .ok (.invokestatic 169, 3) := by decide +kernel
theorem dX0_grow_14 : decode cX0_grow 14 = .ok (.ifCond .ne 5, 3) := by decide +kernel
theorem dX0_grow_17 : decode cX0_grow 17 = .ok (.iconst (-1), 1) := by decide +kernel
theorem dX0_grow_18 : decode cX0_grow 18 = .ok (.ireturn, 1) := by decide +kernel
theorem dX0_grow_19 : decode cX0_grow 19 = .ok (.aload_n 0, 1) := by decide +kernel
theorem dX0_grow_20 : decode cX0_grow 20 = .ok (.getfield 51, 3) := by decide +kernel
theorem dX0_grow_23 : decode cX0_grow 23 = .ok (.getfield 201, 3) := by decide +kernel
theorem dX0_grow_26 : decode cX0_grow 26 = .ok (.iload_n 1, 1) := by decide +kernel
theorem dX0_grow_27 : decode cX0_grow 27 = .ok (.baload, 1) := by decide +kernel
theorem dX0_grow_28 : decode cX0_grow 28 = .ok (.ifCond .ne 6, 3) := by decide +kernel
theorem dX0_grow_31 : decode cX0_grow 31 = .ok (.bipush (-2), 2) := by decide +kernel
theorem dX0_grow_33 : decode cX0_grow 33 = .ok (.ireturn, 1) := by decide +kernel
theorem dX0_grow_34 : decode cX0_grow 34 = .ok (.aload_n 0, 1) := by decide +kernel
theorem dX0_grow_35 : decode cX0_grow 35 = .ok (.getfield 51, 3) := by decide +kernel
theorem dX0_grow_38 : decode cX0_grow 38 = .ok (.iload_n 1, 1) := by decide +kernel
theorem dX0_grow_39 : decode cX0_grow 39 = .ok (.iload_n 2, 1) := by decide +kernel
theorem dX0_grow_40 : decode cX0_grow 40 = .ok (.invokevirtual 205, 3) := by decide +kernel
theorem dX0_grow_43 : decode cX0_grow 43 = .ok (.istore_n 3, 1) := by decide +kernel
theorem dX0_grow_44 : decode cX0_grow 44 = .ok (.aload_n 0, 1) := by decide +kernel
theorem dX0_grow_45 : decode cX0_grow 45 = .ok (.getfield 51, 3) := by decide +kernel
theorem dX0_grow_48 : decode cX0_grow 48 = .ok (.getfield 201, 3) := by decide +kernel
theorem dX0_grow_51 : decode cX0_grow 51 = .ok (.iload_n 3, 1) := by decide +kernel
theorem dX0_grow_52 : decode cX0_grow 52 = .ok (.baload, 1) := by decide +kernel
theorem dX0_grow_53 : decode cX0_grow 53 = .ok (.ifCond .eq 6, 3) := by decide +kernel
theorem dX0_grow_56 : decode cX0_grow 56 = .ok (.bipush (-3), 2) := by decide +kernel
theorem dX0_grow_58 : decode cX0_grow 58 = .ok (.ireturn, 1) := by decide +kernel
theorem dX0_grow_59 : decode cX0_grow 59 = .ok (.aload_n 0, 1) := by decide +kernel
theorem dX0_grow_60 : decode cX0_grow 60 = .ok (.getfield 51, 3) := by decide +kernel
theorem dX0_grow_63 : decode cX0_grow 63 = .ok (.aload_n 0, 1) := by decide +kernel
theorem dX0_grow_64 : decode cX0_grow 64 = .ok (.getfield 51, 3) := by decide +kernel
theorem dX0_grow_67 : decode cX0_grow 67 = .ok (.iload_n 1, 1) := by decide +kernel
theorem dX0_grow_68 : decode cX0_grow 68 = .ok (.iload_n 2, 1) := by decide +kernel
theorem dX0_grow_69 : decode cX0_grow 69 = .ok (.invokevirtual 207, 3) := by decide +kernel
theorem dX0_grow_72 : decode cX0_grow 72 = .ok (.aload_n 0, 1) := by decide +kernel
theorem dX0_grow_73 : decode cX0_grow 73 = .ok (.getfield 51, 3) := by decide +kernel
theorem dX0_grow_76 : decode cX0_grow 76 = .ok (.iload_n 1, 1) := by decide +kernel
theorem dX0_grow_77 : decode cX0_grow 77 = .ok (.iload_n 2, 1) := by decide +kernel
theorem dX0_grow_78 : decode cX0_grow 78 = .ok (.invokevirtual 210, 3) := by decide +kernel
theorem dX0_grow_81 : decode cX0_grow 81 = .ok (.invokevirtual 213, 3) := by decide +kernel
theorem dX0_grow_84 : decode cX0_grow 84 = .ok (.istore 4, 2) := by decide +kernel
theorem dX0_grow_86 : decode cX0_grow 86 = .ok (.iload 4, 2) := by decide +kernel
theorem dX0_grow_88 : decode cX0_grow 88 = .ok (.ifCond .lt 9, 3) := by decide +kernel
theorem dX0_grow_91 : decode cX0_grow 91 = .ok (.bipush (-10), 2) := by decide +kernel
theorem dX0_grow_93 : decode cX0_grow 93 = .ok (.iload 4, 2) := by decide +kernel
theorem dX0_grow_95 : decode cX0_grow 95 = .ok (.isub, 1) := by decide +kernel
theorem dX0_grow_96 : decode cX0_grow 96 = .ok (.ireturn, 1) := by decide +kernel
theorem dX0_grow_97 : decode cX0_grow 97 = .ok (.aload_n 0, 1) := by decide +kernel
theorem dX0_grow_98 : decode cX0_grow 98 = .ok (.getfield 51, 3) := by decide +kernel
theorem dX0_grow_101 : decode cX0_grow 101 = .ok (.iload_n 1, 1) := by decide +kernel
theorem dX0_grow_102 : decode cX0_grow 102 = .ok (.iload_n 2, 1) := by decide +kernel
theorem dX0_grow_103 : decode cX0_grow 103 = .ok (.invokevirtual 215, 3) := by decide +kernel
theorem dX0_grow_106 : decode cX0_grow 106 = .ok (.iload_n 3, 1) := by decide +kernel
theorem dX0_grow_107 : decode cX0_grow 107 = .ok (.ireturn, 1) := by decide +kernel
theorem dX0_paper_0 : decode cX0_paper 0 = .ok (.aload_n 0, 1) := by decide +kernel
theorem dX0_paper_1 : decode cX0_paper 1 = .ok (.iload_n 1, 1) := by decide +kernel
theorem dX0_paper_2 : decode cX0_paper 2 = .ok (.invokevirtual 173, 3) := by decide +kernel
theorem dX0_paper_5 : decode cX0_paper 5 = .ok (.ifCond .eq 24, 3) := by decide +kernel
theorem dX0_paper_8 : decode cX0_paper 8 = .ok (.aload_n 0, 1) := by decide +kernel
theorem dX0_paper_9 : decode cX0_paper 9 = .ok (.getfield 51, 3) := by decide +kernel
theorem dX0_paper_12 : decode cX0_paper 12 = .ok (.getfield 201, 3) := by decide +kernel
theorem dX0_paper_15 : decode cX0_paper 15 = .ok (.iload_n 1, 1) := by decide +kernel
theorem dX0_paper_16 : decode cX0_paper 16 = .ok (.baload, 1) := by decide +kernel
theorem dX0_paper_17 : decode cX0_paper 17 = .ok (.ifCond .eq 12, 3) := by decide +kernel
theorem dX0_paper_20 : decode cX0_paper 20 = .ok (.iload_n 2, 1) := by decide +kernel
theorem dX0_paper_21 : decode cX0_paper 21 = .ok (.iconst 0, 1) := by decide +kernel
theorem dX0_paper_22 : decode cX0_paper 22 = .ok (.iconst 3, 1) := by decide +kernel
theorem dX0_paper_23 : decode cX0_paper 23 = .ok (.invokestatic 169, 3) := by decide +kernel
theorem dX0_paper_26 : decode cX0_paper 26 = .ok (.ifCond .ne 7, 3) := by decide +kernel
theorem dX0_paper_29 : decode cX0_paper 29 = .ok (.sipush (-1000), 3) := by decide +kernel
theorem dX0_paper_32 : decode cX0_paper 32 = .ok (.ireturn, 1) := by decide +kernel
theorem dX0_paper_33 : decode cX0_paper 33 = .ok (.iload_n 2, 1) := by decide +kernel
theorem dX0_paper_34 : decode cX0_paper 34 = .ok (.ifCond .ne 15, 3) := by decide +kernel
theorem dX0_paper_37 : decode cX0_paper 37 = .ok (.aload_n 0, 1) := by decide +kernel
theorem dX0_paper_38 : decode cX0_paper 38 = .ok (.getfield 51, 3) := by decide +kernel
theorem dX0_paper_41 : decode cX0_paper 41 = .ok (.getfield 219, 3) := by decide +kernel
theorem dX0_paper_44 : decode cX0_paper 44 = .ok (.iload_n 1, 1) := by decide +kernel
theorem dX0_paper_45 : decode cX0_paper 45 = .ok (.iaload, 1) := by decide +kernel
theorem dX0_paper_46 : decode cX0_paper 46 = .ok (.goto 46, 3) := by decide +kernel
theorem dX0_paper_49 : decode cX0_paper 49 = .ok (.iload_n 2, 1) := by decide +kernel
theorem dX0_paper_50 : decode cX0_paper 50 = .ok (.iconst 1, 1) := by decide +kernel
theorem dX0_paper_51 : decode cX0_paper 51 = .ok (.if_icmp .ne 15, 3) := by decide +kernel
theorem dX0_paper_54 : decode cX0_paper 54 = .ok (.aload_n 0, 1) := by decide +kernel
theorem dX0_paper_55 : decode cX0_paper 55 = .ok (.getfield 51, 3) := by decide +kernel
theorem dX0_paper_58 : decode cX0_paper 58 = .ok (.getfield 221, 3) := by decide +kernel
theorem dX0_paper_61 : decode cX0_paper 61 = .ok (.iload_n 1, 1) := by decide +kernel
theorem dX0_paper_62 : decode cX0_paper 62 = .ok (.iaload, 1) := by decide +kernel
theorem dX0_paper_63 : decode cX0_paper 63 = .ok (.goto 29, 3) := by decide +kernel
theorem dX0_paper_66 : decode cX0_paper 66 = .ok (.iload_n 2, 1) := by decide +kernel
theorem dX0_paper_67 : decode cX0_paper 67 = .ok (.iconst 2, 1) := by decide +kernel
theorem dX0_paper_68 : decode cX0_paper 68 = .ok (.if_icmp .ne 15, 3) := by decide +kernel
theorem dX0_paper_71 : decode cX0_paper 71 = .ok (.aload_n 0, 1) := by decide +kernel
theorem dX0_paper_72 : decode cX0_paper 72 = .ok (.getfield 51, 3) := by decide +kernel
theorem dX0_paper_75 : decode cX0_paper 75 = .ok (.getfield 223, 3) := by decide +kernel
theorem dX0_paper_78 : decode cX0_paper 78 = .ok (.iload_n 1, 1) := by decide +kernel
theorem dX0_paper_79 : decode cX0_paper 79 = .ok (.iaload, 1) := by decide +kernel
theorem dX0_paper_80 : decode cX0_paper 80 = .ok (.goto 12, 3) := by decide +kernel
theorem dX0_paper_83 : decode cX0_paper 83 = .ok (.aload_n 0, 1) := by decide +kernel
theorem dX0_paper_84 : decode cX0_paper 84 = .ok (.getfield 51, 3) := by decide +kernel
theorem dX0_paper_87 : decode cX0_paper 87 = .ok (.getfield 226, 3) := by decide +kernel
theorem dX0_paper_90 : decode cX0_paper 90 = .ok (.iload_n 1, 1) := by decide +kernel
theorem dX0_paper_91 : decode cX0_paper 91 = .ok (.iaload, 1) := by decide +kernel
theorem dX0_paper_92 : decode cX0_paper 92 = .ok (.ireturn, 1) := by decide +kernel
theorem dX0_run_0 : decode cX0_run 0 = .ok (.iload_n 1, 1) := by decide +kernel
theorem dX0_run_1 : decode cX0_run 1 = .ok (.iconst 1, 1) := by decide +kernel
theorem dX0_run_2 : decode cX0_run 2 = .ok (.sipush 500, 3) := by decide +kernel
theorem dX0_run_5 : decode cX0_run 5 = .ok (.invokestatic 169, 3) := by decide +kernel
theorem dX0_run_8 : decode cX0_run 8 = .ok (.ifCond .ne 5, 3) := by decide +kernel
theorem dX0_run_11 : decode cX0_run 11 = .ok (.iconst (-1), 1) := by decide +kernel
theorem dX0_run_12 : decode cX0_run 12 = .ok (.ireturn, 1) := by decide +kernel
theorem dX0_run_13 : decode cX0_run 13 = .ok (.aload_n 0, 1) := by decide +kernel
theorem dX0_run_14 : decode cX0_run 14 = .ok (.getfield 100, 3) := by decide +kernel
theorem dX0_run_17 : decode cX0_run 17 = .ok (.ifCond .ne 6, 3) := by decide +kernel
theorem dX0_run_20 : decode cX0_run 20 = .ok (.bipush (-2), 2) := by decide +kernel
theorem dX0_run_22 : decode cX0_run 22 = .ok (.ireturn, 1) := by decide +kernel
theorem dX0_run_23 : decode cX0_run 23 = .ok (.iload_n 1, 1) := by decide +kernel
theorem dX0_run_24 : decode cX0_run 24 = .ok (.istore_n 2, 1) := by decide +kernel
theorem dX0_run_25 : decode cX0_run 25 = .ok (.aload_n 0, 1) := by decide +kernel
theorem dX0_run_26 : decode cX0_run 26 = .ok (.getfield 151, 3) := by decide +kernel
theorem dX0_run_29 : decode cX0_run 29 = .ok (.ifCond .ne 203, 3) := by decide +kernel
theorem dX0_run_32 : decode cX0_run 32 = .ok (.aload_n 0, 1) := by decide +kernel
theorem dX0_run_33 : decode cX0_run 33 = .ok (.getfield 142, 3) := by decide +kernel
theorem dX0_run_36 : decode cX0_run 36 = .ok (.iconst 4, 1) := by decide +kernel
theorem dX0_run_37 : decode cX0_run 37 = .ok (.aload_n 0, 1) := by decide +kernel
theorem dX0_run_38 : decode cX0_run 38 = .ok (.getfield 55, 3) := by decide +kernel
theorem dX0_run_41 : decode cX0_run 41 = .ok (.getfield 229, 3) := by decide +kernel
theorem dX0_run_44 : decode cX0_run 44 = .ok (.imul, 1) := by decide +kernel
theorem dX0_run_45 : decode cX0_run 45 = .ok (.if_icmp .ne 28, 3) := by decide +kernel
theorem dX0_run_48 : decode cX0_run 48 = .ok (.aload_n 0, 1) := by decide +kernel
theorem dX0_run_49 : decode cX0_run 49 = .ok (.getfield 55, 3) := by decide +kernel
theorem dX0_run_52 : decode cX0_run 52 = .ok (.getfield 229, 3) := by decide +kernel
