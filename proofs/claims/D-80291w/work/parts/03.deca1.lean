set_option maxRecDepth 100000
theorem dX0_run_55 : decode cX0_run 55 = .ok (.aload_n 0, 1) := by decide +kernel
theorem dX0_run_56 : decode cX0_run 56 = .ok (.getfield 123, 3) := by decide +kernel
theorem dX0_run_59 : decode cX0_run 59 = .ok (.if_icmp .ne 7, 3) := by decide +kernel
theorem dX0_run_62 : decode cX0_run 62 = .ok (.aload_n 0, 1) := by decide +kernel
theorem dX0_run_63 : decode cX0_run 63 = .ok (.invokevirtual 232, 3) := by decide +kernel
theorem dX0_run_66 : decode cX0_run 66 = .ok (.aload_n 0, 1) := by decide +kernel
theorem dX0_run_67 : decode cX0_run 67 = .ok (.invokevirtual 235, 3) := by decide +kernel
theorem dX0_run_70 : decode cX0_run 70 = .ok (.goto (-45), 3) := by decide +kernel
theorem dX0_run_73 : decode cX0_run 73 = .ok (.aload_n 0, 1) := by decide +kernel
theorem dX0_run_74 : decode cX0_run 74 = .ok (.getfield 55, 3) := by decide +kernel
theorem dX0_run_77 : decode cX0_run 77 = .ok (.getfield 238, 3) := by decide +kernel
theorem dX0_run_80 : decode cX0_run 80 = .ok (.aload_n 0, 1) := by decide +kernel
theorem dX0_run_81 : decode cX0_run 81 = .ok (.getfield 142, 3) := by decide +kernel
theorem dX0_run_84 : decode cX0_run 84 = .ok (.iconst 4, 1) := by decide +kernel
theorem dX0_run_85 : decode cX0_run 85 = .ok (.idiv, 1) := by decide +kernel
theorem dX0_run_86 : decode cX0_run 86 = .ok (.iaload, 1) := by decide +kernel
theorem dX0_run_87 : decode cX0_run 87 = .ok (.istore_n 3, 1) := by decide +kernel
theorem dX0_run_88 : decode cX0_run 88 = .ok (.aload_n 0, 1) := by decide +kernel
theorem dX0_run_89 : decode cX0_run 89 = .ok (.getfield 142, 3) := by decide +kernel
theorem dX0_run_92 : decode cX0_run 92 = .ok (.iconst 4, 1) := by decide +kernel
theorem dX0_run_93 : decode cX0_run 93 = .ok (.irem, 1) := by decide +kernel
theorem dX0_run_94 : decode cX0_run 94 = .ok (.istore 4, 2) := by decide +kernel
theorem dX0_run_96 : decode cX0_run 96 = .ok (.aload_n 0, 1) := by decide +kernel
theorem dX0_run_97 : decode cX0_run 97 = .ok (.getfield 55, 3) := by decide +kernel
theorem dX0_run_100 : decode cX0_run 100 = .ok (.getfield 201, 3) := by decide +kernel
theorem dX0_run_103 : decode cX0_run 103 = .ok (.aload_n 0, 1) := by decide +kernel
theorem dX0_run_104 : decode cX0_run 104 = .ok (.getfield 55, 3) := by decide +kernel
theorem dX0_run_107 : decode cX0_run 107 = .ok (.iload_n 3, 1) := by decide +kernel
theorem dX0_run_108 : decode cX0_run 108 = .ok (.iload 4, 2) := by decide +kernel
theorem dX0_run_110 : decode cX0_run 110 = .ok (.invokevirtual 205, 3) := by decide +kernel
theorem dX0_run_113 : decode cX0_run 113 = .ok (.baload, 1) := by decide +kernel
theorem dX0_run_114 : decode cX0_run 114 = .ok (.ifCond .ne 37, 3) := by decide +kernel
theorem dX0_run_117 : decode cX0_run 117 = .ok (.aload_n 0, 1) := by decide +kernel
theorem dX0_run_118 : decode cX0_run 118 = .ok (.getfield 55, 3) := by decide +kernel
theorem dX0_run_121 : decode cX0_run 121 = .ok (.aload_n 0, 1) := by decide +kernel
theorem dX0_run_122 : decode cX0_run 122 = .ok (.getfield 55, 3) := by decide +kernel
theorem dX0_run_125 : decode cX0_run 125 = .ok (.iload_n 3, 1) := by decide +kernel
theorem dX0_run_126 : decode cX0_run 126 = .ok (.iload 4, 2) := by decide +kernel
theorem dX0_run_128 : decode cX0_run 128 = .ok (.invokevirtual 207, 3) := by decide +kernel
theorem dX0_run_131 : decode cX0_run 131 = .ok (.aload_n 0, 1) := by decide +kernel
theorem dX0_run_132 : decode cX0_run 132 = .ok (.getfield 55, 3) := by decide +kernel
theorem dX0_run_135 : decode cX0_run 135 = .ok (.iload_n 3, 1) := by decide +kernel
theorem dX0_run_136 : decode cX0_run 136 = .ok (.iload 4, 2) := by decide +kernel
theorem dX0_run_138 : decode cX0_run 138 = .ok (.invokevirtual 210, 3) := by decide +kernel
theorem dX0_run_141 : decode cX0_run 141 = .ok (.invokevirtual 213, 3) := by decide +kernel
theorem dX0_run_144 : decode cX0_run 144 = .ok (.ifCond .ge 7, 3) := by decide +kernel
theorem dX0_run_147 : decode cX0_run 147 = .ok (.iconst 1, 1) := by decide +kernel
theorem dX0_run_148 : decode cX0_run 148 = .ok (.goto 4, 3) := by decide +kernel
theorem dX0_run_151 : decode cX0_run 151 = .ok (.iconst 0, 1) := by decide +kernel
theorem dX0_run_152 : decode cX0_run 152 = .ok (.istore 5, 2) := by decide +kernel
theorem dX0_run_154 : decode cX0_run 154 = .ok (.iload 5, 2) := by decide +kernel
theorem dX0_run_156 : decode cX0_run 156 = .ok (.ifCond .eq 12, 3) := by decide +kernel
theorem dX0_run_159 : decode cX0_run 159 = .ok (.iload_n 2, 1) := by decide +kernel
theorem dX0_run_160 : decode cX0_run 160 = .ok (.ifCond .ne 8, 3) := by decide +kernel
theorem dX0_run_163 : decode cX0_run 163 = .ok (.aload_n 0, 1) := by decide +kernel
theorem dX0_run_164 : decode cX0_run 164 = .ok (.getfield 145, 3) := by decide +kernel
theorem dX0_run_167 : decode cX0_run 167 = .ok (.ireturn, 1) := by decide +kernel
theorem dX0_run_168 : decode cX0_run 168 = .ok (.iload 5, 2) := by decide +kernel
theorem dX0_run_170 : decode cX0_run 170 = .ok (.ifCond .eq 49, 3) := by decide +kernel
theorem dX0_run_173 : decode cX0_run 173 = .ok (.iinc 2 (-1), 3) := by decide +kernel
theorem dX0_run_176 : decode cX0_run 176 = .ok (.aload_n 0, 1) := by decide +kernel
theorem dX0_run_177 : decode cX0_run 177 = .ok (.dup, 1) := by decide +kernel
theorem dX0_run_178 : decode cX0_run 178 = .ok (.getfield 148, 3) := by decide +kernel
theorem dX0_run_181 : decode cX0_run 181 = .ok (.iconst 1, 1) := by decide +kernel
theorem dX0_run_182 : decode cX0_run 182 = .ok (.iadd, 1) := by decide +kernel
theorem dX0_run_183 : decode cX0_run 183 = .ok (.putfield 148, 3) := by decide +kernel
theorem dX0_run_186 : decode cX0_run 186 = .ok (.aload_n 0, 1) := by decide +kernel
theorem dX0_run_187 : decode cX0_run 187 = .ok (.getfield 55, 3) := by decide +kernel
theorem dX0_run_190 : decode cX0_run 190 = .ok (.iload_n 3, 1) := by decide +kernel
theorem dX0_run_191 : decode cX0_run 191 = .ok (.iload 4, 2) := by decide +kernel
theorem dX0_run_193 : decode cX0_run 193 = .ok (.invokevirtual 215, 3) := by decide +kernel
theorem dX0_run_196 : decode cX0_run 196 = .ok (.aload_n 0, 1) := by decide +kernel
theorem dX0_run_197 : decode cX0_run 197 = .ok (.getfield 58, 3) := by decide +kernel
theorem dX0_run_200 : decode cX0_run 200 = .ok (.aload_n 0, 1) := by decide +kernel
theorem dX0_run_201 : decode cX0_run 201 = .ok (.getfield 139, 3) := by decide +kernel
theorem dX0_run_204 : decode cX0_run 204 = .ok (.aload_n 0, 1) := by decide +kernel
theorem dX0_run_205 : decode cX0_run 205 = .ok (.getfield 142, 3) := by decide +kernel
theorem dX0_run_208 : decode cX0_run 208 = .ok (.iastore, 1) := by decide +kernel
theorem dX0_run_209 : decode cX0_run 209 = .ok (.aload_n 0, 1) := by decide +kernel
theorem dX0_run_210 : decode cX0_run 210 = .ok (.dup, 1) := by decide +kernel
theorem dX0_run_211 : decode cX0_run 211 = .ok (.getfield 139, 3) := by decide +kernel
theorem dX0_run_214 : decode cX0_run 214 = .ok (.iconst 1, 1) := by decide +kernel
theorem dX0_run_215 : decode cX0_run 215 = .ok (.iadd, 1) := by decide +kernel
theorem dX0_run_216 : decode cX0_run 216 = .ok (.putfield 139, 3) := by decide +kernel
theorem dX0_run_219 : decode cX0_run 219 = .ok (.aload_n 0, 1) := by decide +kernel
theorem dX0_run_220 : decode cX0_run 220 = .ok (.dup, 1) := by decide +kernel
theorem dX0_run_221 : decode cX0_run 221 = .ok (.getfield 142, 3) := by decide +kernel
theorem dX0_run_224 : decode cX0_run 224 = .ok (.iconst 1, 1) := by decide +kernel
theorem dX0_run_225 : decode cX0_run 225 = .ok (.iadd, 1) := by decide +kernel
theorem dX0_run_226 : decode cX0_run 226 = .ok (.putfield 142, 3) := by decide +kernel
theorem dX0_run_229 : decode cX0_run 229 = .ok (.goto (-204), 3) := by decide +kernel
theorem dX0_run_232 : decode cX0_run 232 = .ok (.aload_n 0, 1) := by decide +kernel
theorem dX0_run_233 : decode cX0_run 233 = .ok (.getfield 145, 3) := by decide +kernel
theorem dX0_run_236 : decode cX0_run 236 = .ok (.ireturn, 1) := by decide +kernel
theorem dX0_found_0 : decode cX0_found 0 = .ok (.iconst 0, 1) := by decide +kernel
theorem dX0_found_1 : decode cX0_found 1 = .ok (.istore_n 1, 1) := by decide +kernel
theorem dX0_found_2 : decode cX0_found 2 = .ok (.iconst 0, 1) := by decide +kernel
theorem dX0_found_3 : decode cX0_found 3 = .ok (.istore_n 2, 1) := by decide +kernel
theorem dX0_found_4 : decode cX0_found 4 = .ok (.iconst 0, 1) := by decide +kernel
theorem dX0_found_5 : decode cX0_found 5 = .ok (.istore_n 3, 1) := by decide +kernel
theorem dX0_found_6 : decode cX0_found 6 = .ok (.iconst 0, 1) := by decide +kernel
theorem dX0_found_7 : decode cX0_found 7 = .ok (.istore 4, 2) := by decide +kernel
theorem dX0_found_9 : decode cX0_found 9 = .ok (.iconst 0, 1) := by decide +kernel
theorem dX0_found_10 : decode cX0_found 10 = .ok (.istore 5, 2) := by decide +kernel
theorem dX0_found_12 : decode cX0_found 12 = .ok (.iload 5, 2) := by decide +kernel
theorem dX0_found_14 : decode cX0_found 14 = .ok (.aload_n 0, 1) := by decide +kernel
theorem dX0_found_15 : decode cX0_found 15 = .ok (.getfield 123, 3) := by decide +kernel
theorem dX0_found_18 : decode cX0_found 18 = .ok (.if_icmp .ge 71, 3) := by decide +kernel
theorem dX0_found_21 : decode cX0_found 21 = .ok (.iload_n 1, 1) := by decide +kernel
theorem dX0_found_22 : decode cX0_found 22 = .ok (.aload_n 0, 1) := by decide +kernel
theorem dX0_found_23 : decode cX0_found 23 = .ok (.getfield 55, 3) := by decide +kernel
theorem dX0_found_26 : decode cX0_found 26 = .ok (.getfield 219, 3) := by decide +kernel
theorem dX0_found_29 : decode cX0_found 29 = .ok (.iload 5, 2) := by decide +kernel
theorem dX0_found_31 : decode cX0_found 31 = .ok (.iaload, 1) := by decide +kernel
theorem dX0_found_32 : decode cX0_found 32 = .ok (.invokestatic 244, 3) := by decide +kernel
theorem dX0_found_35 : decode cX0_found 35 = .ok (.istore_n 1, 1) := by decide +kernel
theorem dX0_found_36 : decode cX0_found 36 = .ok (.iload_n 2, 1) := by decide +kernel
theorem dX0_found_37 : decode cX0_found 37 = .ok (.aload_n 0, 1) := by decide +kernel
theorem dX0_found_38 : decode cX0_found 38 = .ok (.getfield 55, 3) := by decide +kernel
theorem dX0_found_41 : decode cX0_found 41 = .ok (.getfield 219, 3) := by decide +kernel
theorem dX0_found_44 : decode cX0_found 44 = .ok (.iload 5, 2) := by decide +kernel
theorem dX0_found_46 : decode cX0_found 46 = .ok (.iaload, 1) := by decide +kernel
theorem dX0_found_47 : decode cX0_found 47 = .ok (.invokestatic 249, 3) := by decide +kernel
theorem dX0_found_50 : decode cX0_found 50 = .ok (.istore_n 2, 1) := by decide +kernel
theorem dX0_found_51 : decode cX0_found 51 = .ok (.iload_n 3, 1) := by decide +kernel
theorem dX0_found_52 : decode cX0_found 52 = .ok (.aload_n 0, 1) := by decide +kernel
theorem dX0_found_53 : decode cX0_found 53 = .ok (.getfield 55, 3) := by decide +kernel
theorem dX0_found_56 : decode cX0_found 56 = .ok (.getfield 221, 3) := by decide +kernel
theorem dX0_found_59 : decode cX0_found 59 = .ok (.iload 5, 2) := by decide +kernel
theorem dX0_found_61 : decode cX0_found 61 = .ok (.iaload, 1) := by decide +kernel
theorem dX0_found_62 : decode cX0_found 62 = .ok (.invokestatic 244, 3) := by decide +kernel
theorem dX0_found_65 : decode cX0_found 65 = .ok (.istore_n 3, 1) := by decide +kernel
theorem dX0_found_66 : decode cX0_found 66 = .ok (.iload 4, 2) := by decide +kernel
theorem dX0_found_68 : decode cX0_found 68 = .ok (.aload_n 0, 1) := by decide +kernel
theorem dX0_found_69 : decode cX0_found 69 = .ok (.getfield 55, 3) := by decide +kernel
theorem dX0_found_72 : decode cX0_found 72 = .ok (.getfield 221, 3) := by decide +kernel
theorem dX0_found_75 : decode cX0_found 75 = .ok (.iload 5, 2) := by decide +kernel
theorem dX0_found_77 : decode cX0_found 77 = .ok (.iaload, 1) := by decide +kernel
theorem dX0_found_78 : decode cX0_found 78 = .ok (.invokestatic 249, 3) := by decide +kernel
theorem dX0_found_81 : decode cX0_found 81 = .ok (.istore 4, 2) := by decide +kernel
theorem dX0_found_83 : decode cX0_found 83 = .ok (.iinc 5 1, 3) := by decide +kernel
theorem dX0_found_86 : decode cX0_found 86 = .ok (.goto (-74), 3) := by decide +kernel
theorem dX0_found_89 : decode cX0_found 89 = .ok (.iload_n 2, 1) := by decide +kernel
theorem dX0_found_90 : decode cX0_found 90 = .ok (.iload_n 1, 1) := by decide +kernel
theorem dX0_found_91 : decode cX0_found 91 = .ok (.isub, 1) := by decide +kernel
theorem dX0_found_92 : decode cX0_found 92 = .ok (.iconst 1, 1) := by decide +kernel
theorem dX0_found_93 : decode cX0_found 93 = .ok (.iadd, 1) := by decide +kernel
theorem dX0_found_94 : decode cX0_found 94 = .ok (.istore 5, 2) := by decide +kernel
theorem dX0_found_96 : decode cX0_found 96 = .ok (.iload 4, 2) := by decide +kernel
theorem dX0_found_98 : decode cX0_found 98 = .ok (.iload_n 3, 1) := by decide +kernel
theorem dX0_found_99 : decode cX0_found 99 = .ok (.isub, 1) := by decide +kernel
theorem dX0_found_100 : decode cX0_found 100 = .ok (.iconst 1, 1) := by decide +kernel
theorem dX0_found_101 : decode cX0_found 101 = .ok (.iadd, 1) := by decide +kernel
theorem dX0_found_102 : decode cX0_found 102 = .ok (.istore 6, 2) := by decide +kernel
theorem dX0_found_104 : decode cX0_found 104 = .ok (.aload_n 0, 1) := by decide +kernel
theorem dX0_found_105 : decode cX0_found 105 = .ok (.getfield 155, 3) := by decide +kernel
theorem dX0_found_108 : decode cX0_found 108 = .ok (.bipush (-9), 2) := by decide +kernel
theorem dX0_found_110 : decode cX0_found 110 = .ok (.if_icmp .eq 20, 3) := by decide +kernel
theorem dX0_found_113 : decode cX0_found 113 = .ok (.iload 5, 2) := by decide +kernel
theorem dX0_found_115 : decode cX0_found 115 = .ok (.iload 6, 2) := by decide +kernel
theorem dX0_found_117 : decode cX0_found 117 = .ok (.imul, 1) := by decide +kernel
theorem dX0_found_118 : decode cX0_found 118 = .ok (.aload_n 0, 1) := by decide +kernel
theorem dX0_found_119 : decode cX0_found 119 = .ok (.getfield 252, 3) := by decide +kernel
theorem dX0_found_122 : decode cX0_found 122 = .ok (.aload_n 0, 1) := by decide +kernel
theorem dX0_found_123 : decode cX0_found 123 = .ok (.getfield 255, 3) := by decide +kernel
theorem dX0_found_126 : decode cX0_found 126 = .ok (.imul, 1) := by decide +kernel
theorem dX0_found_127 : decode cX0_found 127 = .ok (.if_icmp .ge 63, 3) := by decide +kernel
theorem dX0_found_130 : decode cX0_found 130 = .ok (.aload_n 0, 1) := by decide +kernel
theorem dX0_found_131 : decode cX0_found 131 = .ok (.aload_n 0, 1) := by decide +kernel
theorem dX0_found_132 : decode cX0_found 132 = .ok (.getfield 145, 3) := by decide +kernel
theorem dX0_found_135 : decode cX0_found 135 = .ok (.putfield 155, 3) := by decide +kernel
theorem dX0_found_138 : decode cX0_found 138 = .ok (.aload_n 0, 1) := by decide +kernel
theorem dX0_found_139 : decode cX0_found 139 = .ok (.iload 5, 2) := by decide +kernel
theorem dX0_found_141 : decode cX0_found 141 = .ok (.putfield 252, 3) := by decide +kernel
theorem dX0_found_144 : decode cX0_found 144 = .ok (.aload_n 0, 1) := by decide +kernel
theorem dX0_found_145 : decode cX0_found 145 = .ok (.iload 6, 2) := by decide +kernel
theorem dX0_found_147 : decode cX0_found 147 = .ok (.putfield 255, 3) := by decide +kernel
theorem dX0_found_150 : decode cX0_found 150 = .ok (.aload_n 0, 1) := by decide +kernel
theorem dX0_found_151 : decode cX0_found 151 = .ok (.getfield 55, 3) := by decide +kernel
theorem dX0_found_154 : decode cX0_found 154 = .ok (.getfield 219, 3) := by decide +kernel
theorem dX0_found_157 : decode cX0_found 157 = .ok (.iconst 0, 1) := by decide +kernel
theorem dX0_found_158 : decode cX0_found 158 = .ok (.aload_n 0, 1) := by decide +kernel
theorem dX0_found_159 : decode cX0_found 159 = .ok (.getfield 61, 3) := by decide +kernel
theorem dX0_found_162 : decode cX0_found 162 = .ok (.iconst 0, 1) := by decide +kernel
theorem dX0_found_163 : decode cX0_found 163 = .ok (.aload_n 0, 1) := by decide +kernel
theorem dX0_found_164 : decode cX0_found 164 = .ok (.getfield 123, 3) := by decide +kernel
theorem dX0_found_167 : decode cX0_found 167 = .ok (.invokestatic 258, 3) := by decide +kernel
theorem dX0_found_170 : decode cX0_found 170 = .ok (.aload_n 0, 1) := by decide +kernel
theorem dX0_found_171 : decode cX0_found 171 = .ok (.getfield 55, 3) := by decide +kernel
theorem dX0_found_174 : decode cX0_found 174 = .ok (.getfield 221, 3) := by decide +kernel
theorem dX0_found_177 : decode cX0_found 177 = .ok (.iconst 0, 1) := by decide +kernel
theorem dX0_found_178 : decode cX0_found 178 = .ok (.aload_n 0, 1) := by decide +kernel
theorem dX0_found_179 : decode cX0_found 179 = .ok (.getfield 64, 3) := by decide +kernel
theorem dX0_found_182 : decode cX0_found 182 = .ok (.iconst 0, 1) := by decide +kernel
theorem dX0_found_183 : decode cX0_found 183 = .ok (.aload_n 0, 1) := by decide +kernel
theorem dX0_found_184 : decode cX0_found 184 = .ok (.getfield 123, 3) := by decide +kernel
theorem dX0_found_187 : decode cX0_found 187 = .ok (.invokestatic 258, 3) := by decide +kernel
theorem dX0_found_190 : decode cX0_found 190 = .ok (.aload_n 0, 1) := by decide +kernel
theorem dX0_found_191 : decode cX0_found 191 = .ok (.dup, 1) := by decide +kernel
theorem dX0_found_192 : decode cX0_found 192 = .ok (.getfield 145, 3) := by decide +kernel
theorem dX0_found_195 : decode cX0_found 195 = .ok (.iconst 1, 1) := by decide +kernel
theorem dX0_found_196 : decode cX0_found 196 = .ok (.iadd, 1) := by decide +kernel
theorem dX0_found_197 : decode cX0_found 197 = .ok (.putfield 145, 3) := by decide +kernel
theorem dX0_found_200 : decode cX0_found 200 = .ok (.aload_n 0, 1) := by decide +kernel
theorem dX0_found_201 : decode cX0_found 201 = .ok (.invokevirtual 264, 3) := by decide +kernel
theorem dX0_found_204 : decode cX0_found 204 = .ok (.return_, 1) := by decide +kernel
theorem dX0_keep_0 : decode cX0_keep 0 = .ok (.iconst 0, 1) := by decide +kernel
theorem dX0_keep_1 : decode cX0_keep 1 = .ok (.istore_n 1, 1) := by decide +kernel
theorem dX0_keep_2 : decode cX0_keep 2 = .ok (.iload_n 1, 1) := by decide +kernel
theorem dX0_keep_3 : decode cX0_keep 3 = .ok (.bipush 8, 2) := by decide +kernel
theorem dX0_keep_5 : decode cX0_keep 5 = .ok (.if_icmp .ge 53, 3) := by decide +kernel
theorem dX0_keep_8 : decode cX0_keep 8 = .ok (.aload_n 0, 1) := by decide +kernel
theorem dX0_keep_9 : decode cX0_keep 9 = .ok (.iload_n 1, 1) := by decide +kernel
theorem dX0_keep_10 : decode cX0_keep 10 = .ok (.invokevirtual 277, 3) := by decide +kernel
theorem dX0_keep_13 : decode cX0_keep 13 = .ok (.iload_n 1, 1) := by decide +kernel
theorem dX0_keep_14 : decode cX0_keep 14 = .ok (.ifCond .eq 21, 3) := by decide +kernel
theorem dX0_keep_17 : decode cX0_keep 17 = .ok (.aload_n 0, 1) := by decide +kernel
theorem dX0_keep_18 : decode cX0_keep 18 = .ok (.getfield 75, 3) := by decide +kernel
theorem dX0_keep_21 : decode cX0_keep 21 = .ok (.aload_n 0, 1) := by decide +kernel
theorem dX0_keep_22 : decode cX0_keep 22 = .ok (.getfield 78, 3) := by decide +kernel
theorem dX0_keep_25 : decode cX0_keep 25 = .ok (.aload_n 0, 1) := by decide +kernel
theorem dX0_keep_26 : decode cX0_keep 26 = .ok (.getfield 123, 3) := by decide +kernel
theorem dX0_keep_29 : decode cX0_keep 29 = .ok (.invokestatic 280, 3) := by decide +kernel
theorem dX0_keep_32 : decode cX0_keep 32 = .ok (.ifCond .eq 20, 3) := by decide +kernel
theorem dX0_keep_35 : decode cX0_keep 35 = .ok (.aload_n 0, 1) := by decide +kernel
theorem dX0_keep_36 : decode cX0_keep 36 = .ok (.getfield 75, 3) := by decide +kernel
theorem dX0_keep_39 : decode cX0_keep 39 = .ok (.iconst 0, 1) := by decide +kernel
theorem dX0_keep_40 : decode cX0_keep 40 = .ok (.aload_n 0, 1) := by decide +kernel
theorem dX0_keep_41 : decode cX0_keep 41 = .ok (.getfield 78, 3) := by decide +kernel
theorem dX0_keep_44 : decode cX0_keep 44 = .ok (.iconst 0, 1) := by decide +kernel
theorem dX0_keep_45 : decode cX0_keep 45 = .ok (.aload_n 0, 1) := by decide +kernel
theorem dX0_keep_46 : decode cX0_keep 46 = .ok (.getfield 123, 3) := by decide +kernel
theorem dX0_keep_49 : decode cX0_keep 49 = .ok (.invokestatic 258, 3) := by decide +kernel
theorem dX0_keep_52 : decode cX0_keep 52 = .ok (.iinc 1 1, 3) := by decide +kernel
theorem dX0_keep_55 : decode cX0_keep 55 = .ok (.goto (-53), 3) := by decide +kernel
theorem dX0_keep_58 : decode cX0_keep 58 = .ok (.iconst 0, 1) := by decide +kernel
theorem dX0_keep_59 : decode cX0_keep 59 = .ok (.istore_n 1, 1) := by decide +kernel
theorem dX0_keep_60 : decode cX0_keep 60 = .ok (.iload_n 1, 1) := by decide +kernel
theorem dX0_keep_61 : decode cX0_keep 61 = .ok (.aload_n 0, 1) := by decide +kernel
theorem dX0_keep_62 : decode cX0_keep 62 = .ok (.getfield 284, 3) := by decide +kernel
theorem dX0_keep_65 : decode cX0_keep 65 = .ok (.if_icmp .ge 63, 3) := by decide +kernel
theorem dX0_keep_68 : decode cX0_keep 68 = .ok (.aload_n 0, 1) := by decide +kernel
theorem dX0_keep_69 : decode cX0_keep 69 = .ok (.getfield 72, 3) := by decide +kernel
theorem dX0_keep_72 : decode cX0_keep 72 = .ok (.iload_n 1, 1) := by decide +kernel
theorem dX0_keep_73 : decode cX0_keep 73 = .ok (.iaload, 1) := by decide +kernel
theorem dX0_keep_74 : decode cX0_keep 74 = .ok (.aload_n 0, 1) := by decide +kernel
theorem dX0_keep_75 : decode cX0_keep 75 = .ok (.getfield 123, 3) := by decide +kernel
theorem dX0_keep_78 : decode cX0_keep 78 = .ok (.if_icmp .ne 44, 3) := by decide +kernel
theorem dX0_keep_81 : decode cX0_keep 81 = .ok (.aload_n 0, 1) := by decide +kernel
theorem dX0_keep_82 : decode cX0_keep 82 = .ok (.getfield 68, 3) := by decide +kernel
theorem dX0_keep_85 : decode cX0_keep 85 = .ok (.iload_n 1, 1) := by decide +kernel
theorem dX0_keep_86 : decode cX0_keep 86 = .ok (.aaload, 1) := by decide +kernel
theorem dX0_keep_87 : decode cX0_keep 87 = .ok (.aload_n 0, 1) := by decide +kernel
theorem dX0_keep_88 : decode cX0_keep 88 = .ok (.getfield 78, 3) := by decide +kernel
theorem dX0_keep_91 : decode cX0_keep 91 = .ok (.aload_n 0, 1) := by decide +kernel
theorem dX0_keep_92 : decode cX0_keep 92 = .ok (.getfield 123, 3) := by decide +kernel
theorem dX0_keep_95 : decode cX0_keep 95 = .ok (.invokestatic 280, 3) := by decide +kernel
theorem dX0_keep_98 : decode cX0_keep 98 = .ok (.ifCond .ne 24, 3) := by decide +kernel
theorem dX0_keep_101 : decode cX0_keep 101 = .ok (.aload_n 0, 1) := by decide +kernel
theorem dX0_keep_102 : decode cX0_keep 102 = .ok (.getfield 78, 3) := by decide +kernel
theorem dX0_keep_105 : decode cX0_keep 105 = .ok (.aload_n 0, 1) := by decide +kernel
theorem dX0_keep_106 : decode cX0_keep 106 = .ok (.getfield 68, 3) := by decide +kernel
theorem dX0_keep_109 : decode cX0_keep 109 = .ok (.iload_n 1, 1) := by decide +kernel
theorem dX0_keep_110 : decode cX0_keep 110 = .ok (.aaload, 1) := by decide +kernel
theorem dX0_keep_111 : decode cX0_keep 111 = .ok (.aload_n 0, 1) := by decide +kernel
theorem dX0_keep_112 : decode cX0_keep 112 = .ok (.getfield 123, 3) := by decide +kernel
theorem dX0_keep_115 : decode cX0_keep 115 = .ok (.invokestatic 280, 3) := by decide +kernel
theorem dX0_keep_118 : decode cX0_keep 118 = .ok (.ifCond .ne 4, 3) := by decide +kernel
theorem dX0_keep_121 : decode cX0_keep 121 = .ok (.return_, 1) := by decide +kernel
theorem dX0_keep_122 : decode cX0_keep 122 = .ok (.iinc 1 1, 3) := by decide +kernel
theorem dX0_keep_125 : decode cX0_keep 125 = .ok (.goto (-65), 3) := by decide +kernel
theorem dX0_keep_128 : decode cX0_keep 128 = .ok (.aload_n 0, 1) := by decide +kernel
theorem dX0_keep_129 : decode cX0_keep 129 = .ok (.getfield 284, 3) := by decide +kernel
theorem dX0_keep_132 : decode cX0_keep 132 = .ok (.bipush 64, 2) := by decide +kernel
theorem dX0_keep_134 : decode cX0_keep 134 = .ok (.if_icmp .ge 48, 3) := by decide +kernel
theorem dX0_keep_137 : decode cX0_keep 137 = .ok (.aload_n 0, 1) := by decide +kernel
theorem dX0_keep_138 : decode cX0_keep 138 = .ok (.getfield 78, 3) := by decide +kernel
theorem dX0_keep_141 : decode cX0_keep 141 = .ok (.iconst 0, 1) := by decide +kernel
theorem dX0_keep_142 : decode cX0_keep 142 = .ok (.aload_n 0, 1) := by decide +kernel
theorem dX0_keep_143 : decode cX0_keep 143 = .ok (.getfield 68, 3) := by decide +kernel
theorem dX0_keep_146 : decode cX0_keep 146 = .ok (.aload_n 0, 1) := by decide +kernel
theorem dX0_keep_147 : decode cX0_keep 147 = .ok (.getfield 284, 3) := by decide +kernel
theorem dX0_keep_150 : decode cX0_keep 150 = .ok (.aaload, 1) := by decide +kernel
theorem dX0_keep_151 : decode cX0_keep 151 = .ok (.iconst 0, 1) := by decide +kernel
theorem dX0_keep_152 : decode cX0_keep 152 = .ok (.aload_n 0, 1) := by decide +kernel
theorem dX0_keep_153 : decode cX0_keep 153 = .ok (.getfield 123, 3) := by decide +kernel
theorem dX0_keep_156 : decode cX0_keep 156 = .ok (.invokestatic 258, 3) := by decide +kernel
theorem dX0_keep_159 : decode cX0_keep 159 = .ok (.aload_n 0, 1) := by decide +kernel
theorem dX0_keep_160 : decode cX0_keep 160 = .ok (.getfield 72, 3) := by decide +kernel
theorem dX0_keep_163 : decode cX0_keep 163 = .ok (.aload_n 0, 1) := by decide +kernel
theorem dX0_keep_164 : decode cX0_keep 164 = .ok (.getfield 284, 3) := by decide +kernel
theorem dX0_keep_167 : decode cX0_keep 167 = .ok (.aload_n 0, 1) := by decide +kernel
theorem dX0_keep_168 : decode cX0_keep 168 = .ok (.getfield 123, 3) := by decide +kernel
theorem dX0_keep_171 : decode cX0_keep 171 = .ok (.iastore, 1) := by decide +kernel
theorem dX0_keep_172 : decode cX0_keep 172 = .ok (.aload_n 0, 1) := by decide +kernel
theorem dX0_keep_173 : decode cX0_keep 173 = .ok (.dup, 1) := by decide +kernel
theorem dX0_keep_174 : decode cX0_keep 174 = .ok (.getfield 284, 3) := by decide +kernel
theorem dX0_keep_177 : decode cX0_keep 177 = .ok (.iconst 1, 1) := by decide +kernel
theorem dX0_keep_178 : decode cX0_keep 178 = .ok (.iadd, 1) := by decide +kernel
theorem dX0_keep_179 : decode cX0_keep 179 = .ok (.putfield 284, 3) := by decide +kernel
theorem dX0_keep_182 : decode cX0_keep 182 = .ok (.return_, 1) := by decide +kernel
theorem dX0_imageBy_0 : decode cX0_imageBy 0 = .ok (.sipush 1000, 3) := by decide +kernel
theorem dX0_imageBy_3 : decode cX0_imageBy 3 = .ok (.istore_n 2, 1) := by decide +kernel
theorem dX0_imageBy_4 : decode cX0_imageBy 4 = .ok (.sipush 1000, 3) := by decide +kernel
theorem dX0_imageBy_7 : decode cX0_imageBy 7 = .ok (.istore_n 3, 1) := by decide +kernel
theorem dX0_imageBy_8 : decode cX0_imageBy 8 = .ok (.iconst 0, 1) := by decide +kernel
theorem dX0_imageBy_9 : decode cX0_imageBy 9 = .ok (.istore 4, 2) := by decide +kernel
theorem dX0_imageBy_11 : decode cX0_imageBy 11 = .ok (.iload 4, 2) := by decide +kernel
theorem dX0_imageBy_13 : decode cX0_imageBy 13 = .ok (.aload_n 0, 1) := by decide +kernel
theorem dX0_imageBy_14 : decode cX0_imageBy 14 = .ok (.getfield 123, 3) := by decide +kernel
theorem dX0_imageBy_17 : decode cX0_imageBy 17 = .ok (.if_icmp .ge 67, 3) := by decide +kernel
theorem dX0_imageBy_20 : decode cX0_imageBy 20 = .ok (.iload_n 2, 1) := by decide +kernel
theorem dX0_imageBy_21 : decode cX0_imageBy 21 = .ok (.iload_n 1, 1) := by decide +kernel
theorem dX0_imageBy_22 : decode cX0_imageBy 22 = .ok (.aload_n 0, 1) := by decide +kernel
theorem dX0_imageBy_23 : decode cX0_imageBy 23 = .ok (.getfield 55, 3) := by decide +kernel
theorem dX0_imageBy_26 : decode cX0_imageBy 26 = .ok (.getfield 219, 3) := by decide +kernel
theorem dX0_imageBy_29 : decode cX0_imageBy 29 = .ok (.iload 4, 2) := by decide +kernel
theorem dX0_imageBy_31 : decode cX0_imageBy 31 = .ok (.iaload, 1) := by decide +kernel
theorem dX0_imageBy_32 : decode cX0_imageBy 32 = .ok (.aload_n 0, 1) := by decide +kernel
theorem dX0_imageBy_33 : decode cX0_imageBy 33 = .ok (.getfield 55, 3) := by decide +kernel
theorem dX0_imageBy_36 : decode cX0_imageBy 36 = .ok (.getfield 221, 3) := by decide +kernel
theorem dX0_imageBy_39 : decode cX0_imageBy 39 = .ok (.iload 4, 2) := by decide +kernel
theorem dX0_imageBy_41 : decode cX0_imageBy 41 = .ok (.iaload, 1) := by decide +kernel
theorem dX0_imageBy_42 : decode cX0_imageBy 42 = .ok (.invokestatic 267, 3) := by decide +kernel
theorem dX0_imageBy_45 : decode cX0_imageBy 45 = .ok (.invokestatic 244, 3) := by decide +kernel
theorem dX0_imageBy_48 : decode cX0_imageBy 48 = .ok (.istore_n 2, 1) := by decide +kernel
theorem dX0_imageBy_49 : decode cX0_imageBy 49 = .ok (.iload_n 3, 1) := by decide +kernel
theorem dX0_imageBy_50 : decode cX0_imageBy 50 = .ok (.iload_n 1, 1) := by decide +kernel
theorem dX0_imageBy_51 : decode cX0_imageBy 51 = .ok (.aload_n 0, 1) := by decide +kernel
theorem dX0_imageBy_52 : decode cX0_imageBy 52 = .ok (.getfield 55, 3) := by decide +kernel
theorem dX0_imageBy_55 : decode cX0_imageBy 55 = .ok (.getfield 219, 3) := by decide +kernel
theorem dX0_imageBy_58 : decode cX0_imageBy 58 = .ok (.iload 4, 2) := by decide +kernel
theorem dX0_imageBy_60 : decode cX0_imageBy 60 = .ok (.iaload, 1) := by decide +kernel
theorem dX0_imageBy_61 : decode cX0_imageBy 61 = .ok (.aload_n 0, 1) := by decide +kernel
theorem dX0_imageBy_62 : decode cX0_imageBy 62 = .ok (.getfield 55, 3) := by decide +kernel
theorem dX0_imageBy_65 : decode cX0_imageBy 65 = .ok (.getfield 221, 3) := by decide +kernel
theorem dX0_imageBy_68 : decode cX0_imageBy 68 = .ok (.iload 4, 2) := by decide +kernel
theorem dX0_imageBy_70 : decode cX0_imageBy 70 = .ok (.iaload, 1) := by decide +kernel
theorem dX0_imageBy_71 : decode cX0_imageBy 71 = .ok (.invokestatic 270, 3) := by decide +kernel
theorem dX0_imageBy_74 : decode cX0_imageBy 74 = .ok (.invokestatic 244, 3) := by decide +kernel
theorem dX0_imageBy_77 : decode cX0_imageBy 77 = .ok (.istore_n 3, 1) := by decide +kernel
theorem dX0_imageBy_78 : decode cX0_imageBy 78 = .ok (.iinc 4 1, 3) := by decide +kernel
theorem dX0_imageBy_81 : decode cX0_imageBy 81 = .ok (.goto (-70), 3) := by decide +kernel
theorem dX0_imageBy_84 : decode cX0_imageBy 84 = .ok (.iconst 0, 1) := by decide +kernel
theorem dX0_imageBy_85 : decode cX0_imageBy 85 = .ok (.istore 4, 2) := by decide +kernel
theorem dX0_imageBy_87 : decode cX0_imageBy 87 = .ok (.iload 4, 2) := by decide +kernel
theorem dX0_imageBy_89 : decode cX0_imageBy 89 = .ok (.aload_n 0, 1) := by decide +kernel
theorem dX0_imageBy_90 : decode cX0_imageBy 90 = .ok (.getfield 123, 3) := by decide +kernel
theorem dX0_imageBy_93 : decode cX0_imageBy 93 = .ok (.if_icmp .ge 80, 3) := by decide +kernel
theorem dX0_imageBy_96 : decode cX0_imageBy 96 = .ok (.iload_n 1, 1) := by decide +kernel
theorem dX0_imageBy_97 : decode cX0_imageBy 97 = .ok (.aload_n 0, 1) := by decide +kernel
theorem dX0_imageBy_98 : decode cX0_imageBy 98 = .ok (.getfield 55, 3) := by decide +kernel
theorem dX0_imageBy_101 : decode cX0_imageBy 101 = .ok (.getfield 219, 3) := by decide +kernel
theorem dX0_imageBy_104 : decode cX0_imageBy 104 = .ok (.iload 4, 2) := by decide +kernel
theorem dX0_imageBy_106 : decode cX0_imageBy 106 = .ok (.iaload, 1) := by decide +kernel
theorem dX0_imageBy_107 : decode cX0_imageBy 107 = .ok (.aload_n 0, 1) := by decide +kernel
theorem dX0_imageBy_108 : decode cX0_imageBy 108 = .ok (.getfield 55, 3) := by decide +kernel
theorem dX0_imageBy_111 : decode cX0_imageBy 111 = .ok (.getfield 221, 3) := by decide +kernel
theorem dX0_imageBy_114 : decode cX0_imageBy 114 = .ok (.iload 4, 2) := by decide +kernel
theorem dX0_imageBy_116 : decode cX0_imageBy 116 = .ok (.iaload, 1) := by decide +kernel
theorem dX0_imageBy_117 : decode cX0_imageBy 117 = .ok (.invokestatic 267, 3) := by decide +kernel
theorem dX0_imageBy_120 : decode cX0_imageBy 120 = .ok (.iload_n 2, 1) := by decide +kernel
theorem dX0_imageBy_121 : decode cX0_imageBy 121 = .ok (.isub, 1) := by decide +kernel
theorem dX0_imageBy_122 : decode cX0_imageBy 122 = .ok (.istore 5, 2) := by decide +kernel
theorem dX0_imageBy_124 : decode cX0_imageBy 124 = .ok (.iload_n 1, 1) := by decide +kernel
theorem dX0_imageBy_125 : decode cX0_imageBy 125 = .ok (.aload_n 0, 1) := by decide +kernel
theorem dX0_imageBy_126 : decode cX0_imageBy 126 = .ok (.getfield 55, 3) := by decide +kernel
theorem dX0_imageBy_129 : decode cX0_imageBy 129 = .ok (.getfield 219, 3) := by decide +kernel
theorem dX0_imageBy_132 : decode cX0_imageBy 132 = .ok (.iload 4, 2) := by decide +kernel
theorem dX0_imageBy_134 : decode cX0_imageBy 134 = .ok (.iaload, 1) := by decide +kernel
theorem dX0_imageBy_135 : decode cX0_imageBy 135 = .ok (.aload_n 0, 1) := by decide +kernel
theorem dX0_imageBy_136 : decode cX0_imageBy 136 = .ok (.getfield 55, 3) := by decide +kernel
theorem dX0_imageBy_139 : decode cX0_imageBy 139 = .ok (.getfield 221, 3) := by decide +kernel
theorem dX0_imageBy_142 : decode cX0_imageBy 142 = .ok (.iload 4, 2) := by decide +kernel
theorem dX0_imageBy_144 : decode cX0_imageBy 144 = .ok (.iaload, 1) := by decide +kernel
theorem dX0_imageBy_145 : decode cX0_imageBy 145 = .ok (.invokestatic 270, 3) := by decide +kernel
theorem dX0_imageBy_148 : decode cX0_imageBy 148 = .ok (.iload_n 3, 1) := by decide +kernel
theorem dX0_imageBy_149 : decode cX0_imageBy 149 = .ok (.isub, 1) := by decide +kernel
theorem dX0_imageBy_150 : decode cX0_imageBy 150 = .ok (.istore 6, 2) := by decide +kernel
theorem dX0_imageBy_152 : decode cX0_imageBy 152 = .ok (.aload_n 0, 1) := by decide +kernel
theorem dX0_imageBy_153 : decode cX0_imageBy 153 = .ok (.getfield 75, 3) := by decide +kernel
theorem dX0_imageBy_156 : decode cX0_imageBy 156 = .ok (.iload 4, 2) := by decide +kernel
theorem dX0_imageBy_158 : decode cX0_imageBy 158 = .ok (.bipush 32, 2) := by decide +kernel
theorem dX0_imageBy_160 : decode cX0_imageBy 160 = .ok (.iload 6, 2) := by decide +kernel
theorem dX0_imageBy_162 : decode cX0_imageBy 162 = .ok (.imul, 1) := by decide +kernel
theorem dX0_imageBy_163 : decode cX0_imageBy 163 = .ok (.iload 5, 2) := by decide +kernel
theorem dX0_imageBy_165 : decode cX0_imageBy 165 = .ok (.iadd, 1) := by decide +kernel
theorem dX0_imageBy_166 : decode cX0_imageBy 166 = .ok (.iastore, 1) := by decide +kernel
theorem dX0_imageBy_167 : decode cX0_imageBy 167 = .ok (.iinc 4 1, 3) := by decide +kernel
theorem dX0_imageBy_170 : decode cX0_imageBy 170 = .ok (.goto (-83), 3) := by decide +kernel
theorem dX0_imageBy_173 : decode cX0_imageBy 173 = .ok (.aload_n 0, 1) := by decide +kernel
theorem dX0_imageBy_174 : decode cX0_imageBy 174 = .ok (.getfield 75, 3) := by decide +kernel
theorem dX0_imageBy_177 : decode cX0_imageBy 177 = .ok (.iconst 0, 1) := by decide +kernel
theorem dX0_imageBy_178 : decode cX0_imageBy 178 = .ok (.aload_n 0, 1) := by decide +kernel
theorem dX0_imageBy_179 : decode cX0_imageBy 179 = .ok (.getfield 123, 3) := by decide +kernel
theorem dX0_imageBy_182 : decode cX0_imageBy 182 = .ok (.invokestatic 273, 3) := by decide +kernel
theorem dX0_imageBy_185 : decode cX0_imageBy 185 = .ok (.return_, 1) := by decide +kernel
theorem dX0_turnedX_0 : decode cX0_turnedX 0 = .ok (.iload_n 0, 1) := by decide +kernel
theorem dX0_turnedX_1 : decode cX0_turnedX 1 = .ok (.iconst 2, 1) := by decide +kernel
theorem dX0_turnedX_2 : decode cX0_turnedX 2 = .ok (.irem, 1) := by decide +kernel
theorem dX0_turnedX_3 : decode cX0_turnedX 3 = .ok (.ifCond .ne 7, 3) := by decide +kernel
theorem dX0_turnedX_6 : decode cX0_turnedX 6 = .ok (.iload_n 1, 1) := by decide +kernel
theorem dX0_turnedX_7 : decode cX0_turnedX 7 = .ok (.goto 4, 3) := by decide +kernel
theorem dX0_turnedX_10 : decode cX0_turnedX 10 = .ok (.iload_n 2, 1) := by decide +kernel
theorem dX0_turnedX_11 : decode cX0_turnedX 11 = .ok (.istore_n 3, 1) := by decide +kernel
theorem dX0_turnedX_12 : decode cX0_turnedX 12 = .ok (.iload_n 0, 1) := by decide +kernel
theorem dX0_turnedX_13 : decode cX0_turnedX 13 = .ok (.iconst 2, 1) := by decide +kernel
theorem dX0_turnedX_14 : decode cX0_turnedX 14 = .ok (.if_icmp .eq 13, 3) := by decide +kernel
theorem dX0_turnedX_17 : decode cX0_turnedX 17 = .ok (.iload_n 0, 1) := by decide +kernel
theorem dX0_turnedX_18 : decode cX0_turnedX 18 = .ok (.iconst 3, 1) := by decide +kernel
theorem dX0_turnedX_19 : decode cX0_turnedX 19 = .ok (.if_icmp .eq 8, 3) := by decide +kernel
theorem dX0_turnedX_22 : decode cX0_turnedX 22 = .ok (.iload_n 0, 1) := by decide +kernel
theorem dX0_turnedX_23 : decode cX0_turnedX 23 = .ok (.iconst 5, 1) := by decide +kernel
theorem dX0_turnedX_24 : decode cX0_turnedX 24 = .ok (.if_icmp .le 8, 3) := by decide +kernel
theorem dX0_turnedX_27 : decode cX0_turnedX 27 = .ok (.iload_n 3, 1) := by decide +kernel
theorem dX0_turnedX_28 : decode cX0_turnedX 28 = .ok (.ineg, 1) := by decide +kernel
theorem dX0_turnedX_29 : decode cX0_turnedX 29 = .ok (.goto 4, 3) := by decide +kernel
theorem dX0_turnedX_32 : decode cX0_turnedX 32 = .ok (.iload_n 3, 1) := by decide +kernel
theorem dX0_turnedX_33 : decode cX0_turnedX 33 = .ok (.ireturn, 1) := by decide +kernel
theorem dX0_turnedY_0 : decode cX0_turnedY 0 = .ok (.iload_n 0, 1) := by decide +kernel
theorem dX0_turnedY_1 : decode cX0_turnedY 1 = .ok (.iconst 2, 1) := by decide +kernel
theorem dX0_turnedY_2 : decode cX0_turnedY 2 = .ok (.irem, 1) := by decide +kernel
theorem dX0_turnedY_3 : decode cX0_turnedY 3 = .ok (.ifCond .ne 7, 3) := by decide +kernel
theorem dX0_turnedY_6 : decode cX0_turnedY 6 = .ok (.iload_n 2, 1) := by decide +kernel
theorem dX0_turnedY_7 : decode cX0_turnedY 7 = .ok (.goto 4, 3) := by decide +kernel
theorem dX0_turnedY_10 : decode cX0_turnedY 10 = .ok (.iload_n 1, 1) := by decide +kernel
theorem dX0_turnedY_11 : decode cX0_turnedY 11 = .ok (.istore_n 3, 1) := by decide +kernel
theorem dX0_turnedY_12 : decode cX0_turnedY 12 = .ok (.iload_n 0, 1) := by decide +kernel
theorem dX0_turnedY_13 : decode cX0_turnedY 13 = .ok (.iconst 3, 1) := by decide +kernel
theorem dX0_turnedY_14 : decode cX0_turnedY 14 = .ok (.if_icmp .le 8, 3) := by decide +kernel
theorem dX0_turnedY_17 : decode cX0_turnedY 17 = .ok (.iload_n 3, 1) := by decide +kernel
theorem dX0_turnedY_18 : decode cX0_turnedY 18 = .ok (.ineg, 1) := by decide +kernel
theorem dX0_turnedY_19 : decode cX0_turnedY 19 = .ok (.goto 4, 3) := by decide +kernel
theorem dX0_turnedY_22 : decode cX0_turnedY 22 = .ok (.iload_n 3, 1) := by decide +kernel
theorem dX0_turnedY_23 : decode cX0_turnedY 23 = .ok (.ireturn, 1) := by decide +kernel
theorem dX0_isLess_0 : decode cX0_isLess 0 = .ok (.iconst 0, 1) := by decide +kernel
theorem dX0_isLess_1 : decode cX0_isLess 1 = .ok (.istore_n 3, 1) := by decide +kernel
theorem dX0_isLess_2 : decode cX0_isLess 2 = .ok (.iload_n 3, 1) := by decide +kernel
theorem dX0_isLess_3 : decode cX0_isLess 3 = .ok (.iload_n 2, 1) := by decide +kernel
theorem dX0_isLess_4 : decode cX0_isLess 4 = .ok (.if_icmp .ge 18, 3) := by decide +kernel
theorem dX0_isLess_7 : decode cX0_isLess 7 = .ok (.aload_n 0, 1) := by decide +kernel
theorem dX0_isLess_8 : decode cX0_isLess 8 = .ok (.iload_n 3, 1) := by decide +kernel
theorem dX0_isLess_9 : decode cX0_isLess 9 = .ok (.iaload, 1) := by decide +kernel
theorem dX0_isLess_10 : decode cX0_isLess 10 = .ok (.aload_n 1, 1) := by decide +kernel
theorem dX0_isLess_11 : decode cX0_isLess 11 = .ok (.iload_n 3, 1) := by decide +kernel
theorem dX0_isLess_12 : decode cX0_isLess 12 = .ok (.iaload, 1) := by decide +kernel
theorem dX0_isLess_13 : decode cX0_isLess 13 = .ok (.if_icmp .ne 9, 3) := by decide +kernel
theorem dX0_isLess_16 : decode cX0_isLess 16 = .ok (.iinc 3 1, 3) := by decide +kernel
theorem dX0_isLess_19 : decode cX0_isLess 19 = .ok (.goto (-17), 3) := by decide +kernel
theorem dX0_isLess_22 : decode cX0_isLess 22 = .ok (.iload_n 3, 1) := by decide +kernel
theorem dX0_isLess_23 : decode cX0_isLess 23 = .ok (.iload_n 2, 1) := by decide +kernel
theorem dX0_isLess_24 : decode cX0_isLess 24 = .ok (.if_icmp .ge 16, 3) := by decide +kernel
theorem dX0_isLess_27 : decode cX0_isLess 27 = .ok (.aload_n 0, 1) := by decide +kernel
theorem dX0_isLess_28 : decode cX0_isLess 28 = .ok (.iload_n 3, 1) := by decide +kernel
theorem dX0_isLess_29 : decode cX0_isLess 29 = .ok (.iaload, 1) := by decide +kernel
theorem dX0_isLess_30 : decode cX0_isLess 30 = .ok (.aload_n 1, 1) := by decide +kernel
theorem dX0_isLess_31 : decode cX0_isLess 31 = .ok (.iload_n 3, 1) := by decide +kernel
theorem dX0_isLess_32 : decode cX0_isLess 32 = .ok (.iaload, 1) := by decide +kernel
theorem dX0_isLess_33 : decode cX0_isLess 33 = .ok (.if_icmp .ge 7, 3) := by decide +kernel
theorem dX0_isLess_36 : decode cX0_isLess 36 = .ok (.iconst 1, 1) := by decide +kernel
theorem dX0_isLess_37 : decode cX0_isLess 37 = .ok (.goto 4, 3) := by decide +kernel
theorem dX0_isLess_40 : decode cX0_isLess 40 = .ok (.iconst 0, 1) := by decide +kernel
theorem dX0_isLess_41 : decode cX0_isLess 41 = .ok (.ireturn, 1) := by decide +kernel
theorem dX0_back_0 : decode cX0_back 0 = .ok (.aload_n 0, 1) := by decide +kernel
theorem dX0_back_1 : decode cX0_back 1 = .ok (.getfield 139, 3) := by decide +kernel
theorem dX0_back_4 : decode cX0_back 4 = .ok (.ifCond .ne 9, 3) := by decide +kernel
theorem dX0_back_7 : decode cX0_back 7 = .ok (.aload_n 0, 1) := by decide +kernel
theorem dX0_back_8 : decode cX0_back 8 = .ok (.iconst 1, 1) := by decide +kernel
theorem dX0_back_9 : decode cX0_back 9 = .ok (.putfield 151, 3) := by decide +kernel
theorem dX0_back_12 : decode cX0_back 12 = .ok (.return_, 1) := by decide +kernel
theorem dX0_back_13 : decode cX0_back 13 = .ok (.aload_n 0, 1) := by decide +kernel
theorem dX0_back_14 : decode cX0_back 14 = .ok (.dup, 1) := by decide +kernel
theorem dX0_back_15 : decode cX0_back 15 = .ok (.getfield 139, 3) := by decide +kernel
theorem dX0_back_18 : decode cX0_back 18 = .ok (.iconst 1, 1) := by decide +kernel
theorem dX0_back_19 : decode cX0_back 19 = .ok (.isub, 1) := by decide +kernel
theorem dX0_back_20 : decode cX0_back 20 = .ok (.putfield 139, 3) := by decide +kernel
theorem dX0_back_23 : decode cX0_back 23 = .ok (.aload_n 0, 1) := by decide +kernel
theorem dX0_back_24 : decode cX0_back 24 = .ok (.aload_n 0, 1) := by decide +kernel
theorem dX0_back_25 : decode cX0_back 25 = .ok (.getfield 58, 3) := by decide +kernel
theorem dX0_back_28 : decode cX0_back 28 = .ok (.aload_n 0, 1) := by decide +kernel
theorem dX0_back_29 : decode cX0_back 29 = .ok (.getfield 139, 3) := by decide +kernel
theorem dX0_back_32 : decode cX0_back 32 = .ok (.iaload, 1) := by decide +kernel
theorem dX0_back_33 : decode cX0_back 33 = .ok (.iconst 1, 1) := by decide +kernel
theorem dX0_back_34 : decode cX0_back 34 = .ok (.iadd, 1) := by decide +kernel
theorem dX0_back_35 : decode cX0_back 35 = .ok (.putfield 142, 3) := by decide +kernel
theorem dX0_back_38 : decode cX0_back 38 = .ok (.aload_n 0, 1) := by decide +kernel
theorem dX0_back_39 : decode cX0_back 39 = .ok (.getfield 55, 3) := by decide +kernel
theorem dX0_back_42 : decode cX0_back 42 = .ok (.invokevirtual 241, 3) := by decide +kernel
theorem dX0_back_45 : decode cX0_back 45 = .ok (.return_, 1) := by decide +kernel
theorem dX0_forget_0 : decode cX0_forget 0 = .ok (.aload_n 0, 1) := by decide +kernel
theorem dX0_forget_1 : decode cX0_forget 1 = .ok (.getfield 284, 3) := by decide +kernel
theorem dX0_forget_4 : decode cX0_forget 4 = .ok (.istore_n 1, 1) := by decide +kernel
theorem dX0_forget_5 : decode cX0_forget 5 = .ok (.aload_n 0, 1) := by decide +kernel
theorem dX0_forget_6 : decode cX0_forget 6 = .ok (.iconst 0, 1) := by decide +kernel
theorem dX0_forget_7 : decode cX0_forget 7 = .ok (.putfield 284, 3) := by decide +kernel
theorem dX0_forget_10 : decode cX0_forget 10 = .ok (.iload_n 1, 1) := by decide +kernel
theorem dX0_forget_11 : decode cX0_forget 11 = .ok (.ireturn, 1) := by decide +kernel
theorem dX0_told_0 : decode cX0_told 0 = .ok (.iload_n 1, 1) := by decide +kernel
theorem dX0_told_1 : decode cX0_told 1 = .ok (.tableswitch 89 0 6 #[43, 48, 53, 58, 63, 68, 81], 43) := by decide +kernel
theorem dX0_told_44 : decode cX0_told 44 = .ok (.aload_n 0, 1) := by decide +kernel
theorem dX0_told_45 : decode cX0_told 45 = .ok (.getfield 100, 3) := by decide +kernel
theorem dX0_told_48 : decode cX0_told 48 = .ok (.ireturn, 1) := by decide +kernel
theorem dX0_told_49 : decode cX0_told 49 = .ok (.aload_n 0, 1) := by decide +kernel
theorem dX0_told_50 : decode cX0_told 50 = .ok (.getfield 123, 3) := by decide +kernel
theorem dX0_told_53 : decode cX0_told 53 = .ok (.ireturn, 1) := by decide +kernel
theorem dX0_told_54 : decode cX0_told 54 = .ok (.aload_n 0, 1) := by decide +kernel
theorem dX0_told_55 : decode cX0_told 55 = .ok (.getfield 145, 3) := by decide +kernel
theorem dX0_told_58 : decode cX0_told 58 = .ok (.ireturn, 1) := by decide +kernel
theorem dX0_told_59 : decode cX0_told 59 = .ok (.aload_n 0, 1) := by decide +kernel
theorem dX0_told_60 : decode cX0_told 60 = .ok (.getfield 284, 3) := by decide +kernel
theorem dX0_told_63 : decode cX0_told 63 = .ok (.ireturn, 1) := by decide +kernel
theorem dX0_told_64 : decode cX0_told 64 = .ok (.aload_n 0, 1) := by decide +kernel
theorem dX0_told_65 : decode cX0_told 65 = .ok (.getfield 148, 3) := by decide +kernel
theorem dX0_told_68 : decode cX0_told 68 = .ok (.ireturn, 1) := by decide +kernel
theorem dX0_told_69 : decode cX0_told 69 = .ok (.aload_n 0, 1) := by decide +kernel
theorem dX0_told_70 : decode cX0_told 70 = .ok (.getfield 151, 3) := by decide +kernel
theorem dX0_told_73 : decode cX0_told 73 = .ok (.ifCond .eq 7, 3) := by decide +kernel
theorem dX0_told_76 : decode cX0_told 76 = .ok (.iconst 1, 1) := by decide +kernel
theorem dX0_told_77 : decode cX0_told 77 = .ok (.goto 4, 3) := by decide +kernel
theorem dX0_told_80 : decode cX0_told 80 = .ok (.iconst 0, 1) := by decide +kernel
theorem dX0_told_81 : decode cX0_told 81 = .ok (.ireturn, 1) := by decide +kernel
theorem dX0_told_82 : decode cX0_told 82 = .ok (.aload_n 0, 1) := by decide +kernel
theorem dX0_told_83 : decode cX0_told 83 = .ok (.getfield 51, 3) := by decide +kernel
theorem dX0_told_86 : decode cX0_told 86 = .ok (.getfield 229, 3) := by decide +kernel
theorem dX0_told_89 : decode cX0_told 89 = .ok (.ireturn, 1) := by decide +kernel
theorem dX0_told_90 : decode cX0_told 90 = .ok (.iconst (-1), 1) := by decide +kernel
theorem dX0_told_91 : decode cX0_told 91 = .ok (.ireturn, 1) := by decide +kernel
theorem dX0_best_0 : decode cX0_best 0 = .ok (.iload_n 1, 1) := by decide +kernel
theorem dX0_best_1 : decode cX0_best 1 = .ok (.iconst 0, 1) := by decide +kernel
theorem dX0_best_2 : decode cX0_best 2 = .ok (.iconst 4, 1) := by decide +kernel
theorem dX0_best_3 : decode cX0_best 3 = .ok (.invokestatic 169, 3) := by decide +kernel
theorem dX0_best_6 : decode cX0_best 6 = .ok (.ifCond .ne 5, 3) := by decide +kernel
theorem dX0_best_9 : decode cX0_best 9 = .ok (.iconst (-1), 1) := by decide +kernel
theorem dX0_best_10 : decode cX0_best 10 = .ok (.ireturn, 1) := by decide +kernel
theorem dX0_best_11 : decode cX0_best 11 = .ok (.aload_n 0, 1) := by decide +kernel
theorem dX0_best_12 : decode cX0_best 12 = .ok (.getfield 155, 3) := by decide +kernel
theorem dX0_best_15 : decode cX0_best 15 = .ok (.bipush (-9), 2) := by decide +kernel
theorem dX0_best_17 : decode cX0_best 17 = .ok (.if_icmp .eq 16, 3) := by decide +kernel
theorem dX0_best_20 : decode cX0_best 20 = .ok (.iload_n 1, 1) := by decide +kernel
theorem dX0_best_21 : decode cX0_best 21 = .ok (.iconst 2, 1) := by decide +kernel
theorem dX0_best_22 : decode cX0_best 22 = .ok (.if_icmp .le 25, 3) := by decide +kernel
theorem dX0_best_25 : decode cX0_best 25 = .ok (.aload_n 0, 1) := by decide +kernel
theorem dX0_best_26 : decode cX0_best 26 = .ok (.iload_n 2, 1) := by decide +kernel
theorem dX0_best_27 : decode cX0_best 27 = .ok (.invokevirtual 173, 3) := by decide +kernel
theorem dX0_best_30 : decode cX0_best 30 = .ok (.ifCond .ne 17, 3) := by decide +kernel
theorem dX0_best_33 : decode cX0_best 33 = .ok (.iload_n 1, 1) := by decide +kernel
theorem dX0_best_34 : decode cX0_best 34 = .ok (.iconst 2, 1) := by decide +kernel
theorem dX0_best_35 : decode cX0_best 35 = .ok (.if_icmp .le 9, 3) := by decide +kernel
theorem dX0_best_38 : decode cX0_best 38 = .ok (.sipush (-1000), 3) := by decide +kernel
theorem dX0_best_41 : decode cX0_best 41 = .ok (.goto 5, 3) := by decide +kernel
theorem dX0_best_44 : decode cX0_best 44 = .ok (.bipush (-9), 2) := by decide +kernel
theorem dX0_best_46 : decode cX0_best 46 = .ok (.ireturn, 1) := by decide +kernel
theorem dX0_best_47 : decode cX0_best 47 = .ok (.iload_n 1, 1) := by decide +kernel
theorem dX0_best_48 : decode cX0_best 48 = .ok (.ifCond .ne 10, 3) := by decide +kernel
theorem dX0_best_51 : decode cX0_best 51 = .ok (.aload_n 0, 1) := by decide +kernel
theorem dX0_best_52 : decode cX0_best 52 = .ok (.getfield 252, 3) := by decide +kernel
theorem dX0_best_55 : decode cX0_best 55 = .ok (.goto 47, 3) := by decide +kernel
theorem dX0_best_58 : decode cX0_best 58 = .ok (.iload_n 1, 1) := by decide +kernel
theorem dX0_best_59 : decode cX0_best 59 = .ok (.iconst 1, 1) := by decide +kernel
theorem dX0_best_60 : decode cX0_best 60 = .ok (.if_icmp .ne 10, 3) := by decide +kernel
theorem dX0_best_63 : decode cX0_best 63 = .ok (.aload_n 0, 1) := by decide +kernel
theorem dX0_best_64 : decode cX0_best 64 = .ok (.getfield 255, 3) := by decide +kernel
theorem dX0_best_67 : decode cX0_best 67 = .ok (.goto 35, 3) := by decide +kernel
theorem dX0_best_70 : decode cX0_best 70 = .ok (.iload_n 1, 1) := by decide +kernel
theorem dX0_best_71 : decode cX0_best 71 = .ok (.iconst 2, 1) := by decide +kernel
theorem dX0_best_72 : decode cX0_best 72 = .ok (.if_icmp .ne 10, 3) := by decide +kernel
theorem dX0_best_75 : decode cX0_best 75 = .ok (.aload_n 0, 1) := by decide +kernel
theorem dX0_best_76 : decode cX0_best 76 = .ok (.getfield 155, 3) := by decide +kernel
theorem dX0_best_79 : decode cX0_best 79 = .ok (.goto 23, 3) := by decide +kernel
theorem dX0_best_82 : decode cX0_best 82 = .ok (.iload_n 1, 1) := by decide +kernel
theorem dX0_best_83 : decode cX0_best 83 = .ok (.iconst 3, 1) := by decide +kernel
theorem dX0_best_84 : decode cX0_best 84 = .ok (.if_icmp .ne 12, 3) := by decide +kernel
theorem dX0_best_87 : decode cX0_best 87 = .ok (.aload_n 0, 1) := by decide +kernel
theorem dX0_best_88 : decode cX0_best 88 = .ok (.getfield 61, 3) := by decide +kernel
theorem dX0_best_91 : decode cX0_best 91 = .ok (.iload_n 2, 1) := by decide +kernel
theorem dX0_best_92 : decode cX0_best 92 = .ok (.iaload, 1) := by decide +kernel
theorem dX0_best_93 : decode cX0_best 93 = .ok (.goto 9, 3) := by decide +kernel
theorem dX0_best_96 : decode cX0_best 96 = .ok (.aload_n 0, 1) := by decide +kernel
theorem dX0_best_97 : decode cX0_best 97 = .ok (.getfield 64, 3) := by decide +kernel
theorem dX0_best_100 : decode cX0_best 100 = .ok (.iload_n 2, 1) := by decide +kernel
theorem dX0_best_101 : decode cX0_best 101 = .ok (.iaload, 1) := by decide +kernel
theorem dX0_best_102 : decode cX0_best 102 = .ok (.ireturn, 1) := by decide +kernel
theorem dX0_size_0 : decode cX0_size 0 = .ok (.iload_n 1, 1) := by decide +kernel
theorem dX0_size_1 : decode cX0_size 1 = .ok (.iconst 0, 1) := by decide +kernel
theorem dX0_size_2 : decode cX0_size 2 = .ok (.aload_n 0, 1) := by decide +kernel
theorem dX0_size_3 : decode cX0_size 3 = .ok (.getfield 284, 3) := by decide +kernel
theorem dX0_size_6 : decode cX0_size 6 = .ok (.iconst 1, 1) := by decide +kernel
theorem dX0_size_7 : decode cX0_size 7 = .ok (.isub, 1) := by decide +kernel
theorem dX0_size_8 : decode cX0_size 8 = .ok (.invokestatic 169, 3) := by decide +kernel
theorem dX0_size_11 : decode cX0_size 11 = .ok (.ifCond .eq 12, 3) := by decide +kernel
theorem dX0_size_14 : decode cX0_size 14 = .ok (.aload_n 0, 1) := by decide +kernel
theorem dX0_size_15 : decode cX0_size 15 = .ok (.getfield 72, 3) := by decide +kernel
theorem dX0_size_18 : decode cX0_size 18 = .ok (.iload_n 1, 1) := by decide +kernel
theorem dX0_size_19 : decode cX0_size 19 = .ok (.iaload, 1) := by decide +kernel
theorem dX0_size_20 : decode cX0_size 20 = .ok (.goto 4, 3) := by decide +kernel
theorem dX0_size_23 : decode cX0_size 23 = .ok (.iconst (-1), 1) := by decide +kernel
theorem dX0_size_24 : decode cX0_size 24 = .ok (.ireturn, 1) := by decide +kernel
theorem dX0_shape_0 : decode cX0_shape 0 = .ok (.iload_n 1, 1) := by decide +kernel
theorem dX0_shape_1 : decode cX0_shape 1 = .ok (.iconst 0, 1) := by decide +kernel
theorem dX0_shape_2 : decode cX0_shape 2 = .ok (.aload_n 0, 1) := by decide +kernel
theorem dX0_shape_3 : decode cX0_shape 3 = .ok (.getfield 284, 3) := by decide +kernel
theorem dX0_shape_6 : decode cX0_shape 6 = .ok (.iconst 1, 1) := by decide +kernel
theorem dX0_shape_7 : decode cX0_shape 7 = .ok (.isub, 1) := by decide +kernel
theorem dX0_shape_8 : decode cX0_shape 8 = .ok (.invokestatic 169, 3) := by decide +kernel
theorem dX0_shape_11 : decode cX0_shape 11 = .ok (.ifCond .eq 28, 3) := by decide +kernel
theorem dX0_shape_14 : decode cX0_shape 14 = .ok (.iload_n 2, 1) := by decide +kernel
theorem dX0_shape_15 : decode cX0_shape 15 = .ok (.iconst 0, 1) := by decide +kernel
theorem dX0_shape_16 : decode cX0_shape 16 = .ok (.aload_n 0, 1) := by decide +kernel
theorem dX0_shape_17 : decode cX0_shape 17 = .ok (.getfield 72, 3) := by decide +kernel
theorem dX0_shape_20 : decode cX0_shape 20 = .ok (.iload_n 1, 1) := by decide +kernel
theorem dX0_shape_21 : decode cX0_shape 21 = .ok (.iaload, 1) := by decide +kernel
theorem dX0_shape_22 : decode cX0_shape 22 = .ok (.iconst 1, 1) := by decide +kernel
theorem dX0_shape_23 : decode cX0_shape 23 = .ok (.isub, 1) := by decide +kernel
theorem dX0_shape_24 : decode cX0_shape 24 = .ok (.invokestatic 169, 3) := by decide +kernel
theorem dX0_shape_27 : decode cX0_shape 27 = .ok (.ifCond .eq 12, 3) := by decide +kernel
theorem dX0_shape_30 : decode cX0_shape 30 = .ok (.iload_n 3, 1) := by decide +kernel
theorem dX0_shape_31 : decode cX0_shape 31 = .ok (.iconst 0, 1) := by decide +kernel
theorem dX0_shape_32 : decode cX0_shape 32 = .ok (.iconst 1, 1) := by decide +kernel
theorem dX0_shape_33 : decode cX0_shape 33 = .ok (.invokestatic 169, 3) := by decide +kernel
theorem dX0_shape_36 : decode cX0_shape 36 = .ok (.ifCond .ne 5, 3) := by decide +kernel
theorem dX0_shape_39 : decode cX0_shape 39 = .ok (.iconst (-1), 1) := by decide +kernel
theorem dX0_shape_40 : decode cX0_shape 40 = .ok (.ireturn, 1) := by decide +kernel
theorem dX0_shape_41 : decode cX0_shape 41 = .ok (.iload_n 3, 1) := by decide +kernel
theorem dX0_shape_42 : decode cX0_shape 42 = .ok (.ifCond .ne 17, 3) := by decide +kernel
theorem dX0_shape_45 : decode cX0_shape 45 = .ok (.aload_n 0, 1) := by decide +kernel
theorem dX0_shape_46 : decode cX0_shape 46 = .ok (.getfield 68, 3) := by decide +kernel
theorem dX0_shape_49 : decode cX0_shape 49 = .ok (.iload_n 1, 1) := by decide +kernel
theorem dX0_shape_50 : decode cX0_shape 50 = .ok (.aaload, 1) := by decide +kernel
theorem dX0_shape_51 : decode cX0_shape 51 = .ok (.iload_n 2, 1) := by decide +kernel
theorem dX0_shape_52 : decode cX0_shape 52 = .ok (.iaload, 1) := by decide +kernel
theorem dX0_shape_53 : decode cX0_shape 53 = .ok (.bipush 32, 2) := by decide +kernel
theorem dX0_shape_55 : decode cX0_shape 55 = .ok (.irem, 1) := by decide +kernel
theorem dX0_shape_56 : decode cX0_shape 56 = .ok (.goto 14, 3) := by decide +kernel
theorem dX0_shape_59 : decode cX0_shape 59 = .ok (.aload_n 0, 1) := by decide +kernel
theorem dX0_shape_60 : decode cX0_shape 60 = .ok (.getfield 68, 3) := by decide +kernel
theorem dX0_shape_63 : decode cX0_shape 63 = .ok (.iload_n 1, 1) := by decide +kernel
theorem dX0_shape_64 : decode cX0_shape 64 = .ok (.aaload, 1) := by decide +kernel
theorem dX0_shape_65 : decode cX0_shape 65 = .ok (.iload_n 2, 1) := by decide +kernel
theorem dX0_shape_66 : decode cX0_shape 66 = .ok (.iaload, 1) := by decide +kernel
theorem dX0_shape_67 : decode cX0_shape 67 = .ok (.bipush 32, 2) := by decide +kernel
theorem dX0_shape_69 : decode cX0_shape 69 = .ok (.idiv, 1) := by decide +kernel
theorem dX0_shape_70 : decode cX0_shape 70 = .ok (.ireturn, 1) := by decide +kernel
theorem dX0_wraps_0 : decode cX0_wraps 0 = .ok (.iload_n 1, 1) := by decide +kernel
theorem dX0_wraps_1 : decode cX0_wraps 1 = .ok (.iconst 0, 1) := by decide +kernel
theorem dX0_wraps_2 : decode cX0_wraps 2 = .ok (.aload_n 0, 1) := by decide +kernel
theorem dX0_wraps_3 : decode cX0_wraps 3 = .ok (.getfield 284, 3) := by decide +kernel
theorem dX0_wraps_6 : decode cX0_wraps 6 = .ok (.iconst 1, 1) := by decide +kernel
theorem dX0_wraps_7 : decode cX0_wraps 7 = .ok (.isub, 1) := by decide +kernel
theorem dX0_wraps_8 : decode cX0_wraps 8 = .ok (.invokestatic 169, 3) := by decide +kernel
theorem dX0_wraps_11 : decode cX0_wraps 11 = .ok (.ifCond .ne 5, 3) := by decide +kernel
theorem dX0_wraps_14 : decode cX0_wraps 14 = .ok (.iconst (-1), 1) := by decide +kernel
theorem dX0_wraps_15 : decode cX0_wraps 15 = .ok (.ireturn, 1) := by decide +kernel
theorem dX0_wraps_16 : decode cX0_wraps 16 = .ok (.aload_n 0, 1) := by decide +kernel
theorem dX0_wraps_17 : decode cX0_wraps 17 = .ok (.getfield 100, 3) := by decide +kernel
theorem dX0_wraps_20 : decode cX0_wraps 20 = .ok (.ifCond .ne 6, 3) := by decide +kernel
theorem dX0_wraps_23 : decode cX0_wraps 23 = .ok (.bipush (-2), 2) := by decide +kernel
theorem dX0_wraps_25 : decode cX0_wraps 25 = .ok (.ireturn, 1) := by decide +kernel
theorem dX0_wraps_26 : decode cX0_wraps 26 = .ok (.iconst 0, 1) := by decide +kernel
theorem dX0_wraps_27 : decode cX0_wraps 27 = .ok (.istore_n 2, 1) := by decide +kernel
theorem dX0_wraps_28 : decode cX0_wraps 28 = .ok (.iconst 0, 1) := by decide +kernel
theorem dX0_wraps_29 : decode cX0_wraps 29 = .ok (.istore_n 3, 1) := by decide +kernel
theorem dX0_wraps_30 : decode cX0_wraps 30 = .ok (.iload_n 3, 1) := by decide +kernel
theorem dX0_wraps_31 : decode cX0_wraps 31 = .ok (.bipush 8, 2) := by decide +kernel
theorem dX0_wraps_33 : decode cX0_wraps 33 = .ok (.if_icmp .ge 64, 3) := by decide +kernel
theorem dX0_wraps_36 : decode cX0_wraps 36 = .ok (.aload_n 0, 1) := by decide +kernel
theorem dX0_wraps_37 : decode cX0_wraps 37 = .ok (.getfield 72, 3) := by decide +kernel
theorem dX0_wraps_40 : decode cX0_wraps 40 = .ok (.iload_n 1, 1) := by decide +kernel
theorem dX0_wraps_41 : decode cX0_wraps 41 = .ok (.iaload, 1) := by decide +kernel
theorem dX0_wraps_42 : decode cX0_wraps 42 = .ok (.aload_n 0, 1) := by decide +kernel
theorem dX0_wraps_43 : decode cX0_wraps 43 = .ok (.getfield 123, 3) := by decide +kernel
theorem dX0_wraps_46 : decode cX0_wraps 46 = .ok (.if_icmp .ne 51, 3) := by decide +kernel
theorem dX0_wraps_49 : decode cX0_wraps 49 = .ok (.aload_n 0, 1) := by decide +kernel
theorem dX0_wraps_50 : decode cX0_wraps 50 = .ok (.iload_n 1, 1) := by decide +kernel
theorem dX0_wraps_51 : decode cX0_wraps 51 = .ok (.iload_n 3, 1) := by decide +kernel
theorem dX0_wraps_52 : decode cX0_wraps 52 = .ok (.invokevirtual 305, 3) := by decide +kernel
theorem dX0_wraps_55 : decode cX0_wraps 55 = .ok (.iconst 0, 1) := by decide +kernel
theorem dX0_wraps_56 : decode cX0_wraps 56 = .ok (.istore 4, 2) := by decide +kernel
theorem dX0_wraps_58 : decode cX0_wraps 58 = .ok (.iload 4, 2) := by decide +kernel
theorem dX0_wraps_60 : decode cX0_wraps 60 = .ok (.aload_n 0, 1) := by decide +kernel
theorem dX0_wraps_61 : decode cX0_wraps 61 = .ok (.getfield 123, 3) := by decide +kernel
theorem dX0_wraps_64 : decode cX0_wraps 64 = .ok (.if_icmp .ge 27, 3) := by decide +kernel
theorem dX0_wraps_67 : decode cX0_wraps 67 = .ok (.iload_n 2, 1) := by decide +kernel
theorem dX0_wraps_68 : decode cX0_wraps 68 = .ok (.aload_n 0, 1) := by decide +kernel
theorem dX0_wraps_69 : decode cX0_wraps 69 = .ok (.iload_n 1, 1) := by decide +kernel
theorem dX0_wraps_70 : decode cX0_wraps 70 = .ok (.iload 4, 2) := by decide +kernel
theorem dX0_wraps_72 : decode cX0_wraps 72 = .ok (.invokevirtual 308, 3) := by decide +kernel
theorem dX0_wraps_75 : decode cX0_wraps 75 = .ok (.ifCond .eq 7, 3) := by decide +kernel
theorem dX0_wraps_78 : decode cX0_wraps 78 = .ok (.iconst 1, 1) := by decide +kernel
theorem dX0_wraps_79 : decode cX0_wraps 79 = .ok (.goto 4, 3) := by decide +kernel
theorem dX0_wraps_82 : decode cX0_wraps 82 = .ok (.iconst 0, 1) := by decide +kernel
theorem dX0_wraps_83 : decode cX0_wraps 83 = .ok (.iadd, 1) := by decide +kernel
theorem dX0_wraps_84 : decode cX0_wraps 84 = .ok (.istore_n 2, 1) := by decide +kernel
theorem dX0_wraps_85 : decode cX0_wraps 85 = .ok (.iinc 4 1, 3) := by decide +kernel
theorem dX0_wraps_88 : decode cX0_wraps 88 = .ok (.goto (-30), 3) := by decide +kernel
theorem dX0_wraps_91 : decode cX0_wraps 91 = .ok (.iinc 3 1, 3) := by decide +kernel
theorem dX0_wraps_94 : decode cX0_wraps 94 = .ok (.goto (-64), 3) := by decide +kernel
theorem dX0_wraps_97 : decode cX0_wraps 97 = .ok (.iload_n 2, 1) := by decide +kernel
theorem dX0_wraps_98 : decode cX0_wraps 98 = .ok (.ireturn, 1) := by decide +kernel
theorem dX0_findBeside_0 : decode cX0_findBeside 0 = .ok (.aload_n 0, 1) := by decide +kernel
theorem dX0_findBeside_1 : decode cX0_findBeside 1 = .ok (.getfield 90, 3) := by decide +kernel
theorem dX0_findBeside_4 : decode cX0_findBeside 4 = .ok (.bipush (-9), 2) := by decide +kernel
theorem dX0_findBeside_6 : decode cX0_findBeside 6 = .ok (.invokestatic 287, 3) := by decide +kernel
theorem dX0_findBeside_9 : decode cX0_findBeside 9 = .ok (.iconst 0, 1) := by decide +kernel
theorem dX0_findBeside_10 : decode cX0_findBeside 10 = .ok (.istore_n 3, 1) := by decide +kernel
theorem dX0_findBeside_11 : decode cX0_findBeside 11 = .ok (.iload_n 3, 1) := by decide +kernel
theorem dX0_findBeside_12 : decode cX0_findBeside 12 = .ok (.aload_n 0, 1) := by decide +kernel
theorem dX0_findBeside_13 : decode cX0_findBeside 13 = .ok (.getfield 72, 3) := by decide +kernel
theorem dX0_findBeside_16 : decode cX0_findBeside 16 = .ok (.iload_n 1, 1) := by decide +kernel
theorem dX0_findBeside_17 : decode cX0_findBeside 17 = .ok (.iaload, 1) := by decide +kernel
theorem dX0_findBeside_18 : decode cX0_findBeside 18 = .ok (.if_icmp .ge 122, 3) := by decide +kernel
theorem dX0_findBeside_21 : decode cX0_findBeside 21 = .ok (.iconst 0, 1) := by decide +kernel
theorem dX0_findBeside_22 : decode cX0_findBeside 22 = .ok (.istore 4, 2) := by decide +kernel
theorem dX0_findBeside_24 : decode cX0_findBeside 24 = .ok (.iload 4, 2) := by decide +kernel
theorem dX0_findBeside_26 : decode cX0_findBeside 26 = .ok (.aload_n 0, 1) := by decide +kernel
theorem dX0_findBeside_27 : decode cX0_findBeside 27 = .ok (.getfield 72, 3) := by decide +kernel
theorem dX0_findBeside_30 : decode cX0_findBeside 30 = .ok (.iload_n 1, 1) := by decide +kernel
theorem dX0_findBeside_31 : decode cX0_findBeside 31 = .ok (.iaload, 1) := by decide +kernel
theorem dX0_findBeside_32 : decode cX0_findBeside 32 = .ok (.if_icmp .ge 102, 3) := by decide +kernel
theorem dX0_findBeside_35 : decode cX0_findBeside 35 = .ok (.aload_n 0, 1) := by decide +kernel
theorem dX0_findBeside_36 : decode cX0_findBeside 36 = .ok (.iload_n 1, 1) := by decide +kernel
theorem dX0_findBeside_37 : decode cX0_findBeside 37 = .ok (.iload 4, 2) := by decide +kernel
theorem dX0_findBeside_39 : decode cX0_findBeside 39 = .ok (.iload_n 2, 1) := by decide +kernel
theorem dX0_findBeside_40 : decode cX0_findBeside 40 = .ok (.invokevirtual 290, 3) := by decide +kernel
theorem dX0_findBeside_43 : decode cX0_findBeside 43 = .ok (.aload_n 0, 1) := by decide +kernel
theorem dX0_findBeside_44 : decode cX0_findBeside 44 = .ok (.iload_n 1, 1) := by decide +kernel
theorem dX0_findBeside_45 : decode cX0_findBeside 45 = .ok (.iload_n 3, 1) := by decide +kernel
theorem dX0_findBeside_46 : decode cX0_findBeside 46 = .ok (.iload_n 2, 1) := by decide +kernel
theorem dX0_findBeside_47 : decode cX0_findBeside 47 = .ok (.invokevirtual 290, 3) := by decide +kernel
theorem dX0_findBeside_50 : decode cX0_findBeside 50 = .ok (.isub, 1) := by decide +kernel
theorem dX0_findBeside_51 : decode cX0_findBeside 51 = .ok (.istore 5, 2) := by decide +kernel
theorem dX0_findBeside_53 : decode cX0_findBeside 53 = .ok (.aload_n 0, 1) := by decide +kernel
theorem dX0_findBeside_54 : decode cX0_findBeside 54 = .ok (.iload_n 1, 1) := by decide +kernel
theorem dX0_findBeside_55 : decode cX0_findBeside 55 = .ok (.iload 4, 2) := by decide +kernel
theorem dX0_findBeside_57 : decode cX0_findBeside 57 = .ok (.iload_n 2, 1) := by decide +kernel
theorem dX0_findBeside_58 : decode cX0_findBeside 58 = .ok (.invokevirtual 293, 3) := by decide +kernel
theorem dX0_findBeside_61 : decode cX0_findBeside 61 = .ok (.aload_n 0, 1) := by decide +kernel
theorem dX0_findBeside_62 : decode cX0_findBeside 62 = .ok (.iload_n 1, 1) := by decide +kernel
theorem dX0_findBeside_63 : decode cX0_findBeside 63 = .ok (.iload_n 3, 1) := by decide +kernel
theorem dX0_findBeside_64 : decode cX0_findBeside 64 = .ok (.iload_n 2, 1) := by decide +kernel
theorem dX0_findBeside_65 : decode cX0_findBeside 65 = .ok (.invokevirtual 293, 3) := by decide +kernel
theorem dX0_findBeside_68 : decode cX0_findBeside 68 = .ok (.isub, 1) := by decide +kernel
theorem dX0_findBeside_69 : decode cX0_findBeside 69 = .ok (.istore 6, 2) := by decide +kernel
theorem dX0_findBeside_71 : decode cX0_findBeside 71 = .ok (.iload 5, 2) := by decide +kernel
theorem dX0_findBeside_73 : decode cX0_findBeside 73 = .ok (.iload 5, 2) := by decide +kernel
theorem dX0_findBeside_75 : decode cX0_findBeside 75 = .ok (.imul, 1) := by decide +kernel
theorem dX0_findBeside_76 : decode cX0_findBeside 76 = .ok (.iload 6, 2) := by decide +kernel
theorem dX0_findBeside_78 : decode cX0_findBeside 78 = .ok (.iload 6, 2) := by decide +kernel
theorem dX0_findBeside_80 : decode cX0_findBeside 80 = .ok (.imul, 1) := by decide +kernel
theorem dX0_findBeside_81 : decode cX0_findBeside 81 = .ok (.iadd, 1) := by decide +kernel
theorem dX0_findBeside_82 : decode cX0_findBeside 82 = .ok (.iconst 1, 1) := by decide +kernel
theorem dX0_findBeside_83 : decode cX0_findBeside 83 = .ok (.if_icmp .ne 45, 3) := by decide +kernel
theorem dX0_findBeside_86 : decode cX0_findBeside 86 = .ok (.aload_n 0, 1) := by decide +kernel
theorem dX0_findBeside_87 : decode cX0_findBeside 87 = .ok (.getfield 90, 3) := by decide +kernel
theorem dX0_findBeside_90 : decode cX0_findBeside 90 = .ok (.iconst 4, 1) := by decide +kernel
theorem dX0_findBeside_91 : decode cX0_findBeside 91 = .ok (.iload_n 3, 1) := by decide +kernel
theorem dX0_findBeside_92 : decode cX0_findBeside 92 = .ok (.imul, 1) := by decide +kernel
theorem dX0_findBeside_93 : decode cX0_findBeside 93 = .ok (.iload 5, 2) := by decide +kernel
theorem dX0_findBeside_95 : decode cX0_findBeside 95 = .ok (.iconst 1, 1) := by decide +kernel
theorem dX0_findBeside_96 : decode cX0_findBeside 96 = .ok (.if_icmp .ne 7, 3) := by decide +kernel
theorem dX0_findBeside_99 : decode cX0_findBeside 99 = .ok (.iconst 0, 1) := by decide +kernel
theorem dX0_findBeside_100 : decode cX0_findBeside 100 = .ok (.goto 24, 3) := by decide +kernel
theorem dX0_findBeside_103 : decode cX0_findBeside 103 = .ok (.iload 6, 2) := by decide +kernel
theorem dX0_findBeside_105 : decode cX0_findBeside 105 = .ok (.iconst 1, 1) := by decide +kernel
theorem dX0_findBeside_106 : decode cX0_findBeside 106 = .ok (.if_icmp .ne 7, 3) := by decide +kernel
theorem dX0_findBeside_109 : decode cX0_findBeside 109 = .ok (.iconst 1, 1) := by decide +kernel
theorem dX0_findBeside_110 : decode cX0_findBeside 110 = .ok (.goto 14, 3) := by decide +kernel
theorem dX0_findBeside_113 : decode cX0_findBeside 113 = .ok (.iload 5, 2) := by decide +kernel
theorem dX0_findBeside_115 : decode cX0_findBeside 115 = .ok (.iconst (-1), 1) := by decide +kernel
theorem dX0_findBeside_116 : decode cX0_findBeside 116 = .ok (.if_icmp .ne 7, 3) := by decide +kernel
theorem dX0_findBeside_119 : decode cX0_findBeside 119 = .ok (.iconst 2, 1) := by decide +kernel
theorem dX0_findBeside_120 : decode cX0_findBeside 120 = .ok (.goto 4, 3) := by decide +kernel
theorem dX0_findBeside_123 : decode cX0_findBeside 123 = .ok (.iconst 3, 1) := by decide +kernel
theorem dX0_findBeside_124 : decode cX0_findBeside 124 = .ok (.iadd, 1) := by decide +kernel
theorem dX0_findBeside_125 : decode cX0_findBeside 125 = .ok (.iload 4, 2) := by decide +kernel
theorem dX0_findBeside_127 : decode cX0_findBeside 127 = .ok (.iastore, 1) := by decide +kernel
theorem dX0_findBeside_128 : decode cX0_findBeside 128 = .ok (.iinc 4 1, 3) := by decide +kernel
theorem dX0_findBeside_131 : decode cX0_findBeside 131 = .ok (.goto (-107), 3) := by decide +kernel
theorem dX0_findBeside_134 : decode cX0_findBeside 134 = .ok (.iinc 3 1, 3) := by decide +kernel
theorem dX0_findBeside_137 : decode cX0_findBeside 137 = .ok (.goto (-126), 3) := by decide +kernel
theorem dX0_findBeside_140 : decode cX0_findBeside 140 = .ok (.return_, 1) := by decide +kernel
theorem dX0_imageX_0 : decode cX0_imageX 0 = .ok (.iload_n 3, 1) := by decide +kernel
theorem dX0_imageX_1 : decode cX0_imageX 1 = .ok (.aload_n 0, 1) := by decide +kernel
theorem dX0_imageX_2 : decode cX0_imageX 2 = .ok (.getfield 68, 3) := by decide +kernel
theorem dX0_imageX_5 : decode cX0_imageX 5 = .ok (.iload_n 1, 1) := by decide +kernel
theorem dX0_imageX_6 : decode cX0_imageX 6 = .ok (.aaload, 1) := by decide +kernel
theorem dX0_imageX_7 : decode cX0_imageX 7 = .ok (.iload_n 2, 1) := by decide +kernel
theorem dX0_imageX_8 : decode cX0_imageX 8 = .ok (.iaload, 1) := by decide +kernel
theorem dX0_imageX_9 : decode cX0_imageX 9 = .ok (.bipush 32, 2) := by decide +kernel
theorem dX0_imageX_11 : decode cX0_imageX 11 = .ok (.irem, 1) := by decide +kernel
theorem dX0_imageX_12 : decode cX0_imageX 12 = .ok (.aload_n 0, 1) := by decide +kernel
theorem dX0_imageX_13 : decode cX0_imageX 13 = .ok (.getfield 68, 3) := by decide +kernel
theorem dX0_imageX_16 : decode cX0_imageX 16 = .ok (.iload_n 1, 1) := by decide +kernel
theorem dX0_imageX_17 : decode cX0_imageX 17 = .ok (.aaload, 1) := by decide +kernel
theorem dX0_imageX_18 : decode cX0_imageX 18 = .ok (.iload_n 2, 1) := by decide +kernel
theorem dX0_imageX_19 : decode cX0_imageX 19 = .ok (.iaload, 1) := by decide +kernel
theorem dX0_imageX_20 : decode cX0_imageX 20 = .ok (.bipush 32, 2) := by decide +kernel
theorem dX0_imageX_22 : decode cX0_imageX 22 = .ok (.idiv, 1) := by decide +kernel
theorem dX0_imageX_23 : decode cX0_imageX 23 = .ok (.invokestatic 267, 3) := by decide +kernel
theorem dX0_imageX_26 : decode cX0_imageX 26 = .ok (.ireturn, 1) := by decide +kernel
theorem dX0_imageY_0 : decode cX0_imageY 0 = .ok (.iload_n 3, 1) := by decide +kernel
theorem dX0_imageY_1 : decode cX0_imageY 1 = .ok (.aload_n 0, 1) := by decide +kernel
theorem dX0_imageY_2 : decode cX0_imageY 2 = .ok (.getfield 68, 3) := by decide +kernel
theorem dX0_imageY_5 : decode cX0_imageY 5 = .ok (.iload_n 1, 1) := by decide +kernel
theorem dX0_imageY_6 : decode cX0_imageY 6 = .ok (.aaload, 1) := by decide +kernel
theorem dX0_imageY_7 : decode cX0_imageY 7 = .ok (.iload_n 2, 1) := by decide +kernel
theorem dX0_imageY_8 : decode cX0_imageY 8 = .ok (.iaload, 1) := by decide +kernel
theorem dX0_imageY_9 : decode cX0_imageY 9 = .ok (.bipush 32, 2) := by decide +kernel
theorem dX0_imageY_11 : decode cX0_imageY 11 = .ok (.irem, 1) := by decide +kernel
theorem dX0_imageY_12 : decode cX0_imageY 12 = .ok (.aload_n 0, 1) := by decide +kernel
theorem dX0_imageY_13 : decode cX0_imageY 13 = .ok (.getfield 68, 3) := by decide +kernel
theorem dX0_imageY_16 : decode cX0_imageY 16 = .ok (.iload_n 1, 1) := by decide +kernel
theorem dX0_imageY_17 : decode cX0_imageY 17 = .ok (.aaload, 1) := by decide +kernel
theorem dX0_imageY_18 : decode cX0_imageY 18 = .ok (.iload_n 2, 1) := by decide +kernel
theorem dX0_imageY_19 : decode cX0_imageY 19 = .ok (.iaload, 1) := by decide +kernel
theorem dX0_imageY_20 : decode cX0_imageY 20 = .ok (.bipush 32, 2) := by decide +kernel
theorem dX0_imageY_22 : decode cX0_imageY 22 = .ok (.idiv, 1) := by decide +kernel
theorem dX0_imageY_23 : decode cX0_imageY 23 = .ok (.invokestatic 270, 3) := by decide +kernel
theorem dX0_imageY_26 : decode cX0_imageY 26 = .ok (.ireturn, 1) := by decide +kernel
theorem dX0_isWrapped_0 : decode cX0_isWrapped 0 = .ok (.aload_n 0, 1) := by decide +kernel
theorem dX0_isWrapped_1 : decode cX0_isWrapped 1 = .ok (.getfield 72, 3) := by decide +kernel
theorem dX0_isWrapped_4 : decode cX0_isWrapped 4 = .ok (.iload_n 1, 1) := by decide +kernel
theorem dX0_isWrapped_5 : decode cX0_isWrapped 5 = .ok (.iaload, 1) := by decide +kernel
theorem dX0_isWrapped_6 : decode cX0_isWrapped 6 = .ok (.istore_n 3, 1) := by decide +kernel
theorem dX0_isWrapped_7 : decode cX0_isWrapped 7 = .ok (.aload_n 0, 1) := by decide +kernel
theorem dX0_isWrapped_8 : decode cX0_isWrapped 8 = .ok (.getfield 81, 3) := by decide +kernel
theorem dX0_isWrapped_11 : decode cX0_isWrapped 11 = .ok (.bipush (-9), 2) := by decide +kernel
theorem dX0_isWrapped_13 : decode cX0_isWrapped 13 = .ok (.invokestatic 287, 3) := by decide +kernel
theorem dX0_isWrapped_16 : decode cX0_isWrapped 16 = .ok (.aload_n 0, 1) := by decide +kernel
theorem dX0_isWrapped_17 : decode cX0_isWrapped 17 = .ok (.getfield 81, 3) := by decide +kernel
theorem dX0_isWrapped_20 : decode cX0_isWrapped 20 = .ok (.iconst 0, 1) := by decide +kernel
theorem dX0_isWrapped_21 : decode cX0_isWrapped 21 = .ok (.iload_n 2, 1) := by decide +kernel
theorem dX0_isWrapped_22 : decode cX0_isWrapped 22 = .ok (.iastore, 1) := by decide +kernel
theorem dX0_isWrapped_23 : decode cX0_isWrapped 23 = .ok (.aload_n 0, 1) := by decide +kernel
theorem dX0_isWrapped_24 : decode cX0_isWrapped 24 = .ok (.getfield 84, 3) := by decide +kernel
theorem dX0_isWrapped_27 : decode cX0_isWrapped 27 = .ok (.iconst 0, 1) := by decide +kernel
theorem dX0_isWrapped_28 : decode cX0_isWrapped 28 = .ok (.aload_n 0, 1) := by decide +kernel
theorem dX0_isWrapped_29 : decode cX0_isWrapped 29 = .ok (.getfield 19, 3) := by decide +kernel
theorem dX0_isWrapped_32 : decode cX0_isWrapped 32 = .ok (.aload_n 0, 1) := by decide +kernel
theorem dX0_isWrapped_33 : decode cX0_isWrapped 33 = .ok (.getfield 37, 3) := by decide +kernel
theorem dX0_isWrapped_36 : decode cX0_isWrapped 36 = .ok (.iload_n 2, 1) := by decide +kernel
theorem dX0_isWrapped_37 : decode cX0_isWrapped 37 = .ok (.aaload, 1) := by decide +kernel
theorem dX0_isWrapped_38 : decode cX0_isWrapped 38 = .ok (.getfield 120, 3) := by decide +kernel
theorem dX0_isWrapped_41 : decode cX0_isWrapped 41 = .ok (.iaload, 1) := by decide +kernel
theorem dX0_isWrapped_42 : decode cX0_isWrapped 42 = .ok (.iastore, 1) := by decide +kernel
theorem dX0_isWrapped_43 : decode cX0_isWrapped 43 = .ok (.aload_n 0, 1) := by decide +kernel
theorem dX0_isWrapped_44 : decode cX0_isWrapped 44 = .ok (.getfield 87, 3) := by decide +kernel
theorem dX0_isWrapped_47 : decode cX0_isWrapped 47 = .ok (.iconst 0, 1) := by decide +kernel
theorem dX0_isWrapped_48 : decode cX0_isWrapped 48 = .ok (.aload_n 0, 1) := by decide +kernel
theorem dX0_isWrapped_49 : decode cX0_isWrapped 49 = .ok (.getfield 23, 3) := by decide +kernel
theorem dX0_isWrapped_52 : decode cX0_isWrapped 52 = .ok (.aload_n 0, 1) := by decide +kernel
theorem dX0_isWrapped_53 : decode cX0_isWrapped 53 = .ok (.getfield 37, 3) := by decide +kernel
theorem dX0_isWrapped_56 : decode cX0_isWrapped 56 = .ok (.iload_n 2, 1) := by decide +kernel
theorem dX0_isWrapped_57 : decode cX0_isWrapped 57 = .ok (.aaload, 1) := by decide +kernel
theorem dX0_isWrapped_58 : decode cX0_isWrapped 58 = .ok (.getfield 120, 3) := by decide +kernel
theorem dX0_isWrapped_61 : decode cX0_isWrapped 61 = .ok (.iaload, 1) := by decide +kernel
theorem dX0_isWrapped_62 : decode cX0_isWrapped 62 = .ok (.iastore, 1) := by decide +kernel
theorem dX0_isWrapped_63 : decode cX0_isWrapped 63 = .ok (.iconst 1, 1) := by decide +kernel
theorem dX0_isWrapped_64 : decode cX0_isWrapped 64 = .ok (.istore 4, 2) := by decide +kernel
theorem dX0_isWrapped_66 : decode cX0_isWrapped 66 = .ok (.aload_n 0, 1) := by decide +kernel
theorem dX0_isWrapped_67 : decode cX0_isWrapped 67 = .ok (.getfield 93, 3) := by decide +kernel
theorem dX0_isWrapped_70 : decode cX0_isWrapped 70 = .ok (.iconst 0, 1) := by decide +kernel
theorem dX0_isWrapped_71 : decode cX0_isWrapped 71 = .ok (.iconst 0, 1) := by decide +kernel
theorem dX0_isWrapped_72 : decode cX0_isWrapped 72 = .ok (.iastore, 1) := by decide +kernel
theorem dX0_isWrapped_73 : decode cX0_isWrapped 73 = .ok (.iconst 0, 1) := by decide +kernel
theorem dX0_isWrapped_74 : decode cX0_isWrapped 74 = .ok (.istore 5, 2) := by decide +kernel
theorem dX0_isWrapped_76 : decode cX0_isWrapped 76 = .ok (.iconst 0, 1) := by decide +kernel
theorem dX0_isWrapped_77 : decode cX0_isWrapped 77 = .ok (.istore 6, 2) := by decide +kernel
theorem dX0_isWrapped_79 : decode cX0_isWrapped 79 = .ok (.iload 6, 2) := by decide +kernel
theorem dX0_isWrapped_81 : decode cX0_isWrapped 81 = .ok (.iload 4, 2) := by decide +kernel
theorem dX0_isWrapped_83 : decode cX0_isWrapped 83 = .ok (.if_icmp .ge 119, 3) := by decide +kernel
theorem dX0_isWrapped_86 : decode cX0_isWrapped 86 = .ok (.aload_n 0, 1) := by decide +kernel
theorem dX0_isWrapped_87 : decode cX0_isWrapped 87 = .ok (.getfield 93, 3) := by decide +kernel
theorem dX0_isWrapped_90 : decode cX0_isWrapped 90 = .ok (.iload 6, 2) := by decide +kernel
theorem dX0_isWrapped_92 : decode cX0_isWrapped 92 = .ok (.iaload, 1) := by decide +kernel
theorem dX0_isWrapped_93 : decode cX0_isWrapped 93 = .ok (.istore 7, 2) := by decide +kernel
theorem dX0_isWrapped_95 : decode cX0_isWrapped 95 = .ok (.iload 5, 2) := by decide +kernel
theorem dX0_isWrapped_97 : decode cX0_isWrapped 97 = .ok (.iconst 1, 1) := by decide +kernel
theorem dX0_isWrapped_98 : decode cX0_isWrapped 98 = .ok (.aload_n 0, 1) := by decide +kernel
theorem dX0_isWrapped_99 : decode cX0_isWrapped 99 = .ok (.getfield 81, 3) := by decide +kernel
theorem dX0_isWrapped_102 : decode cX0_isWrapped 102 = .ok (.iload 7, 2) := by decide +kernel
theorem dX0_isWrapped_104 : decode cX0_isWrapped 104 = .ok (.iaload, 1) := by decide +kernel
theorem dX0_isWrapped_105 : decode cX0_isWrapped 105 = .ok (.ishl, 1) := by decide +kernel
theorem dX0_isWrapped_106 : decode cX0_isWrapped 106 = .ok (.ior, 1) := by decide +kernel
theorem dX0_isWrapped_107 : decode cX0_isWrapped 107 = .ok (.istore 5, 2) := by decide +kernel
theorem dX0_isWrapped_109 : decode cX0_isWrapped 109 = .ok (.iconst 0, 1) := by decide +kernel
theorem dX0_isWrapped_110 : decode cX0_isWrapped 110 = .ok (.istore 8, 2) := by decide +kernel
theorem dX0_isWrapped_112 : decode cX0_isWrapped 112 = .ok (.iload 8, 2) := by decide +kernel
theorem dX0_isWrapped_114 : decode cX0_isWrapped 114 = .ok (.iconst 4, 1) := by decide +kernel
theorem dX0_isWrapped_115 : decode cX0_isWrapped 115 = .ok (.if_icmp .ge 81, 3) := by decide +kernel
theorem dX0_isWrapped_118 : decode cX0_isWrapped 118 = .ok (.aload_n 0, 1) := by decide +kernel
theorem dX0_isWrapped_119 : decode cX0_isWrapped 119 = .ok (.getfield 90, 3) := by decide +kernel
theorem dX0_isWrapped_122 : decode cX0_isWrapped 122 = .ok (.iconst 4, 1) := by decide +kernel
theorem dX0_isWrapped_123 : decode cX0_isWrapped 123 = .ok (.iload 7, 2) := by decide +kernel
theorem dX0_isWrapped_125 : decode cX0_isWrapped 125 = .ok (.imul, 1) := by decide +kernel
theorem dX0_isWrapped_126 : decode cX0_isWrapped 126 = .ok (.iload 8, 2) := by decide +kernel
theorem dX0_isWrapped_128 : decode cX0_isWrapped 128 = .ok (.iadd, 1) := by decide +kernel
theorem dX0_isWrapped_129 : decode cX0_isWrapped 129 = .ok (.iaload, 1) := by decide +kernel
theorem dX0_isWrapped_130 : decode cX0_isWrapped 130 = .ok (.istore 9, 2) := by decide +kernel
theorem dX0_isWrapped_132 : decode cX0_isWrapped 132 = .ok (.iload 9, 2) := by decide +kernel
theorem dX0_isWrapped_134 : decode cX0_isWrapped 134 = .ok (.bipush (-9), 2) := by decide +kernel
theorem dX0_isWrapped_136 : decode cX0_isWrapped 136 = .ok (.if_icmp .eq 54, 3) := by decide +kernel
theorem dX0_isWrapped_139 : decode cX0_isWrapped 139 = .ok (.aload_n 0, 1) := by decide +kernel
theorem dX0_isWrapped_140 : decode cX0_isWrapped 140 = .ok (.getfield 81, 3) := by decide +kernel
theorem dX0_isWrapped_143 : decode cX0_isWrapped 143 = .ok (.iload 9, 2) := by decide +kernel
theorem dX0_isWrapped_145 : decode cX0_isWrapped 145 = .ok (.iaload, 1) := by decide +kernel
theorem dX0_isWrapped_146 : decode cX0_isWrapped 146 = .ok (.bipush (-9), 2) := by decide +kernel
theorem dX0_isWrapped_148 : decode cX0_isWrapped 148 = .ok (.if_icmp .ne 7, 3) := by decide +kernel
theorem dX0_isWrapped_151 : decode cX0_isWrapped 151 = .ok (.iconst 1, 1) := by decide +kernel
theorem dX0_isWrapped_152 : decode cX0_isWrapped 152 = .ok (.goto 4, 3) := by decide +kernel
theorem dX0_isWrapped_155 : decode cX0_isWrapped 155 = .ok (.iconst 0, 1) := by decide +kernel
theorem dX0_isWrapped_156 : decode cX0_isWrapped 156 = .ok (.istore 10, 2) := by decide +kernel
theorem dX0_isWrapped_158 : decode cX0_isWrapped 158 = .ok (.aload_n 0, 1) := by decide +kernel
theorem dX0_isWrapped_159 : decode cX0_isWrapped 159 = .ok (.iload 7, 2) := by decide +kernel
theorem dX0_isWrapped_161 : decode cX0_isWrapped 161 = .ok (.iload 8, 2) := by decide +kernel
theorem dX0_isWrapped_163 : decode cX0_isWrapped 163 = .ok (.iload 9, 2) := by decide +kernel
theorem dX0_isWrapped_165 : decode cX0_isWrapped 165 = .ok (.invokevirtual 296, 3) := by decide +kernel
theorem dX0_isWrapped_168 : decode cX0_isWrapped 168 = .ok (.ifCond .ne 5, 3) := by decide +kernel
theorem dX0_isWrapped_171 : decode cX0_isWrapped 171 = .ok (.iconst 0, 1) := by decide +kernel
theorem dX0_isWrapped_172 : decode cX0_isWrapped 172 = .ok (.ireturn, 1) := by decide +kernel
theorem dX0_isWrapped_173 : decode cX0_isWrapped 173 = .ok (.iload 10, 2) := by decide +kernel
theorem dX0_isWrapped_175 : decode cX0_isWrapped 175 = .ok (.ifCond .eq 15, 3) := by decide +kernel
theorem dX0_isWrapped_178 : decode cX0_isWrapped 178 = .ok (.aload_n 0, 1) := by decide +kernel
theorem dX0_isWrapped_179 : decode cX0_isWrapped 179 = .ok (.getfield 93, 3) := by decide +kernel
theorem dX0_isWrapped_182 : decode cX0_isWrapped 182 = .ok (.iload 4, 2) := by decide +kernel
theorem dX0_isWrapped_184 : decode cX0_isWrapped 184 = .ok (.iload 9, 2) := by decide +kernel
theorem dX0_isWrapped_186 : decode cX0_isWrapped 186 = .ok (.iastore, 1) := by decide +kernel
theorem dX0_isWrapped_187 : decode cX0_isWrapped 187 = .ok (.iinc 4 1, 3) := by decide +kernel
theorem dX0_isWrapped_190 : decode cX0_isWrapped 190 = .ok (.iinc 8 1, 3) := by decide +kernel
theorem dX0_isWrapped_193 : decode cX0_isWrapped 193 = .ok (.goto (-81), 3) := by decide +kernel
theorem dX0_isWrapped_196 : decode cX0_isWrapped 196 = .ok (.iinc 6 1, 3) := by decide +kernel
theorem dX0_isWrapped_199 : decode cX0_isWrapped 199 = .ok (.goto (-120), 3) := by decide +kernel
theorem dX0_isWrapped_202 : decode cX0_isWrapped 202 = .ok (.iload 5, 2) := by decide +kernel
theorem dX0_isWrapped_204 : decode cX0_isWrapped 204 = .ok (.invokestatic 299, 3) := by decide +kernel
theorem dX0_isWrapped_207 : decode cX0_isWrapped 207 = .ok (.iload_n 3, 1) := by decide +kernel
theorem dX0_isWrapped_208 : decode cX0_isWrapped 208 = .ok (.if_icmp .ne 7, 3) := by decide +kernel
theorem dX0_isWrapped_211 : decode cX0_isWrapped 211 = .ok (.iconst 1, 1) := by decide +kernel
theorem dX0_isWrapped_212 : decode cX0_isWrapped 212 = .ok (.goto 4, 3) := by decide +kernel
theorem dX0_isWrapped_215 : decode cX0_isWrapped 215 = .ok (.iconst 0, 1) := by decide +kernel
theorem dX0_isWrapped_216 : decode cX0_isWrapped 216 = .ok (.ireturn, 1) := by decide +kernel
theorem dX0_agrees_0 : decode cX0_agrees 0 = .ok (.iload_n 2, 1) := by decide +kernel
theorem dX0_agrees_1 : decode cX0_agrees 1 = .ok (.iconst 2, 1) := by decide +kernel
theorem dX0_agrees_2 : decode cX0_agrees 2 = .ok (.irem, 1) := by decide +kernel
theorem dX0_agrees_3 : decode cX0_agrees 3 = .ok (.ifCond .ne 12, 3) := by decide +kernel
theorem dX0_agrees_6 : decode cX0_agrees 6 = .ok (.aload_n 0, 1) := by decide +kernel
theorem dX0_agrees_7 : decode cX0_agrees 7 = .ok (.getfield 84, 3) := by decide +kernel
theorem dX0_agrees_10 : decode cX0_agrees 10 = .ok (.iload_n 1, 1) := by decide +kernel
theorem dX0_agrees_11 : decode cX0_agrees 11 = .ok (.iaload, 1) := by decide +kernel
theorem dX0_agrees_12 : decode cX0_agrees 12 = .ok (.goto 9, 3) := by decide +kernel
theorem dX0_agrees_15 : decode cX0_agrees 15 = .ok (.aload_n 0, 1) := by decide +kernel
theorem dX0_agrees_16 : decode cX0_agrees 16 = .ok (.getfield 87, 3) := by decide +kernel
theorem dX0_agrees_19 : decode cX0_agrees 19 = .ok (.iload_n 1, 1) := by decide +kernel
theorem dX0_agrees_20 : decode cX0_agrees 20 = .ok (.iaload, 1) := by decide +kernel
theorem dX0_agrees_21 : decode cX0_agrees 21 = .ok (.iload_n 2, 1) := by decide +kernel
theorem dX0_agrees_22 : decode cX0_agrees 22 = .ok (.iconst 1, 1) := by decide +kernel
theorem dX0_agrees_23 : decode cX0_agrees 23 = .ok (.ishr, 1) := by decide +kernel
theorem dX0_agrees_24 : decode cX0_agrees 24 = .ok (.ixor, 1) := by decide +kernel
theorem dX0_agrees_25 : decode cX0_agrees 25 = .ok (.istore 4, 2) := by decide +kernel
theorem dX0_agrees_27 : decode cX0_agrees 27 = .ok (.aload_n 0, 1) := by decide +kernel
theorem dX0_agrees_28 : decode cX0_agrees 28 = .ok (.getfield 37, 3) := by decide +kernel
theorem dX0_agrees_31 : decode cX0_agrees 31 = .ok (.aload_n 0, 1) := by decide +kernel
theorem dX0_agrees_32 : decode cX0_agrees 32 = .ok (.getfield 81, 3) := by decide +kernel
theorem dX0_agrees_35 : decode cX0_agrees 35 = .ok (.iload_n 1, 1) := by decide +kernel
theorem dX0_agrees_36 : decode cX0_agrees 36 = .ok (.iaload, 1) := by decide +kernel
theorem dX0_agrees_37 : decode cX0_agrees 37 = .ok (.aaload, 1) := by decide +kernel
theorem dX0_agrees_38 : decode cX0_agrees 38 = .ok (.astore 5, 2) := by decide +kernel
theorem dX0_agrees_40 : decode cX0_agrees 40 = .ok (.aload 5, 2) := by decide +kernel
theorem dX0_agrees_42 : decode cX0_agrees 42 = .ok (.getfield 166, 3) := by decide +kernel
theorem dX0_agrees_45 : decode cX0_agrees 45 = .ok (.iload 4, 2) := by decide +kernel
theorem dX0_agrees_47 : decode cX0_agrees 47 = .ok (.iaload, 1) := by decide +kernel
theorem dX0_agrees_48 : decode cX0_agrees 48 = .ok (.iload_n 2, 1) := by decide +kernel
theorem dX0_agrees_49 : decode cX0_agrees 49 = .ok (.iconst 1, 1) := by decide +kernel
theorem dX0_agrees_50 : decode cX0_agrees 50 = .ok (.ishr, 1) := by decide +kernel
theorem dX0_agrees_51 : decode cX0_agrees 51 = .ok (.ixor, 1) := by decide +kernel
theorem dX0_agrees_52 : decode cX0_agrees 52 = .ok (.istore 6, 2) := by decide +kernel
theorem dX0_agrees_54 : decode cX0_agrees 54 = .ok (.iload_n 2, 1) := by decide +kernel
theorem dX0_agrees_55 : decode cX0_agrees 55 = .ok (.iconst 2, 1) := by decide +kernel
theorem dX0_agrees_56 : decode cX0_agrees 56 = .ok (.irem, 1) := by decide +kernel
theorem dX0_agrees_57 : decode cX0_agrees 57 = .ok (.ifCond .ne 8, 3) := by decide +kernel
theorem dX0_agrees_60 : decode cX0_agrees 60 = .ok (.iload 6, 2) := by decide +kernel
theorem dX0_agrees_62 : decode cX0_agrees 62 = .ok (.goto 9, 3) := by decide +kernel
theorem dX0_agrees_65 : decode cX0_agrees 65 = .ok (.aload_n 0, 1) := by decide +kernel
theorem dX0_agrees_66 : decode cX0_agrees 66 = .ok (.getfield 84, 3) := by decide +kernel
theorem dX0_agrees_69 : decode cX0_agrees 69 = .ok (.iload_n 1, 1) := by decide +kernel
theorem dX0_agrees_70 : decode cX0_agrees 70 = .ok (.iaload, 1) := by decide +kernel
theorem dX0_agrees_71 : decode cX0_agrees 71 = .ok (.istore 7, 2) := by decide +kernel
theorem dX0_agrees_73 : decode cX0_agrees 73 = .ok (.iload_n 2, 1) := by decide +kernel
theorem dX0_agrees_74 : decode cX0_agrees 74 = .ok (.iconst 2, 1) := by decide +kernel
theorem dX0_agrees_75 : decode cX0_agrees 75 = .ok (.irem, 1) := by decide +kernel
theorem dX0_agrees_76 : decode cX0_agrees 76 = .ok (.iconst 1, 1) := by decide +kernel
theorem dX0_agrees_77 : decode cX0_agrees 77 = .ok (.if_icmp .ne 8, 3) := by decide +kernel
theorem dX0_agrees_80 : decode cX0_agrees 80 = .ok (.iload 6, 2) := by decide +kernel
theorem dX0_agrees_82 : decode cX0_agrees 82 = .ok (.goto 9, 3) := by decide +kernel
theorem dX0_agrees_85 : decode cX0_agrees 85 = .ok (.aload_n 0, 1) := by decide +kernel
theorem dX0_agrees_86 : decode cX0_agrees 86 = .ok (.getfield 87, 3) := by decide +kernel
theorem dX0_agrees_89 : decode cX0_agrees 89 = .ok (.iload_n 1, 1) := by decide +kernel
theorem dX0_agrees_90 : decode cX0_agrees 90 = .ok (.iaload, 1) := by decide +kernel
theorem dX0_agrees_91 : decode cX0_agrees 91 = .ok (.istore 8, 2) := by decide +kernel
theorem dX0_agrees_93 : decode cX0_agrees 93 = .ok (.aload_n 0, 1) := by decide +kernel
theorem dX0_agrees_94 : decode cX0_agrees 94 = .ok (.getfield 81, 3) := by decide +kernel
theorem dX0_agrees_97 : decode cX0_agrees 97 = .ok (.iload_n 3, 1) := by decide +kernel
theorem dX0_agrees_98 : decode cX0_agrees 98 = .ok (.iaload, 1) := by decide +kernel
theorem dX0_agrees_99 : decode cX0_agrees 99 = .ok (.bipush (-9), 2) := by decide +kernel
theorem dX0_agrees_101 : decode cX0_agrees 101 = .ok (.if_icmp .ne 33, 3) := by decide +kernel
theorem dX0_agrees_104 : decode cX0_agrees 104 = .ok (.aload_n 0, 1) := by decide +kernel
theorem dX0_agrees_105 : decode cX0_agrees 105 = .ok (.getfield 81, 3) := by decide +kernel
theorem dX0_agrees_108 : decode cX0_agrees 108 = .ok (.iload_n 3, 1) := by decide +kernel
theorem dX0_agrees_109 : decode cX0_agrees 109 = .ok (.aload 5, 2) := by decide +kernel
theorem dX0_agrees_111 : decode cX0_agrees 111 = .ok (.getfield 129, 3) := by decide +kernel
theorem dX0_agrees_114 : decode cX0_agrees 114 = .ok (.iload 4, 2) := by decide +kernel
theorem dX0_agrees_116 : decode cX0_agrees 116 = .ok (.iaload, 1) := by decide +kernel
theorem dX0_agrees_117 : decode cX0_agrees 117 = .ok (.iastore, 1) := by decide +kernel
theorem dX0_agrees_118 : decode cX0_agrees 118 = .ok (.aload_n 0, 1) := by decide +kernel
theorem dX0_agrees_119 : decode cX0_agrees 119 = .ok (.getfield 84, 3) := by decide +kernel
theorem dX0_agrees_122 : decode cX0_agrees 122 = .ok (.iload_n 3, 1) := by decide +kernel
theorem dX0_agrees_123 : decode cX0_agrees 123 = .ok (.iload 7, 2) := by decide +kernel
theorem dX0_agrees_125 : decode cX0_agrees 125 = .ok (.iastore, 1) := by decide +kernel
theorem dX0_agrees_126 : decode cX0_agrees 126 = .ok (.aload_n 0, 1) := by decide +kernel
theorem dX0_agrees_127 : decode cX0_agrees 127 = .ok (.getfield 87, 3) := by decide +kernel
theorem dX0_agrees_130 : decode cX0_agrees 130 = .ok (.iload_n 3, 1) := by decide +kernel
theorem dX0_agrees_131 : decode cX0_agrees 131 = .ok (.iload 8, 2) := by decide +kernel
theorem dX0_agrees_133 : decode cX0_agrees 133 = .ok (.iastore, 1) := by decide +kernel
theorem dX0_agrees_134 : decode cX0_agrees 134 = .ok (.aload_n 0, 1) := by decide +kernel
theorem dX0_agrees_135 : decode cX0_agrees 135 = .ok (.getfield 81, 3) := by decide +kernel
theorem dX0_agrees_138 : decode cX0_agrees 138 = .ok (.iload_n 3, 1) := by decide +kernel
theorem dX0_agrees_139 : decode cX0_agrees 139 = .ok (.iaload, 1) := by decide +kernel
theorem dX0_agrees_140 : decode cX0_agrees 140 = .ok (.aload 5, 2) := by decide +kernel
theorem dX0_agrees_142 : decode cX0_agrees 142 = .ok (.getfield 129, 3) := by decide +kernel
theorem dX0_agrees_145 : decode cX0_agrees 145 = .ok (.iload 4, 2) := by decide +kernel
theorem dX0_agrees_147 : decode cX0_agrees 147 = .ok (.iaload, 1) := by decide +kernel
theorem dX0_agrees_148 : decode cX0_agrees 148 = .ok (.if_icmp .ne 29, 3) := by decide +kernel
theorem dX0_agrees_151 : decode cX0_agrees 151 = .ok (.aload_n 0, 1) := by decide +kernel
theorem dX0_agrees_152 : decode cX0_agrees 152 = .ok (.getfield 84, 3) := by decide +kernel
theorem dX0_agrees_155 : decode cX0_agrees 155 = .ok (.iload_n 3, 1) := by decide +kernel
theorem dX0_agrees_156 : decode cX0_agrees 156 = .ok (.iaload, 1) := by decide +kernel
theorem dX0_agrees_157 : decode cX0_agrees 157 = .ok (.iload 7, 2) := by decide +kernel
theorem dX0_agrees_159 : decode cX0_agrees 159 = .ok (.if_icmp .ne 18, 3) := by decide +kernel
theorem dX0_agrees_162 : decode cX0_agrees 162 = .ok (.aload_n 0, 1) := by decide +kernel
theorem dX0_agrees_163 : decode cX0_agrees 163 = .ok (.getfield 87, 3) := by decide +kernel
theorem dX0_agrees_166 : decode cX0_agrees 166 = .ok (.iload_n 3, 1) := by decide +kernel
theorem dX0_agrees_167 : decode cX0_agrees 167 = .ok (.iaload, 1) := by decide +kernel
theorem dX0_agrees_168 : decode cX0_agrees 168 = .ok (.iload 8, 2) := by decide +kernel
theorem dX0_agrees_170 : decode cX0_agrees 170 = .ok (.if_icmp .ne 7, 3) := by decide +kernel
theorem dX0_agrees_173 : decode cX0_agrees 173 = .ok (.iconst 1, 1) := by decide +kernel
theorem dX0_agrees_174 : decode cX0_agrees 174 = .ok (.goto 4, 3) := by decide +kernel
theorem dX0_agrees_177 : decode cX0_agrees 177 = .ok (.iconst 0, 1) := by decide +kernel
theorem dX0_agrees_178 : decode cX0_agrees 178 = .ok (.ireturn, 1) := by decide +kernel
