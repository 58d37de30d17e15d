set_option maxRecDepth 100000
theorem dksX0_readNext_9 : cX0_readNext.data.toList.drop 209 = dktX0_readNext_9 := dk_seg dksX0_readNext_8 23 rfl rfl
theorem dksX0_readNext_10 : cX0_readNext.data.toList.drop 233 = dktX0_readNext_10 := dk_seg dksX0_readNext_9 24 rfl rfl
theorem dksX0_readNext_11 : cX0_readNext.data.toList.drop 256 = dktX0_readNext_11 := dk_seg dksX0_readNext_10 23 rfl rfl
theorem dksX0_readNext_12 : cX0_readNext.data.toList.drop 279 = dktX0_readNext_12 := dk_seg dksX0_readNext_11 23 rfl rfl
theorem dksX0_readNext_13 : cX0_readNext.data.toList.drop 303 = dktX0_readNext_13 := dk_seg dksX0_readNext_12 24 rfl rfl
theorem dX0_readNext_0 : decode cX0_readNext 0 = .ok (.aload_n 0, 1) := dk_42 (dk_at dksX0_readNext_0 0 rfl rfl)
theorem dX0_readNext_1 : decode cX0_readNext 1 = .ok (.aload_n 0, 1) := dk_42 (dk_at dksX0_readNext_0 1 rfl rfl)
theorem dX0_readNext_2 : decode cX0_readNext 2 = .ok (.getfield 145, 3) := dk_180 0 145 (dk_at dksX0_readNext_0 2 rfl rfl)
theorem dX0_readNext_5 : decode cX0_readNext 5 = .ok (.invokevirtual 151, 3) := dk_182 0 151 (dk_at dksX0_readNext_0 5 rfl rfl)
theorem dX0_readNext_8 : decode cX0_readNext 8 = .ok (.bipush 32, 2) := dk_16 32 (dk_at dksX0_readNext_0 8 rfl rfl)
theorem dX0_readNext_10 : decode cX0_readNext 10 = .ok (.if_icmp .eq 16, 3) := dk_159 0 16 (dk_at dksX0_readNext_0 10 rfl rfl)
theorem dX0_readNext_13 : decode cX0_readNext 13 = .ok (.aload_n 0, 1) := dk_42 (dk_at dksX0_readNext_0 13 rfl rfl)
theorem dX0_readNext_14 : decode cX0_readNext 14 = .ok (.aload_n 0, 1) := dk_42 (dk_at dksX0_readNext_0 14 rfl rfl)
theorem dX0_readNext_15 : decode cX0_readNext 15 = .ok (.getfield 145, 3) := dk_180 0 145 (dk_at dksX0_readNext_0 15 rfl rfl)
theorem dX0_readNext_18 : decode cX0_readNext 18 = .ok (.invokevirtual 151, 3) := dk_182 0 151 (dk_at dksX0_readNext_0 18 rfl rfl)
theorem dX0_readNext_21 : decode cX0_readNext 21 = .ok (.bipush 10, 2) := dk_16 10 (dk_at dksX0_readNext_0 21 rfl rfl)
theorem dX0_readNext_23 : decode cX0_readNext 23 = .ok (.if_icmp .ne 16, 3) := dk_160 0 16 (dk_at dksX0_readNext_1 0 rfl rfl)
theorem dX0_readNext_26 : decode cX0_readNext 26 = .ok (.aload_n 0, 1) := dk_42 (dk_at dksX0_readNext_1 3 rfl rfl)
theorem dX0_readNext_27 : decode cX0_readNext 27 = .ok (.dup, 1) := dk_89 (dk_at dksX0_readNext_1 4 rfl rfl)
theorem dX0_readNext_28 : decode cX0_readNext 28 = .ok (.getfield 145, 3) := dk_180 0 145 (dk_at dksX0_readNext_1 5 rfl rfl)
theorem dX0_readNext_31 : decode cX0_readNext 31 = .ok (.iconst 1, 1) := dk_4 (dk_at dksX0_readNext_1 8 rfl rfl)
theorem dX0_readNext_32 : decode cX0_readNext 32 = .ok (.iadd, 1) := dk_96 (dk_at dksX0_readNext_1 9 rfl rfl)
theorem dX0_readNext_33 : decode cX0_readNext 33 = .ok (.putfield 145, 3) := dk_181 0 145 (dk_at dksX0_readNext_1 10 rfl rfl)
theorem dX0_readNext_36 : decode cX0_readNext 36 = .ok (.goto (-36), 3) := dk_167 255 220 (dk_at dksX0_readNext_1 13 rfl rfl)
theorem dX0_readNext_39 : decode cX0_readNext 39 = .ok (.aload_n 0, 1) := dk_42 (dk_at dksX0_readNext_1 16 rfl rfl)
theorem dX0_readNext_40 : decode cX0_readNext 40 = .ok (.aload_n 0, 1) := dk_42 (dk_at dksX0_readNext_1 17 rfl rfl)
theorem dX0_readNext_41 : decode cX0_readNext 41 = .ok (.getfield 145, 3) := dk_180 0 145 (dk_at dksX0_readNext_1 18 rfl rfl)
theorem dX0_readNext_44 : decode cX0_readNext 44 = .ok (.putfield 148, 3) := dk_181 0 148 (dk_at dksX0_readNext_1 21 rfl rfl)
theorem dX0_readNext_47 : decode cX0_readNext 47 = .ok (.aload_n 0, 1) := dk_42 (dk_at dksX0_readNext_2 0 rfl rfl)
theorem dX0_readNext_48 : decode cX0_readNext 48 = .ok (.aload_n 0, 1) := dk_42 (dk_at dksX0_readNext_2 1 rfl rfl)
theorem dX0_readNext_49 : decode cX0_readNext 49 = .ok (.getfield 145, 3) := dk_180 0 145 (dk_at dksX0_readNext_2 2 rfl rfl)
theorem dX0_readNext_52 : decode cX0_readNext 52 = .ok (.invokevirtual 151, 3) := dk_182 0 151 (dk_at dksX0_readNext_2 5 rfl rfl)
theorem dX0_readNext_55 : decode cX0_readNext 55 = .ok (.istore_n 1, 1) := dk_60 (dk_at dksX0_readNext_2 8 rfl rfl)
theorem dX0_readNext_56 : decode cX0_readNext 56 = .ok (.aload_n 0, 1) := dk_42 (dk_at dksX0_readNext_2 9 rfl rfl)
theorem dX0_readNext_57 : decode cX0_readNext 57 = .ok (.iload_n 1, 1) := dk_27 (dk_at dksX0_readNext_2 10 rfl rfl)
theorem dX0_readNext_58 : decode cX0_readNext 58 = .ok (.iconst (-1), 1) := dk_2 (dk_at dksX0_readNext_2 11 rfl rfl)
theorem dX0_readNext_59 : decode cX0_readNext 59 = .ok (.if_icmp .ne 9, 3) := dk_160 0 9 (dk_at dksX0_readNext_2 12 rfl rfl)
theorem dX0_readNext_62 : decode cX0_readNext 62 = .ok (.getstatic 178, 3) := dk_178 0 178 (dk_at dksX0_readNext_2 15 rfl rfl)
theorem dX0_readNext_65 : decode cX0_readNext 65 = .ok (.goto 6, 3) := dk_167 0 6 (dk_at dksX0_readNext_2 18 rfl rfl)
theorem dX0_readNext_68 : decode cX0_readNext 68 = .ok (.getstatic 181, 3) := dk_178 0 181 (dk_at dksX0_readNext_2 21 rfl rfl)
theorem dX0_readNext_71 : decode cX0_readNext 71 = .ok (.putfield 159, 3) := dk_181 0 159 (dk_at dksX0_readNext_3 0 rfl rfl)
theorem dX0_readNext_74 : decode cX0_readNext 74 = .ok (.iload_n 1, 1) := dk_27 (dk_at dksX0_readNext_3 3 rfl rfl)
theorem dX0_readNext_75 : decode cX0_readNext 75 = .ok (.iconst (-1), 1) := dk_2 (dk_at dksX0_readNext_3 4 rfl rfl)
theorem dX0_readNext_76 : decode cX0_readNext 76 = .ok (.if_icmp .ne 4, 3) := dk_160 0 4 (dk_at dksX0_readNext_3 5 rfl rfl)
theorem dX0_readNext_79 : decode cX0_readNext 79 = .ok (.return_, 1) := dk_177 (dk_at dksX0_readNext_3 8 rfl rfl)
theorem dX0_readNext_80 : decode cX0_readNext 80 = .ok (.aload_n 0, 1) := dk_42 (dk_at dksX0_readNext_3 9 rfl rfl)
theorem dX0_readNext_81 : decode cX0_readNext 81 = .ok (.dup, 1) := dk_89 (dk_at dksX0_readNext_3 10 rfl rfl)
theorem dX0_readNext_82 : decode cX0_readNext 82 = .ok (.getfield 145, 3) := dk_180 0 145 (dk_at dksX0_readNext_3 11 rfl rfl)
theorem dX0_readNext_85 : decode cX0_readNext 85 = .ok (.iconst 1, 1) := dk_4 (dk_at dksX0_readNext_3 14 rfl rfl)
theorem dX0_readNext_86 : decode cX0_readNext 86 = .ok (.iadd, 1) := dk_96 (dk_at dksX0_readNext_3 15 rfl rfl)
theorem dX0_readNext_87 : decode cX0_readNext 87 = .ok (.putfield 145, 3) := dk_181 0 145 (dk_at dksX0_readNext_3 16 rfl rfl)
theorem dX0_readNext_90 : decode cX0_readNext 90 = .ok (.iload_n 1, 1) := dk_27 (dk_at dksX0_readNext_3 19 rfl rfl)
theorem dX0_readNext_91 : decode cX0_readNext 91 = .ok (.invokestatic 184, 3) := dk_184 0 184 (dk_at dksX0_readNext_3 20 rfl rfl)
theorem dX0_readNext_94 : decode cX0_readNext 94 = .ok (.ifCond .eq 95, 3) := dk_153 0 95 (dk_at dksX0_readNext_4 0 rfl rfl)
theorem dX0_readNext_97 : decode cX0_readNext 97 = .ok (.aload_n 0, 1) := dk_42 (dk_at dksX0_readNext_4 3 rfl rfl)
theorem dX0_readNext_98 : decode cX0_readNext 98 = .ok (.aload_n 0, 1) := dk_42 (dk_at dksX0_readNext_4 4 rfl rfl)
theorem dX0_readNext_99 : decode cX0_readNext 99 = .ok (.getfield 145, 3) := dk_180 0 145 (dk_at dksX0_readNext_4 5 rfl rfl)
theorem dX0_readNext_102 : decode cX0_readNext 102 = .ok (.invokevirtual 151, 3) := dk_182 0 151 (dk_at dksX0_readNext_4 8 rfl rfl)
theorem dX0_readNext_105 : decode cX0_readNext 105 = .ok (.invokestatic 184, 3) := dk_184 0 184 (dk_at dksX0_readNext_4 11 rfl rfl)
theorem dX0_readNext_108 : decode cX0_readNext 108 = .ok (.ifCond .eq 16, 3) := dk_153 0 16 (dk_at dksX0_readNext_4 14 rfl rfl)
theorem dX0_readNext_111 : decode cX0_readNext 111 = .ok (.aload_n 0, 1) := dk_42 (dk_at dksX0_readNext_4 17 rfl rfl)
theorem dX0_readNext_112 : decode cX0_readNext 112 = .ok (.dup, 1) := dk_89 (dk_at dksX0_readNext_4 18 rfl rfl)
theorem dX0_readNext_113 : decode cX0_readNext 113 = .ok (.getfield 145, 3) := dk_180 0 145 (dk_at dksX0_readNext_4 19 rfl rfl)
theorem dX0_readNext_116 : decode cX0_readNext 116 = .ok (.iconst 1, 1) := dk_4 (dk_at dksX0_readNext_4 22 rfl rfl)
theorem dX0_readNext_117 : decode cX0_readNext 117 = .ok (.iadd, 1) := dk_96 (dk_at dksX0_readNext_4 23 rfl rfl)
theorem dX0_readNext_118 : decode cX0_readNext 118 = .ok (.putfield 145, 3) := dk_181 0 145 (dk_at dksX0_readNext_5 0 rfl rfl)
theorem dX0_readNext_121 : decode cX0_readNext 121 = .ok (.goto (-24), 3) := dk_167 255 232 (dk_at dksX0_readNext_5 3 rfl rfl)
theorem dX0_readNext_124 : decode cX0_readNext 124 = .ok (.aload_n 0, 1) := dk_42 (dk_at dksX0_readNext_5 6 rfl rfl)
theorem dX0_readNext_125 : decode cX0_readNext 125 = .ok (.getstatic 163, 3) := dk_178 0 163 (dk_at dksX0_readNext_5 7 rfl rfl)
theorem dX0_readNext_128 : decode cX0_readNext 128 = .ok (.putfield 159, 3) := dk_181 0 159 (dk_at dksX0_readNext_5 10 rfl rfl)
theorem dX0_readNext_131 : decode cX0_readNext 131 = .ok (.aload_n 0, 1) := dk_42 (dk_at dksX0_readNext_5 13 rfl rfl)
theorem dX0_readNext_132 : decode cX0_readNext 132 = .ok (.aload_n 0, 1) := dk_42 (dk_at dksX0_readNext_5 14 rfl rfl)
theorem dX0_readNext_133 : decode cX0_readNext 133 = .ok (.getfield 19, 3) := dk_180 0 19 (dk_at dksX0_readNext_5 15 rfl rfl)
theorem dX0_readNext_136 : decode cX0_readNext 136 = .ok (.invokevirtual 188, 3) := dk_182 0 188 (dk_at dksX0_readNext_5 18 rfl rfl)
theorem dX0_readNext_139 : decode cX0_readNext 139 = .ok (.iconst (-1), 1) := dk_2 (dk_at dksX0_readNext_5 21 rfl rfl)
theorem dX0_readNext_140 : decode cX0_readNext 140 = .ok (.if_icmp .ne 163, 3) := dk_160 0 163 (dk_at dksX0_readNext_6 0 rfl rfl)
theorem dX0_readNext_143 : decode cX0_readNext 143 = .ok (.aload_n 0, 1) := dk_42 (dk_at dksX0_readNext_6 3 rfl rfl)
theorem dX0_readNext_144 : decode cX0_readNext 144 = .ok (.aload_n 0, 1) := dk_42 (dk_at dksX0_readNext_6 4 rfl rfl)
theorem dX0_readNext_145 : decode cX0_readNext 145 = .ok (.getfield 29, 3) := dk_180 0 29 (dk_at dksX0_readNext_6 5 rfl rfl)
theorem dX0_readNext_148 : decode cX0_readNext 148 = .ok (.invokevirtual 188, 3) := dk_182 0 188 (dk_at dksX0_readNext_6 8 rfl rfl)
theorem dX0_readNext_151 : decode cX0_readNext 151 = .ok (.iconst (-1), 1) := dk_2 (dk_at dksX0_readNext_6 11 rfl rfl)
theorem dX0_readNext_152 : decode cX0_readNext 152 = .ok (.if_icmp .ne 151, 3) := dk_160 0 151 (dk_at dksX0_readNext_6 12 rfl rfl)
theorem dX0_readNext_155 : decode cX0_readNext 155 = .ok (.aload_n 0, 1) := dk_42 (dk_at dksX0_readNext_6 15 rfl rfl)
theorem dX0_readNext_156 : decode cX0_readNext 156 = .ok (.aload_n 0, 1) := dk_42 (dk_at dksX0_readNext_6 16 rfl rfl)
theorem dX0_readNext_157 : decode cX0_readNext 157 = .ok (.getfield 50, 3) := dk_180 0 50 (dk_at dksX0_readNext_6 17 rfl rfl)
theorem dX0_readNext_160 : decode cX0_readNext 160 = .ok (.invokevirtual 188, 3) := dk_182 0 188 (dk_at dksX0_readNext_6 20 rfl rfl)
theorem dX0_readNext_163 : decode cX0_readNext 163 = .ok (.iconst (-1), 1) := dk_2 (dk_at dksX0_readNext_6 23 rfl rfl)
theorem dX0_readNext_164 : decode cX0_readNext 164 = .ok (.if_icmp .ne 139, 3) := dk_160 0 139 (dk_at dksX0_readNext_7 0 rfl rfl)
theorem dX0_readNext_167 : decode cX0_readNext 167 = .ok (.aload_n 0, 1) := dk_42 (dk_at dksX0_readNext_7 3 rfl rfl)
theorem dX0_readNext_168 : decode cX0_readNext 168 = .ok (.aload_n 0, 1) := dk_42 (dk_at dksX0_readNext_7 4 rfl rfl)
theorem dX0_readNext_169 : decode cX0_readNext 169 = .ok (.getfield 61, 3) := dk_180 0 61 (dk_at dksX0_readNext_7 5 rfl rfl)
theorem dX0_readNext_172 : decode cX0_readNext 172 = .ok (.invokevirtual 188, 3) := dk_182 0 188 (dk_at dksX0_readNext_7 8 rfl rfl)
theorem dX0_readNext_175 : decode cX0_readNext 175 = .ok (.iconst (-1), 1) := dk_2 (dk_at dksX0_readNext_7 11 rfl rfl)
theorem dX0_readNext_176 : decode cX0_readNext 176 = .ok (.if_icmp .ne 127, 3) := dk_160 0 127 (dk_at dksX0_readNext_7 12 rfl rfl)
theorem dX0_readNext_179 : decode cX0_readNext 179 = .ok (.aload_n 0, 1) := dk_42 (dk_at dksX0_readNext_7 15 rfl rfl)
theorem dX0_readNext_180 : decode cX0_readNext 180 = .ok (.getstatic 181, 3) := dk_178 0 181 (dk_at dksX0_readNext_7 16 rfl rfl)
theorem dX0_readNext_183 : decode cX0_readNext 183 = .ok (.putfield 159, 3) := dk_181 0 159 (dk_at dksX0_readNext_7 19 rfl rfl)
theorem dX0_readNext_186 : decode cX0_readNext 186 = .ok (.goto 117, 3) := dk_167 0 117 (dk_at dksX0_readNext_8 0 rfl rfl)
theorem dX0_readNext_189 : decode cX0_readNext 189 = .ok (.iload_n 1, 1) := dk_27 (dk_at dksX0_readNext_8 3 rfl rfl)
theorem dX0_readNext_190 : decode cX0_readNext 190 = .ok (.invokestatic 192, 3) := dk_184 0 192 (dk_at dksX0_readNext_8 4 rfl rfl)
theorem dX0_readNext_193 : decode cX0_readNext 193 = .ok (.ifCond .eq 89, 3) := dk_153 0 89 (dk_at dksX0_readNext_8 7 rfl rfl)
theorem dX0_readNext_196 : decode cX0_readNext 196 = .ok (.aload_n 0, 1) := dk_42 (dk_at dksX0_readNext_8 10 rfl rfl)
theorem dX0_readNext_197 : decode cX0_readNext 197 = .ok (.iload_n 1, 1) := dk_27 (dk_at dksX0_readNext_8 11 rfl rfl)
theorem dX0_readNext_198 : decode cX0_readNext 198 = .ok (.bipush 48, 2) := dk_16 48 (dk_at dksX0_readNext_8 12 rfl rfl)
theorem dX0_readNext_200 : decode cX0_readNext 200 = .ok (.isub, 1) := dk_100 (dk_at dksX0_readNext_8 14 rfl rfl)
theorem dX0_readNext_201 : decode cX0_readNext 201 = .ok (.putfield 175, 3) := dk_181 0 175 (dk_at dksX0_readNext_8 15 rfl rfl)
theorem dX0_readNext_204 : decode cX0_readNext 204 = .ok (.aload_n 0, 1) := dk_42 (dk_at dksX0_readNext_8 18 rfl rfl)
theorem dX0_readNext_205 : decode cX0_readNext 205 = .ok (.aload_n 0, 1) := dk_42 (dk_at dksX0_readNext_8 19 rfl rfl)
theorem dX0_readNext_206 : decode cX0_readNext 206 = .ok (.getfield 145, 3) := dk_180 0 145 (dk_at dksX0_readNext_8 20 rfl rfl)
theorem dX0_readNext_209 : decode cX0_readNext 209 = .ok (.invokevirtual 151, 3) := dk_182 0 151 (dk_at dksX0_readNext_9 0 rfl rfl)
theorem dX0_readNext_212 : decode cX0_readNext 212 = .ok (.invokestatic 192, 3) := dk_184 0 192 (dk_at dksX0_readNext_9 3 rfl rfl)
theorem dX0_readNext_215 : decode cX0_readNext 215 = .ok (.ifCond .eq 44, 3) := dk_153 0 44 (dk_at dksX0_readNext_9 6 rfl rfl)
theorem dX0_readNext_218 : decode cX0_readNext 218 = .ok (.aload_n 0, 1) := dk_42 (dk_at dksX0_readNext_9 9 rfl rfl)
theorem dX0_readNext_219 : decode cX0_readNext 219 = .ok (.ldc 195, 2) := dk_18 195 (dk_at dksX0_readNext_9 10 rfl rfl)
theorem dX0_readNext_221 : decode cX0_readNext 221 = .ok (.bipush 10, 2) := dk_16 10 (dk_at dksX0_readNext_9 12 rfl rfl)
theorem dX0_readNext_223 : decode cX0_readNext 223 = .ok (.aload_n 0, 1) := dk_42 (dk_at dksX0_readNext_9 14 rfl rfl)
theorem dX0_readNext_224 : decode cX0_readNext 224 = .ok (.getfield 175, 3) := dk_180 0 175 (dk_at dksX0_readNext_9 15 rfl rfl)
theorem dX0_readNext_227 : decode cX0_readNext 227 = .ok (.imul, 1) := dk_104 (dk_at dksX0_readNext_9 18 rfl rfl)
theorem dX0_readNext_228 : decode cX0_readNext 228 = .ok (.aload_n 0, 1) := dk_42 (dk_at dksX0_readNext_9 19 rfl rfl)
theorem dX0_readNext_229 : decode cX0_readNext 229 = .ok (.aload_n 0, 1) := dk_42 (dk_at dksX0_readNext_9 20 rfl rfl)
theorem dX0_readNext_230 : decode cX0_readNext 230 = .ok (.getfield 145, 3) := dk_180 0 145 (dk_at dksX0_readNext_9 21 rfl rfl)
theorem dX0_readNext_233 : decode cX0_readNext 233 = .ok (.invokevirtual 151, 3) := dk_182 0 151 (dk_at dksX0_readNext_10 0 rfl rfl)
theorem dX0_readNext_236 : decode cX0_readNext 236 = .ok (.iadd, 1) := dk_96 (dk_at dksX0_readNext_10 3 rfl rfl)
theorem dX0_readNext_237 : decode cX0_readNext 237 = .ok (.bipush 48, 2) := dk_16 48 (dk_at dksX0_readNext_10 4 rfl rfl)
theorem dX0_readNext_239 : decode cX0_readNext 239 = .ok (.isub, 1) := dk_100 (dk_at dksX0_readNext_10 6 rfl rfl)
theorem dX0_readNext_240 : decode cX0_readNext 240 = .ok (.invokestatic 196, 3) := dk_184 0 196 (dk_at dksX0_readNext_10 7 rfl rfl)
theorem dX0_readNext_243 : decode cX0_readNext 243 = .ok (.putfield 175, 3) := dk_181 0 175 (dk_at dksX0_readNext_10 10 rfl rfl)
theorem dX0_readNext_246 : decode cX0_readNext 246 = .ok (.aload_n 0, 1) := dk_42 (dk_at dksX0_readNext_10 13 rfl rfl)
theorem dX0_readNext_247 : decode cX0_readNext 247 = .ok (.dup, 1) := dk_89 (dk_at dksX0_readNext_10 14 rfl rfl)
theorem dX0_readNext_248 : decode cX0_readNext 248 = .ok (.getfield 145, 3) := dk_180 0 145 (dk_at dksX0_readNext_10 15 rfl rfl)
theorem dX0_readNext_251 : decode cX0_readNext 251 = .ok (.iconst 1, 1) := dk_4 (dk_at dksX0_readNext_10 18 rfl rfl)
theorem dX0_readNext_252 : decode cX0_readNext 252 = .ok (.iadd, 1) := dk_96 (dk_at dksX0_readNext_10 19 rfl rfl)
theorem dX0_readNext_253 : decode cX0_readNext 253 = .ok (.putfield 145, 3) := dk_181 0 145 (dk_at dksX0_readNext_10 20 rfl rfl)
theorem dX0_readNext_256 : decode cX0_readNext 256 = .ok (.goto (-52), 3) := dk_167 255 204 (dk_at dksX0_readNext_11 0 rfl rfl)
theorem dX0_readNext_259 : decode cX0_readNext 259 = .ok (.aload_n 0, 1) := dk_42 (dk_at dksX0_readNext_11 3 rfl rfl)
theorem dX0_readNext_260 : decode cX0_readNext 260 = .ok (.getfield 145, 3) := dk_180 0 145 (dk_at dksX0_readNext_11 4 rfl rfl)
theorem dX0_readNext_263 : decode cX0_readNext 263 = .ok (.aload_n 0, 1) := dk_42 (dk_at dksX0_readNext_11 7 rfl rfl)
theorem dX0_readNext_264 : decode cX0_readNext 264 = .ok (.getfield 148, 3) := dk_180 0 148 (dk_at dksX0_readNext_11 8 rfl rfl)
theorem dX0_readNext_267 : decode cX0_readNext 267 = .ok (.isub, 1) := dk_100 (dk_at dksX0_readNext_11 11 rfl rfl)
theorem dX0_readNext_268 : decode cX0_readNext 268 = .ok (.iconst 4, 1) := dk_7 (dk_at dksX0_readNext_11 12 rfl rfl)
theorem dX0_readNext_269 : decode cX0_readNext 269 = .ok (.if_icmp .gt 34, 3) := dk_163 0 34 (dk_at dksX0_readNext_11 13 rfl rfl)
theorem dX0_readNext_272 : decode cX0_readNext 272 = .ok (.aload_n 0, 1) := dk_42 (dk_at dksX0_readNext_11 16 rfl rfl)
theorem dX0_readNext_273 : decode cX0_readNext 273 = .ok (.getstatic 202, 3) := dk_178 0 202 (dk_at dksX0_readNext_11 17 rfl rfl)
theorem dX0_readNext_276 : decode cX0_readNext 276 = .ok (.putfield 159, 3) := dk_181 0 159 (dk_at dksX0_readNext_11 20 rfl rfl)
theorem dX0_readNext_279 : decode cX0_readNext 279 = .ok (.goto 24, 3) := dk_167 0 24 (dk_at dksX0_readNext_12 0 rfl rfl)
theorem dX0_readNext_282 : decode cX0_readNext 282 = .ok (.ldc 205, 2) := dk_18 205 (dk_at dksX0_readNext_12 3 rfl rfl)
theorem dX0_readNext_284 : decode cX0_readNext 284 = .ok (.iload_n 1, 1) := dk_27 (dk_at dksX0_readNext_12 5 rfl rfl)
theorem dX0_readNext_285 : decode cX0_readNext 285 = .ok (.invokevirtual 207, 3) := dk_182 0 207 (dk_at dksX0_readNext_12 6 rfl rfl)
theorem dX0_readNext_288 : decode cX0_readNext 288 = .ok (.ifCond .lt 15, 3) := dk_155 0 15 (dk_at dksX0_readNext_12 9 rfl rfl)
theorem dX0_readNext_291 : decode cX0_readNext 291 = .ok (.aload_n 0, 1) := dk_42 (dk_at dksX0_readNext_12 12 rfl rfl)
theorem dX0_readNext_292 : decode cX0_readNext 292 = .ok (.getstatic 172, 3) := dk_178 0 172 (dk_at dksX0_readNext_12 13 rfl rfl)
theorem dX0_readNext_295 : decode cX0_readNext 295 = .ok (.putfield 159, 3) := dk_181 0 159 (dk_at dksX0_readNext_12 16 rfl rfl)
theorem dX0_readNext_298 : decode cX0_readNext 298 = .ok (.aload_n 0, 1) := dk_42 (dk_at dksX0_readNext_12 19 rfl rfl)
theorem dX0_readNext_299 : decode cX0_readNext 299 = .ok (.iload_n 1, 1) := dk_27 (dk_at dksX0_readNext_12 20 rfl rfl)
theorem dX0_readNext_300 : decode cX0_readNext 300 = .ok (.putfield 175, 3) := dk_181 0 175 (dk_at dksX0_readNext_12 21 rfl rfl)
theorem dX0_readNext_303 : decode cX0_readNext 303 = .ok (.return_, 1) := dk_177 (dk_at dksX0_readNext_13 0 rfl rfl)
abbrev cX0_raw : ByteArray := prog_1_method_6_code
def yX0_raw : MethodName := ⟨RX0, "raw", "(I)I"⟩
def dkwX0_raw_0 : List UInt8 := [27, 42, 180, 0, 130, 162, 0, 16, 42, 180, 0, 9, 27, 51, 17, 0, 255, 126, 167, 0, 4, 2, 172]
abbrev dktX0_raw_0 : List UInt8 := dkwX0_raw_0 ++ []
theorem dksX0_raw_0 : cX0_raw.data.toList.drop 0 = dktX0_raw_0 := by decide +kernel
theorem dX0_raw_0 : decode cX0_raw 0 = .ok (.iload_n 1, 1) := dk_27 (dk_at dksX0_raw_0 0 rfl rfl)
theorem dX0_raw_1 : decode cX0_raw 1 = .ok (.aload_n 0, 1) := dk_42 (dk_at dksX0_raw_0 1 rfl rfl)
theorem dX0_raw_2 : decode cX0_raw 2 = .ok (.getfield 130, 3) := dk_180 0 130 (dk_at dksX0_raw_0 2 rfl rfl)
theorem dX0_raw_5 : decode cX0_raw 5 = .ok (.if_icmp .ge 16, 3) := dk_162 0 16 (dk_at dksX0_raw_0 5 rfl rfl)
theorem dX0_raw_8 : decode cX0_raw 8 = .ok (.aload_n 0, 1) := dk_42 (dk_at dksX0_raw_0 8 rfl rfl)
theorem dX0_raw_9 : decode cX0_raw 9 = .ok (.getfield 9, 3) := dk_180 0 9 (dk_at dksX0_raw_0 9 rfl rfl)
theorem dX0_raw_12 : decode cX0_raw 12 = .ok (.iload_n 1, 1) := dk_27 (dk_at dksX0_raw_0 12 rfl rfl)
theorem dX0_raw_13 : decode cX0_raw 13 = .ok (.baload, 1) := dk_51 (dk_at dksX0_raw_0 13 rfl rfl)
theorem dX0_raw_14 : decode cX0_raw 14 = .ok (.sipush 255, 3) := dk_17 0 255 (dk_at dksX0_raw_0 14 rfl rfl)
theorem dX0_raw_17 : decode cX0_raw 17 = .ok (.iand, 1) := dk_126 (dk_at dksX0_raw_0 17 rfl rfl)
theorem dX0_raw_18 : decode cX0_raw 18 = .ok (.goto 4, 3) := dk_167 0 4 (dk_at dksX0_raw_0 18 rfl rfl)
theorem dX0_raw_21 : decode cX0_raw 21 = .ok (.iconst (-1), 1) := dk_2 (dk_at dksX0_raw_0 21 rfl rfl)
theorem dX0_raw_22 : decode cX0_raw 22 = .ok (.ireturn, 1) := dk_172 (dk_at dksX0_raw_0 22 rfl rfl)
abbrev cX0_isLetter : ByteArray := prog_1_method_7_code
def yX0_isLetter : MethodName := ⟨RX0, "isLetter", "(I)Z"⟩
def dkwX0_isLetter_1 : List UInt8 := [167, 0, 4, 3, 172]
abbrev dktX0_isLetter_1 : List UInt8 := dkwX0_isLetter_1 ++ []
def dkwX0_isLetter_0 : List UInt8 := [26, 16, 97, 16, 122, 184, 0, 137, 154, 0, 14, 26, 16, 65, 16, 90, 184, 0, 137, 153, 0, 7, 4]
abbrev dktX0_isLetter_0 : List UInt8 := dkwX0_isLetter_0 ++ dktX0_isLetter_1
theorem dksX0_isLetter_0 : cX0_isLetter.data.toList.drop 0 = dktX0_isLetter_0 := by decide +kernel
theorem dksX0_isLetter_1 : cX0_isLetter.data.toList.drop 23 = dktX0_isLetter_1 := dk_seg dksX0_isLetter_0 23 rfl rfl
theorem dX0_isLetter_0 : decode cX0_isLetter 0 = .ok (.iload_n 0, 1) := dk_26 (dk_at dksX0_isLetter_0 0 rfl rfl)
theorem dX0_isLetter_1 : decode cX0_isLetter 1 = .ok (.bipush 97, 2) := dk_16 97 (dk_at dksX0_isLetter_0 1 rfl rfl)
theorem dX0_isLetter_3 : decode cX0_isLetter 3 = .ok (.bipush 122, 2) := dk_16 122 (dk_at dksX0_isLetter_0 3 rfl rfl)
theorem dX0_isLetter_5 : decode cX0_isLetter 5 = .ok (.invokestatic 137, 3) := dk_184 0 137 (dk_at dksX0_isLetter_0 5 rfl rfl)
theorem dX0_isLetter_8 : decode cX0_isLetter 8 = .ok (.ifCond .ne 14, 3) := dk_154 0 14 (dk_at dksX0_isLetter_0 8 rfl rfl)
theorem dX0_isLetter_11 : decode cX0_isLetter 11 = .ok (.iload_n 0, 1) := dk_26 (dk_at dksX0_isLetter_0 11 rfl rfl)
theorem dX0_isLetter_12 : decode cX0_isLetter 12 = .ok (.bipush 65, 2) := dk_16 65 (dk_at dksX0_isLetter_0 12 rfl rfl)
theorem dX0_isLetter_14 : decode cX0_isLetter 14 = .ok (.bipush 90, 2) := dk_16 90 (dk_at dksX0_isLetter_0 14 rfl rfl)
theorem dX0_isLetter_16 : decode cX0_isLetter 16 = .ok (.invokestatic 137, 3) := dk_184 0 137 (dk_at dksX0_isLetter_0 16 rfl rfl)
theorem dX0_isLetter_19 : decode cX0_isLetter 19 = .ok (.ifCond .eq 7, 3) := dk_153 0 7 (dk_at dksX0_isLetter_0 19 rfl rfl)
theorem dX0_isLetter_22 : decode cX0_isLetter 22 = .ok (.iconst 1, 1) := dk_4 (dk_at dksX0_isLetter_0 22 rfl rfl)
theorem dX0_isLetter_23 : decode cX0_isLetter 23 = .ok (.goto 4, 3) := dk_167 0 4 (dk_at dksX0_isLetter_1 0 rfl rfl)
theorem dX0_isLetter_26 : decode cX0_isLetter 26 = .ok (.iconst 0, 1) := dk_3 (dk_at dksX0_isLetter_1 3 rfl rfl)
theorem dX0_isLetter_27 : decode cX0_isLetter 27 = .ok (.ireturn, 1) := dk_172 (dk_at dksX0_isLetter_1 4 rfl rfl)
abbrev cX0_wordOf : ByteArray := prog_1_method_10_code
def yX0_wordOf : MethodName := ⟨RX0, "wordOf", "([Ljava/lang/String;)I"⟩
def dkwX0_wordOf_1 : List UInt8 := [182, 0, 168, 153, 0, 5, 28, 172, 132, 2, 1, 167, 255, 225, 2, 172]
abbrev dktX0_wordOf_1 : List UInt8 := dkwX0_wordOf_1 ++ []
def dkwX0_wordOf_0 : List UInt8 := [3, 61, 28, 43, 190, 162, 0, 31, 42, 180, 0, 159, 178, 0, 163, 166, 0, 21, 42, 43, 28, 50]
abbrev dktX0_wordOf_0 : List UInt8 := dkwX0_wordOf_0 ++ dktX0_wordOf_1
theorem dksX0_wordOf_0 : cX0_wordOf.data.toList.drop 0 = dktX0_wordOf_0 := by decide +kernel
theorem dksX0_wordOf_1 : cX0_wordOf.data.toList.drop 22 = dktX0_wordOf_1 := dk_seg dksX0_wordOf_0 22 rfl rfl
theorem dX0_wordOf_0 : decode cX0_wordOf 0 = .ok (.iconst 0, 1) := dk_3 (dk_at dksX0_wordOf_0 0 rfl rfl)
theorem dX0_wordOf_1 : decode cX0_wordOf 1 = .ok (.istore_n 2, 1) := dk_61 (dk_at dksX0_wordOf_0 1 rfl rfl)
theorem dX0_wordOf_2 : decode cX0_wordOf 2 = .ok (.iload_n 2, 1) := dk_28 (dk_at dksX0_wordOf_0 2 rfl rfl)
theorem dX0_wordOf_3 : decode cX0_wordOf 3 = .ok (.aload_n 1, 1) := dk_43 (dk_at dksX0_wordOf_0 3 rfl rfl)
theorem dX0_wordOf_4 : decode cX0_wordOf 4 = .ok (.arraylength, 1) := dk_190 (dk_at dksX0_wordOf_0 4 rfl rfl)
theorem dX0_wordOf_5 : decode cX0_wordOf 5 = .ok (.if_icmp .ge 31, 3) := dk_162 0 31 (dk_at dksX0_wordOf_0 5 rfl rfl)
theorem dX0_wordOf_8 : decode cX0_wordOf 8 = .ok (.aload_n 0, 1) := dk_42 (dk_at dksX0_wordOf_0 8 rfl rfl)
theorem dX0_wordOf_9 : decode cX0_wordOf 9 = .ok (.getfield 159, 3) := dk_180 0 159 (dk_at dksX0_wordOf_0 9 rfl rfl)
theorem dX0_wordOf_12 : decode cX0_wordOf 12 = .ok (.getstatic 163, 3) := dk_178 0 163 (dk_at dksX0_wordOf_0 12 rfl rfl)
theorem dX0_wordOf_15 : decode cX0_wordOf 15 = .ok (.if_acmp .ne 21, 3) := dk_166 0 21 (dk_at dksX0_wordOf_0 15 rfl rfl)
theorem dX0_wordOf_18 : decode cX0_wordOf 18 = .ok (.aload_n 0, 1) := dk_42 (dk_at dksX0_wordOf_0 18 rfl rfl)
theorem dX0_wordOf_19 : decode cX0_wordOf 19 = .ok (.aload_n 1, 1) := dk_43 (dk_at dksX0_wordOf_0 19 rfl rfl)
theorem dX0_wordOf_20 : decode cX0_wordOf 20 = .ok (.iload_n 2, 1) := dk_28 (dk_at dksX0_wordOf_0 20 rfl rfl)
theorem dX0_wordOf_21 : decode cX0_wordOf 21 = .ok (.aaload, 1) := dk_50 (dk_at dksX0_wordOf_0 21 rfl rfl)
theorem dX0_wordOf_22 : decode cX0_wordOf 22 = .ok (.invokevirtual 168, 3) := dk_182 0 168 (dk_at dksX0_wordOf_1 0 rfl rfl)
theorem dX0_wordOf_25 : decode cX0_wordOf 25 = .ok (.ifCond .eq 5, 3) := dk_153 0 5 (dk_at dksX0_wordOf_1 3 rfl rfl)
theorem dX0_wordOf_28 : decode cX0_wordOf 28 = .ok (.iload_n 2, 1) := dk_28 (dk_at dksX0_wordOf_1 6 rfl rfl)
theorem dX0_wordOf_29 : decode cX0_wordOf 29 = .ok (.ireturn, 1) := dk_172 (dk_at dksX0_wordOf_1 7 rfl rfl)
theorem dX0_wordOf_30 : decode cX0_wordOf 30 = .ok (.iinc 2 1, 3) := dk_132 2 1 (dk_at dksX0_wordOf_1 8 rfl rfl)
theorem dX0_wordOf_33 : decode cX0_wordOf 33 = .ok (.goto (-31), 3) := dk_167 255 225 (dk_at dksX0_wordOf_1 11 rfl rfl)
theorem dX0_wordOf_36 : decode cX0_wordOf 36 = .ok (.iconst (-1), 1) := dk_2 (dk_at dksX0_wordOf_1 14 rfl rfl)
theorem dX0_wordOf_37 : decode cX0_wordOf 37 = .ok (.ireturn, 1) := dk_172 (dk_at dksX0_wordOf_1 15 rfl rfl)
abbrev cX0_spells : ByteArray := prog_1_method_9_code
def yX0_spells : MethodName := ⟨RX0, "spells", "(Ljava/lang/String;)Z"⟩
def dkwX0_spells_2 : List UInt8 := [3, 172, 132, 2, 1, 167, 255, 225, 4, 172]
abbrev dktX0_spells_2 : List UInt8 := dkwX0_spells_2 ++ []
def dkwX0_spells_1 : List UInt8 := [182, 0, 141, 162, 0, 29, 42, 42, 180, 0, 148, 28, 96, 182, 0, 151, 43, 28, 182, 0, 155, 159, 0, 5]
abbrev dktX0_spells_1 : List UInt8 := dkwX0_spells_1 ++ dktX0_spells_2
def dkwX0_spells_0 : List UInt8 := [43, 182, 0, 141, 42, 180, 0, 145, 42, 180, 0, 148, 100, 159, 0, 5, 3, 172, 3, 61, 28, 43]
abbrev dktX0_spells_0 : List UInt8 := dkwX0_spells_0 ++ dktX0_spells_1
theorem dksX0_spells_0 : cX0_spells.data.toList.drop 0 = dktX0_spells_0 := by decide +kernel
theorem dksX0_spells_1 : cX0_spells.data.toList.drop 22 = dktX0_spells_1 := dk_seg dksX0_spells_0 22 rfl rfl
theorem dksX0_spells_2 : cX0_spells.data.toList.drop 46 = dktX0_spells_2 := dk_seg dksX0_spells_1 24 rfl rfl
theorem dX0_spells_0 : decode cX0_spells 0 = .ok (.aload_n 1, 1) := dk_43 (dk_at dksX0_spells_0 0 rfl rfl)
theorem dX0_spells_1 : decode cX0_spells 1 = .ok (.invokevirtual 141, 3) := dk_182 0 141 (dk_at dksX0_spells_0 1 rfl rfl)
theorem dX0_spells_4 : decode cX0_spells 4 = .ok (.aload_n 0, 1) := dk_42 (dk_at dksX0_spells_0 4 rfl rfl)
theorem dX0_spells_5 : decode cX0_spells 5 = .ok (.getfield 145, 3) := dk_180 0 145 (dk_at dksX0_spells_0 5 rfl rfl)
theorem dX0_spells_8 : decode cX0_spells 8 = .ok (.aload_n 0, 1) := dk_42 (dk_at dksX0_spells_0 8 rfl rfl)
theorem dX0_spells_9 : decode cX0_spells 9 = .ok (.getfield 148, 3) := dk_180 0 148 (dk_at dksX0_spells_0 9 rfl rfl)
theorem dX0_spells_12 : decode cX0_spells 12 = .ok (.isub, 1) := dk_100 (dk_at dksX0_spells_0 12 rfl rfl)
theorem dX0_spells_13 : decode cX0_spells 13 = .ok (.if_icmp .eq 5, 3) := dk_159 0 5 (dk_at dksX0_spells_0 13 rfl rfl)
theorem dX0_spells_16 : decode cX0_spells 16 = .ok (.iconst 0, 1) := dk_3 (dk_at dksX0_spells_0 16 rfl rfl)
theorem dX0_spells_17 : decode cX0_spells 17 = .ok (.ireturn, 1) := dk_172 (dk_at dksX0_spells_0 17 rfl rfl)
theorem dX0_spells_18 : decode cX0_spells 18 = .ok (.iconst 0, 1) := dk_3 (dk_at dksX0_spells_0 18 rfl rfl)
theorem dX0_spells_19 : decode cX0_spells 19 = .ok (.istore_n 2, 1) := dk_61 (dk_at dksX0_spells_0 19 rfl rfl)
theorem dX0_spells_20 : decode cX0_spells 20 = .ok (.iload_n 2, 1) := dk_28 (dk_at dksX0_spells_0 20 rfl rfl)
theorem dX0_spells_21 : decode cX0_spells 21 = .ok (.aload_n 1, 1) := dk_43 (dk_at dksX0_spells_0 21 rfl rfl)
theorem dX0_spells_22 : decode cX0_spells 22 = .ok (.invokevirtual 141, 3) := dk_182 0 141 (dk_at dksX0_spells_1 0 rfl rfl)
theorem dX0_spells_25 : decode cX0_spells 25 = .ok (.if_icmp .ge 29, 3) := dk_162 0 29 (dk_at dksX0_spells_1 3 rfl rfl)
theorem dX0_spells_28 : decode cX0_spells 28 = .ok (.aload_n 0, 1) := dk_42 (dk_at dksX0_spells_1 6 rfl rfl)
theorem dX0_spells_29 : decode cX0_spells 29 = .ok (.aload_n 0, 1) := dk_42 (dk_at dksX0_spells_1 7 rfl rfl)
theorem dX0_spells_30 : decode cX0_spells 30 = .ok (.getfield 148, 3) := dk_180 0 148 (dk_at dksX0_spells_1 8 rfl rfl)
theorem dX0_spells_33 : decode cX0_spells 33 = .ok (.iload_n 2, 1) := dk_28 (dk_at dksX0_spells_1 11 rfl rfl)
theorem dX0_spells_34 : decode cX0_spells 34 = .ok (.iadd, 1) := dk_96 (dk_at dksX0_spells_1 12 rfl rfl)
theorem dX0_spells_35 : decode cX0_spells 35 = .ok (.invokevirtual 151, 3) := dk_182 0 151 (dk_at dksX0_spells_1 13 rfl rfl)
theorem dX0_spells_38 : decode cX0_spells 38 = .ok (.aload_n 1, 1) := dk_43 (dk_at dksX0_spells_1 16 rfl rfl)
theorem dX0_spells_39 : decode cX0_spells 39 = .ok (.iload_n 2, 1) := dk_28 (dk_at dksX0_spells_1 17 rfl rfl)
theorem dX0_spells_40 : decode cX0_spells 40 = .ok (.invokevirtual 155, 3) := dk_182 0 155 (dk_at dksX0_spells_1 18 rfl rfl)
theorem dX0_spells_43 : decode cX0_spells 43 = .ok (.if_icmp .eq 5, 3) := dk_159 0 5 (dk_at dksX0_spells_1 21 rfl rfl)
theorem dX0_spells_46 : decode cX0_spells 46 = .ok (.iconst 0, 1) := dk_3 (dk_at dksX0_spells_2 0 rfl rfl)
theorem dX0_spells_47 : decode cX0_spells 47 = .ok (.ireturn, 1) := dk_172 (dk_at dksX0_spells_2 1 rfl rfl)
theorem dX0_spells_48 : decode cX0_spells 48 = .ok (.iinc 2 1, 3) := dk_132 2 1 (dk_at dksX0_spells_2 2 rfl rfl)
theorem dX0_spells_51 : decode cX0_spells 51 = .ok (.goto (-31), 3) := dk_167 255 225 (dk_at dksX0_spells_2 5 rfl rfl)
theorem dX0_spells_54 : decode cX0_spells 54 = .ok (.iconst 1, 1) := dk_4 (dk_at dksX0_spells_2 8 rfl rfl)
theorem dX0_spells_55 : decode cX0_spells 55 = .ok (.ireturn, 1) := dk_172 (dk_at dksX0_spells_2 9 rfl rfl)
abbrev cX0_isDigit : ByteArray := prog_1_method_8_code
def yX0_isDigit : MethodName := ⟨RX0, "isDigit", "(I)Z"⟩
def dkwX0_isDigit_0 : List UInt8 := [26, 16, 48, 16, 57, 184, 0, 137, 172]
abbrev dktX0_isDigit_0 : List UInt8 := dkwX0_isDigit_0 ++ []
theorem dksX0_isDigit_0 : cX0_isDigit.data.toList.drop 0 = dktX0_isDigit_0 := by decide +kernel
theorem dX0_isDigit_0 : decode cX0_isDigit 0 = .ok (.iload_n 0, 1) := dk_26 (dk_at dksX0_isDigit_0 0 rfl rfl)
theorem dX0_isDigit_1 : decode cX0_isDigit 1 = .ok (.bipush 48, 2) := dk_16 48 (dk_at dksX0_isDigit_0 1 rfl rfl)
theorem dX0_isDigit_3 : decode cX0_isDigit 3 = .ok (.bipush 57, 2) := dk_16 57 (dk_at dksX0_isDigit_0 3 rfl rfl)
theorem dX0_isDigit_5 : decode cX0_isDigit 5 = .ok (.invokestatic 137, 3) := dk_184 0 137 (dk_at dksX0_isDigit_0 5 rfl rfl)
theorem dX0_isDigit_8 : decode cX0_isDigit 8 = .ok (.ireturn, 1) := dk_172 (dk_at dksX0_isDigit_0 8 rfl rfl)
abbrev cX0_must : ByteArray := prog_1_method_14_code
def yX0_must : MethodName := ⟨RX0, "must", "(Z)V"⟩
def dkwX0_must_0 : List UInt8 := [27, 154, 0, 16, 187, 0, 210, 89, 4, 42, 180, 0, 148, 183, 0, 212, 191, 177]
abbrev dktX0_must_0 : List UInt8 := dkwX0_must_0 ++ []
theorem dksX0_must_0 : cX0_must.data.toList.drop 0 = dktX0_must_0 := by decide +kernel
theorem dX0_must_0 : decode cX0_must 0 = .ok (.iload_n 1, 1) := dk_27 (dk_at dksX0_must_0 0 rfl rfl)
theorem dX0_must_1 : decode cX0_must 1 = .ok (.ifCond .ne 16, 3) := dk_154 0 16 (dk_at dksX0_must_0 1 rfl rfl)
theorem dX0_must_4 : decode cX0_must 4 = .ok (.new 210, 3) := dk_187 0 210 (dk_at dksX0_must_0 4 rfl rfl)
theorem dX0_must_7 : decode cX0_must 7 = .ok (.dup, 1) := dk_89 (dk_at dksX0_must_0 7 rfl rfl)
theorem dX0_must_8 : decode cX0_must 8 = .ok (.iconst 1, 1) := dk_4 (dk_at dksX0_must_0 8 rfl rfl)
theorem dX0_must_9 : decode cX0_must 9 = .ok (.aload_n 0, 1) := dk_42 (dk_at dksX0_must_0 9 rfl rfl)
theorem dX0_must_10 : decode cX0_must 10 = .ok (.getfield 148, 3) := dk_180 0 148 (dk_at dksX0_must_0 10 rfl rfl)
theorem dX0_must_13 : decode cX0_must 13 = .ok (.invokespecial 212, 3) := dk_183 0 212 (dk_at dksX0_must_0 13 rfl rfl)
theorem dX0_must_16 : decode cX0_must 16 = .ok (.athrow, 1) := dk_191 (dk_at dksX0_must_0 16 rfl rfl)
theorem dX0_must_17 : decode cX0_must 17 = .ok (.return_, 1) := dk_177 (dk_at dksX0_must_0 17 rfl rfl)
abbrev cX0_sum : ByteArray := prog_1_method_18_code
def yX0_sum : MethodName := ⟨RX0, "sum", "()LFourCars$Term;"⟩
def dkwX0_sum_2 : List UInt8 := [167, 255, 214, 43, 176]
abbrev dktX0_sum_2 : List UInt8 := dkwX0_sum_2 ++ []
def dkwX0_sum_1 : List UInt8 := [180, 0, 175, 146, 61, 42, 182, 0, 223, 187, 0, 237, 89, 28, 43, 42, 182, 0, 242, 183, 0, 239, 76]
abbrev dktX0_sum_1 : List UInt8 := dkwX0_sum_1 ++ dktX0_sum_2
def dkwX0_sum_0 : List UInt8 := [42, 182, 0, 242, 76, 42, 16, 43, 182, 0, 215, 154, 0, 12, 42, 16, 45, 182, 0, 215, 153, 0, 30, 42]
abbrev dktX0_sum_0 : List UInt8 := dkwX0_sum_0 ++ dktX0_sum_1
theorem dksX0_sum_0 : cX0_sum.data.toList.drop 0 = dktX0_sum_0 := by decide +kernel
theorem dksX0_sum_1 : cX0_sum.data.toList.drop 24 = dktX0_sum_1 := dk_seg dksX0_sum_0 24 rfl rfl
theorem dksX0_sum_2 : cX0_sum.data.toList.drop 47 = dktX0_sum_2 := dk_seg dksX0_sum_1 23 rfl rfl
theorem dX0_sum_0 : decode cX0_sum 0 = .ok (.aload_n 0, 1) := dk_42 (dk_at dksX0_sum_0 0 rfl rfl)
theorem dX0_sum_1 : decode cX0_sum 1 = .ok (.invokevirtual 242, 3) := dk_182 0 242 (dk_at dksX0_sum_0 1 rfl rfl)
theorem dX0_sum_4 : decode cX0_sum 4 = .ok (.astore_n 1, 1) := dk_76 (dk_at dksX0_sum_0 4 rfl rfl)
theorem dX0_sum_5 : decode cX0_sum 5 = .ok (.aload_n 0, 1) := dk_42 (dk_at dksX0_sum_0 5 rfl rfl)
theorem dX0_sum_6 : decode cX0_sum 6 = .ok (.bipush 43, 2) := dk_16 43 (dk_at dksX0_sum_0 6 rfl rfl)
theorem dX0_sum_8 : decode cX0_sum 8 = .ok (.invokevirtual 215, 3) := dk_182 0 215 (dk_at dksX0_sum_0 8 rfl rfl)
theorem dX0_sum_11 : decode cX0_sum 11 = .ok (.ifCond .ne 12, 3) := dk_154 0 12 (dk_at dksX0_sum_0 11 rfl rfl)
theorem dX0_sum_14 : decode cX0_sum 14 = .ok (.aload_n 0, 1) := dk_42 (dk_at dksX0_sum_0 14 rfl rfl)
theorem dX0_sum_15 : decode cX0_sum 15 = .ok (.bipush 45, 2) := dk_16 45 (dk_at dksX0_sum_0 15 rfl rfl)
theorem dX0_sum_17 : decode cX0_sum 17 = .ok (.invokevirtual 215, 3) := dk_182 0 215 (dk_at dksX0_sum_0 17 rfl rfl)
theorem dX0_sum_20 : decode cX0_sum 20 = .ok (.ifCond .eq 30, 3) := dk_153 0 30 (dk_at dksX0_sum_0 20 rfl rfl)
theorem dX0_sum_23 : decode cX0_sum 23 = .ok (.aload_n 0, 1) := dk_42 (dk_at dksX0_sum_0 23 rfl rfl)
theorem dX0_sum_24 : decode cX0_sum 24 = .ok (.getfield 175, 3) := dk_180 0 175 (dk_at dksX0_sum_1 0 rfl rfl)
theorem dX0_sum_27 : decode cX0_sum 27 = .ok (.i2c, 1) := dk_146 (dk_at dksX0_sum_1 3 rfl rfl)
theorem dX0_sum_28 : decode cX0_sum 28 = .ok (.istore_n 2, 1) := dk_61 (dk_at dksX0_sum_1 4 rfl rfl)
theorem dX0_sum_29 : decode cX0_sum 29 = .ok (.aload_n 0, 1) := dk_42 (dk_at dksX0_sum_1 5 rfl rfl)
theorem dX0_sum_30 : decode cX0_sum 30 = .ok (.invokevirtual 223, 3) := dk_182 0 223 (dk_at dksX0_sum_1 6 rfl rfl)
theorem dX0_sum_33 : decode cX0_sum 33 = .ok (.new 237, 3) := dk_187 0 237 (dk_at dksX0_sum_1 9 rfl rfl)
theorem dX0_sum_36 : decode cX0_sum 36 = .ok (.dup, 1) := dk_89 (dk_at dksX0_sum_1 12 rfl rfl)
theorem dX0_sum_37 : decode cX0_sum 37 = .ok (.iload_n 2, 1) := dk_28 (dk_at dksX0_sum_1 13 rfl rfl)
theorem dX0_sum_38 : decode cX0_sum 38 = .ok (.aload_n 1, 1) := dk_43 (dk_at dksX0_sum_1 14 rfl rfl)
theorem dX0_sum_39 : decode cX0_sum 39 = .ok (.aload_n 0, 1) := dk_42 (dk_at dksX0_sum_1 15 rfl rfl)
theorem dX0_sum_40 : decode cX0_sum 40 = .ok (.invokevirtual 242, 3) := dk_182 0 242 (dk_at dksX0_sum_1 16 rfl rfl)
theorem dX0_sum_43 : decode cX0_sum 43 = .ok (.invokespecial 239, 3) := dk_183 0 239 (dk_at dksX0_sum_1 19 rfl rfl)
theorem dX0_sum_46 : decode cX0_sum 46 = .ok (.astore_n 1, 1) := dk_76 (dk_at dksX0_sum_1 22 rfl rfl)
theorem dX0_sum_47 : decode cX0_sum 47 = .ok (.goto (-42), 3) := dk_167 255 214 (dk_at dksX0_sum_2 0 rfl rfl)
theorem dX0_sum_50 : decode cX0_sum 50 = .ok (.aload_n 1, 1) := dk_43 (dk_at dksX0_sum_2 3 rfl rfl)
theorem dX0_sum_51 : decode cX0_sum 51 = .ok (.areturn, 1) := dk_176 (dk_at dksX0_sum_2 4 rfl rfl)
abbrev cX0_product : ByteArray := prog_1_method_17_code
def yX0_product : MethodName := ⟨RX0, "product", "()LFourCars$Term;"⟩
def dkwX0_product_4 : List UInt8 := [43, 176]
abbrev dktX0_product_4 : List UInt8 := dkwX0_product_4 ++ []
def dkwX0_product_3 : List UInt8 := [180, 0, 148, 183, 0, 212, 191, 187, 0, 237, 89, 28, 43, 42, 182, 0, 233, 183, 0, 239, 76, 167, 255, 169]
abbrev dktX0_product_3 : List UInt8 := dkwX0_product_3 ++ dktX0_product_4
def dkwX0_product_2 : List UInt8 := [166, 0, 7, 4, 167, 0, 4, 3, 182, 0, 219, 42, 180, 0, 175, 154, 0, 16, 187, 0, 210, 89, 5, 42]
abbrev dktX0_product_2 : List UInt8 := dkwX0_product_2 ++ dktX0_product_3
def dkwX0_product_1 : List UInt8 := [180, 0, 175, 146, 61, 42, 182, 0, 223, 28, 16, 47, 160, 0, 42, 42, 42, 180, 0, 159, 178, 0, 202]
abbrev dktX0_product_1 : List UInt8 := dkwX0_product_1 ++ dktX0_product_2
def dkwX0_product_0 : List UInt8 := [42, 182, 0, 233, 76, 42, 16, 42, 182, 0, 215, 154, 0, 12, 42, 16, 47, 182, 0, 215, 153, 0, 75, 42]
abbrev dktX0_product_0 : List UInt8 := dkwX0_product_0 ++ dktX0_product_1
theorem dksX0_product_0 : cX0_product.data.toList.drop 0 = dktX0_product_0 := by decide +kernel
theorem dksX0_product_1 : cX0_product.data.toList.drop 24 = dktX0_product_1 := dk_seg dksX0_product_0 24 rfl rfl
theorem dksX0_product_2 : cX0_product.data.toList.drop 47 = dktX0_product_2 := dk_seg dksX0_product_1 23 rfl rfl
theorem dksX0_product_3 : cX0_product.data.toList.drop 71 = dktX0_product_3 := dk_seg dksX0_product_2 24 rfl rfl
theorem dksX0_product_4 : cX0_product.data.toList.drop 95 = dktX0_product_4 := dk_seg dksX0_product_3 24 rfl rfl
theorem dX0_product_0 : decode cX0_product 0 = .ok (.aload_n 0, 1) := dk_42 (dk_at dksX0_product_0 0 rfl rfl)
theorem dX0_product_1 : decode cX0_product 1 = .ok (.invokevirtual 233, 3) := dk_182 0 233 (dk_at dksX0_product_0 1 rfl rfl)
theorem dX0_product_4 : decode cX0_product 4 = .ok (.astore_n 1, 1) := dk_76 (dk_at dksX0_product_0 4 rfl rfl)
theorem dX0_product_5 : decode cX0_product 5 = .ok (.aload_n 0, 1) := dk_42 (dk_at dksX0_product_0 5 rfl rfl)
theorem dX0_product_6 : decode cX0_product 6 = .ok (.bipush 42, 2) := dk_16 42 (dk_at dksX0_product_0 6 rfl rfl)
theorem dX0_product_8 : decode cX0_product 8 = .ok (.invokevirtual 215, 3) := dk_182 0 215 (dk_at dksX0_product_0 8 rfl rfl)
theorem dX0_product_11 : decode cX0_product 11 = .ok (.ifCond .ne 12, 3) := dk_154 0 12 (dk_at dksX0_product_0 11 rfl rfl)
theorem dX0_product_14 : decode cX0_product 14 = .ok (.aload_n 0, 1) := dk_42 (dk_at dksX0_product_0 14 rfl rfl)
theorem dX0_product_15 : decode cX0_product 15 = .ok (.bipush 47, 2) := dk_16 47 (dk_at dksX0_product_0 15 rfl rfl)
theorem dX0_product_17 : decode cX0_product 17 = .ok (.invokevirtual 215, 3) := dk_182 0 215 (dk_at dksX0_product_0 17 rfl rfl)
theorem dX0_product_20 : decode cX0_product 20 = .ok (.ifCond .eq 75, 3) := dk_153 0 75 (dk_at dksX0_product_0 20 rfl rfl)
theorem dX0_product_23 : decode cX0_product 23 = .ok (.aload_n 0, 1) := dk_42 (dk_at dksX0_product_0 23 rfl rfl)
theorem dX0_product_24 : decode cX0_product 24 = .ok (.getfield 175, 3) := dk_180 0 175 (dk_at dksX0_product_1 0 rfl rfl)
theorem dX0_product_27 : decode cX0_product 27 = .ok (.i2c, 1) := dk_146 (dk_at dksX0_product_1 3 rfl rfl)
theorem dX0_product_28 : decode cX0_product 28 = .ok (.istore_n 2, 1) := dk_61 (dk_at dksX0_product_1 4 rfl rfl)
theorem dX0_product_29 : decode cX0_product 29 = .ok (.aload_n 0, 1) := dk_42 (dk_at dksX0_product_1 5 rfl rfl)
theorem dX0_product_30 : decode cX0_product 30 = .ok (.invokevirtual 223, 3) := dk_182 0 223 (dk_at dksX0_product_1 6 rfl rfl)
theorem dX0_product_33 : decode cX0_product 33 = .ok (.iload_n 2, 1) := dk_28 (dk_at dksX0_product_1 9 rfl rfl)
theorem dX0_product_34 : decode cX0_product 34 = .ok (.bipush 47, 2) := dk_16 47 (dk_at dksX0_product_1 10 rfl rfl)
theorem dX0_product_36 : decode cX0_product 36 = .ok (.if_icmp .ne 42, 3) := dk_160 0 42 (dk_at dksX0_product_1 12 rfl rfl)
theorem dX0_product_39 : decode cX0_product 39 = .ok (.aload_n 0, 1) := dk_42 (dk_at dksX0_product_1 15 rfl rfl)
theorem dX0_product_40 : decode cX0_product 40 = .ok (.aload_n 0, 1) := dk_42 (dk_at dksX0_product_1 16 rfl rfl)
theorem dX0_product_41 : decode cX0_product 41 = .ok (.getfield 159, 3) := dk_180 0 159 (dk_at dksX0_product_1 17 rfl rfl)
theorem dX0_product_44 : decode cX0_product 44 = .ok (.getstatic 202, 3) := dk_178 0 202 (dk_at dksX0_product_1 20 rfl rfl)
theorem dX0_product_47 : decode cX0_product 47 = .ok (.if_acmp .ne 7, 3) := dk_166 0 7 (dk_at dksX0_product_2 0 rfl rfl)
theorem dX0_product_50 : decode cX0_product 50 = .ok (.iconst 1, 1) := dk_4 (dk_at dksX0_product_2 3 rfl rfl)
theorem dX0_product_51 : decode cX0_product 51 = .ok (.goto 4, 3) := dk_167 0 4 (dk_at dksX0_product_2 4 rfl rfl)
theorem dX0_product_54 : decode cX0_product 54 = .ok (.iconst 0, 1) := dk_3 (dk_at dksX0_product_2 7 rfl rfl)
theorem dX0_product_55 : decode cX0_product 55 = .ok (.invokevirtual 219, 3) := dk_182 0 219 (dk_at dksX0_product_2 8 rfl rfl)
theorem dX0_product_58 : decode cX0_product 58 = .ok (.aload_n 0, 1) := dk_42 (dk_at dksX0_product_2 11 rfl rfl)
theorem dX0_product_59 : decode cX0_product 59 = .ok (.getfield 175, 3) := dk_180 0 175 (dk_at dksX0_product_2 12 rfl rfl)
theorem dX0_product_62 : decode cX0_product 62 = .ok (.ifCond .ne 16, 3) := dk_154 0 16 (dk_at dksX0_product_2 15 rfl rfl)
theorem dX0_product_65 : decode cX0_product 65 = .ok (.new 210, 3) := dk_187 0 210 (dk_at dksX0_product_2 18 rfl rfl)
theorem dX0_product_68 : decode cX0_product 68 = .ok (.dup, 1) := dk_89 (dk_at dksX0_product_2 21 rfl rfl)
theorem dX0_product_69 : decode cX0_product 69 = .ok (.iconst 2, 1) := dk_5 (dk_at dksX0_product_2 22 rfl rfl)
theorem dX0_product_70 : decode cX0_product 70 = .ok (.aload_n 0, 1) := dk_42 (dk_at dksX0_product_2 23 rfl rfl)
theorem dX0_product_71 : decode cX0_product 71 = .ok (.getfield 148, 3) := dk_180 0 148 (dk_at dksX0_product_3 0 rfl rfl)
theorem dX0_product_74 : decode cX0_product 74 = .ok (.invokespecial 212, 3) := dk_183 0 212 (dk_at dksX0_product_3 3 rfl rfl)
theorem dX0_product_77 : decode cX0_product 77 = .ok (.athrow, 1) := dk_191 (dk_at dksX0_product_3 6 rfl rfl)
theorem dX0_product_78 : decode cX0_product 78 = .ok (.new 237, 3) := dk_187 0 237 (dk_at dksX0_product_3 7 rfl rfl)
theorem dX0_product_81 : decode cX0_product 81 = .ok (.dup, 1) := dk_89 (dk_at dksX0_product_3 10 rfl rfl)
theorem dX0_product_82 : decode cX0_product 82 = .ok (.iload_n 2, 1) := dk_28 (dk_at dksX0_product_3 11 rfl rfl)
theorem dX0_product_83 : decode cX0_product 83 = .ok (.aload_n 1, 1) := dk_43 (dk_at dksX0_product_3 12 rfl rfl)
theorem dX0_product_84 : decode cX0_product 84 = .ok (.aload_n 0, 1) := dk_42 (dk_at dksX0_product_3 13 rfl rfl)
theorem dX0_product_85 : decode cX0_product 85 = .ok (.invokevirtual 233, 3) := dk_182 0 233 (dk_at dksX0_product_3 14 rfl rfl)
theorem dX0_product_88 : decode cX0_product 88 = .ok (.invokespecial 239, 3) := dk_183 0 239 (dk_at dksX0_product_3 17 rfl rfl)
theorem dX0_product_91 : decode cX0_product 91 = .ok (.astore_n 1, 1) := dk_76 (dk_at dksX0_product_3 20 rfl rfl)
theorem dX0_product_92 : decode cX0_product 92 = .ok (.goto (-87), 3) := dk_167 255 169 (dk_at dksX0_product_3 21 rfl rfl)
theorem dX0_product_95 : decode cX0_product 95 = .ok (.aload_n 1, 1) := dk_43 (dk_at dksX0_product_4 0 rfl rfl)
theorem dX0_product_96 : decode cX0_product 96 = .ok (.areturn, 1) := dk_176 (dk_at dksX0_product_4 1 rfl rfl)
abbrev cX0_unit : ByteArray := prog_1_method_16_code
def yX0_unit : MethodName := ⟨RX0, "unit", "()LFourCars$Term;"⟩
def dkwX0_unit_2 : List UInt8 := [182, 0, 219, 42, 182, 0, 223, 187, 0, 230, 89, 27, 183, 0, 232, 176]
abbrev dktX0_unit_2 : List UInt8 := dkwX0_unit_2 ++ []
def dkwX0_unit_1 : List UInt8 := [183, 0, 228, 176, 42, 42, 180, 0, 50, 182, 0, 188, 60, 42, 27, 2, 159, 0, 7, 4, 167, 0, 4, 3]
abbrev dktX0_unit_1 : List UInt8 := dkwX0_unit_1 ++ dktX0_unit_2
def dkwX0_unit_0 : List UInt8 := [42, 180, 0, 159, 178, 0, 202, 166, 0, 21, 42, 180, 0, 175, 60, 42, 182, 0, 223, 187, 0, 226, 89, 27]
abbrev dktX0_unit_0 : List UInt8 := dkwX0_unit_0 ++ dktX0_unit_1
theorem dksX0_unit_0 : cX0_unit.data.toList.drop 0 = dktX0_unit_0 := by decide +kernel
theorem dksX0_unit_1 : cX0_unit.data.toList.drop 24 = dktX0_unit_1 := dk_seg dksX0_unit_0 24 rfl rfl
theorem dksX0_unit_2 : cX0_unit.data.toList.drop 48 = dktX0_unit_2 := dk_seg dksX0_unit_1 24 rfl rfl
theorem dX0_unit_0 : decode cX0_unit 0 = .ok (.aload_n 0, 1) := dk_42 (dk_at dksX0_unit_0 0 rfl rfl)
theorem dX0_unit_1 : decode cX0_unit 1 = .ok (.getfield 159, 3) := dk_180 0 159 (dk_at dksX0_unit_0 1 rfl rfl)
theorem dX0_unit_4 : decode cX0_unit 4 = .ok (.getstatic 202, 3) := dk_178 0 202 (dk_at dksX0_unit_0 4 rfl rfl)
theorem dX0_unit_7 : decode cX0_unit 7 = .ok (.if_acmp .ne 21, 3) := dk_166 0 21 (dk_at dksX0_unit_0 7 rfl rfl)
theorem dX0_unit_10 : decode cX0_unit 10 = .ok (.aload_n 0, 1) := dk_42 (dk_at dksX0_unit_0 10 rfl rfl)
theorem dX0_unit_11 : decode cX0_unit 11 = .ok (.getfield 175, 3) := dk_180 0 175 (dk_at dksX0_unit_0 11 rfl rfl)
theorem dX0_unit_14 : decode cX0_unit 14 = .ok (.istore_n 1, 1) := dk_60 (dk_at dksX0_unit_0 14 rfl rfl)
theorem dX0_unit_15 : decode cX0_unit 15 = .ok (.aload_n 0, 1) := dk_42 (dk_at dksX0_unit_0 15 rfl rfl)
theorem dX0_unit_16 : decode cX0_unit 16 = .ok (.invokevirtual 223, 3) := dk_182 0 223 (dk_at dksX0_unit_0 16 rfl rfl)
theorem dX0_unit_19 : decode cX0_unit 19 = .ok (.new 226, 3) := dk_187 0 226 (dk_at dksX0_unit_0 19 rfl rfl)
theorem dX0_unit_22 : decode cX0_unit 22 = .ok (.dup, 1) := dk_89 (dk_at dksX0_unit_0 22 rfl rfl)
theorem dX0_unit_23 : decode cX0_unit 23 = .ok (.iload_n 1, 1) := dk_27 (dk_at dksX0_unit_0 23 rfl rfl)
theorem dX0_unit_24 : decode cX0_unit 24 = .ok (.invokespecial 228, 3) := dk_183 0 228 (dk_at dksX0_unit_1 0 rfl rfl)
theorem dX0_unit_27 : decode cX0_unit 27 = .ok (.areturn, 1) := dk_176 (dk_at dksX0_unit_1 3 rfl rfl)
theorem dX0_unit_28 : decode cX0_unit 28 = .ok (.aload_n 0, 1) := dk_42 (dk_at dksX0_unit_1 4 rfl rfl)
theorem dX0_unit_29 : decode cX0_unit 29 = .ok (.aload_n 0, 1) := dk_42 (dk_at dksX0_unit_1 5 rfl rfl)
theorem dX0_unit_30 : decode cX0_unit 30 = .ok (.getfield 50, 3) := dk_180 0 50 (dk_at dksX0_unit_1 6 rfl rfl)
theorem dX0_unit_33 : decode cX0_unit 33 = .ok (.invokevirtual 188, 3) := dk_182 0 188 (dk_at dksX0_unit_1 9 rfl rfl)
theorem dX0_unit_36 : decode cX0_unit 36 = .ok (.istore_n 1, 1) := dk_60 (dk_at dksX0_unit_1 12 rfl rfl)
theorem dX0_unit_37 : decode cX0_unit 37 = .ok (.aload_n 0, 1) := dk_42 (dk_at dksX0_unit_1 13 rfl rfl)
theorem dX0_unit_38 : decode cX0_unit 38 = .ok (.iload_n 1, 1) := dk_27 (dk_at dksX0_unit_1 14 rfl rfl)
theorem dX0_unit_39 : decode cX0_unit 39 = .ok (.iconst (-1), 1) := dk_2 (dk_at dksX0_unit_1 15 rfl rfl)
theorem dX0_unit_40 : decode cX0_unit 40 = .ok (.if_icmp .eq 7, 3) := dk_159 0 7 (dk_at dksX0_unit_1 16 rfl rfl)
theorem dX0_unit_43 : decode cX0_unit 43 = .ok (.iconst 1, 1) := dk_4 (dk_at dksX0_unit_1 19 rfl rfl)
theorem dX0_unit_44 : decode cX0_unit 44 = .ok (.goto 4, 3) := dk_167 0 4 (dk_at dksX0_unit_1 20 rfl rfl)
theorem dX0_unit_47 : decode cX0_unit 47 = .ok (.iconst 0, 1) := dk_3 (dk_at dksX0_unit_1 23 rfl rfl)
theorem dX0_unit_48 : decode cX0_unit 48 = .ok (.invokevirtual 219, 3) := dk_182 0 219 (dk_at dksX0_unit_2 0 rfl rfl)
theorem dX0_unit_51 : decode cX0_unit 51 = .ok (.aload_n 0, 1) := dk_42 (dk_at dksX0_unit_2 3 rfl rfl)
theorem dX0_unit_52 : decode cX0_unit 52 = .ok (.invokevirtual 223, 3) := dk_182 0 223 (dk_at dksX0_unit_2 4 rfl rfl)
theorem dX0_unit_55 : decode cX0_unit 55 = .ok (.new 230, 3) := dk_187 0 230 (dk_at dksX0_unit_2 7 rfl rfl)
theorem dX0_unit_58 : decode cX0_unit 58 = .ok (.dup, 1) := dk_89 (dk_at dksX0_unit_2 10 rfl rfl)
theorem dX0_unit_59 : decode cX0_unit 59 = .ok (.iload_n 1, 1) := dk_27 (dk_at dksX0_unit_2 11 rfl rfl)
theorem dX0_unit_60 : decode cX0_unit 60 = .ok (.invokespecial 232, 3) := dk_183 0 232 (dk_at dksX0_unit_2 12 rfl rfl)
theorem dX0_unit_63 : decode cX0_unit 63 = .ok (.areturn, 1) := dk_176 (dk_at dksX0_unit_2 15 rfl rfl)
abbrev cX0_isSign : ByteArray := prog_1_method_12_code
def yX0_isSign : MethodName := ⟨RX0, "isSign", "(C)Z"⟩
def dkwX0_isSign_0 : List UInt8 := [42, 180, 0, 159, 178, 0, 172, 166, 0, 15, 42, 180, 0, 175, 27, 160, 0, 7, 4, 167, 0, 4, 3, 172]
abbrev dktX0_isSign_0 : List UInt8 := dkwX0_isSign_0 ++ []
theorem dksX0_isSign_0 : cX0_isSign.data.toList.drop 0 = dktX0_isSign_0 := by decide +kernel
theorem dX0_isSign_0 : decode cX0_isSign 0 = .ok (.aload_n 0, 1) := dk_42 (dk_at dksX0_isSign_0 0 rfl rfl)
theorem dX0_isSign_1 : decode cX0_isSign 1 = .ok (.getfield 159, 3) := dk_180 0 159 (dk_at dksX0_isSign_0 1 rfl rfl)
theorem dX0_isSign_4 : decode cX0_isSign 4 = .ok (.getstatic 172, 3) := dk_178 0 172 (dk_at dksX0_isSign_0 4 rfl rfl)
theorem dX0_isSign_7 : decode cX0_isSign 7 = .ok (.if_acmp .ne 15, 3) := dk_166 0 15 (dk_at dksX0_isSign_0 7 rfl rfl)
theorem dX0_isSign_10 : decode cX0_isSign 10 = .ok (.aload_n 0, 1) := dk_42 (dk_at dksX0_isSign_0 10 rfl rfl)
theorem dX0_isSign_11 : decode cX0_isSign 11 = .ok (.getfield 175, 3) := dk_180 0 175 (dk_at dksX0_isSign_0 11 rfl rfl)
theorem dX0_isSign_14 : decode cX0_isSign 14 = .ok (.iload_n 1, 1) := dk_27 (dk_at dksX0_isSign_0 14 rfl rfl)
theorem dX0_isSign_15 : decode cX0_isSign 15 = .ok (.if_icmp .ne 7, 3) := dk_160 0 7 (dk_at dksX0_isSign_0 15 rfl rfl)
theorem dX0_isSign_18 : decode cX0_isSign 18 = .ok (.iconst 1, 1) := dk_4 (dk_at dksX0_isSign_0 18 rfl rfl)
theorem dX0_isSign_19 : decode cX0_isSign 19 = .ok (.goto 4, 3) := dk_167 0 4 (dk_at dksX0_isSign_0 19 rfl rfl)
theorem dX0_isSign_22 : decode cX0_isSign 22 = .ok (.iconst 0, 1) := dk_3 (dk_at dksX0_isSign_0 22 rfl rfl)
theorem dX0_isSign_23 : decode cX0_isSign 23 = .ok (.ireturn, 1) := dk_172 (dk_at dksX0_isSign_0 23 rfl rfl)
abbrev cX0_isWord : ByteArray := prog_1_method_11_code
def yX0_isWord : MethodName := ⟨RX0, "isWord", "(Ljava/lang/String;)Z"⟩
def dkwX0_isWord_0 : List UInt8 := [42, 180, 0, 159, 178, 0, 163, 166, 0, 15, 42, 43, 182, 0, 168, 153, 0, 7, 4, 167, 0, 4, 3, 172]
abbrev dktX0_isWord_0 : List UInt8 := dkwX0_isWord_0 ++ []
theorem dksX0_isWord_0 : cX0_isWord.data.toList.drop 0 = dktX0_isWord_0 := by decide +kernel
theorem dX0_isWord_0 : decode cX0_isWord 0 = .ok (.aload_n 0, 1) := dk_42 (dk_at dksX0_isWord_0 0 rfl rfl)
theorem dX0_isWord_1 : decode cX0_isWord 1 = .ok (.getfield 159, 3) := dk_180 0 159 (dk_at dksX0_isWord_0 1 rfl rfl)
theorem dX0_isWord_4 : decode cX0_isWord 4 = .ok (.getstatic 163, 3) := dk_178 0 163 (dk_at dksX0_isWord_0 4 rfl rfl)
theorem dX0_isWord_7 : decode cX0_isWord 7 = .ok (.if_acmp .ne 15, 3) := dk_166 0 15 (dk_at dksX0_isWord_0 7 rfl rfl)
theorem dX0_isWord_10 : decode cX0_isWord 10 = .ok (.aload_n 0, 1) := dk_42 (dk_at dksX0_isWord_0 10 rfl rfl)
theorem dX0_isWord_11 : decode cX0_isWord 11 = .ok (.aload_n 1, 1) := dk_43 (dk_at dksX0_isWord_0 11 rfl rfl)
theorem dX0_isWord_12 : decode cX0_isWord 12 = .ok (.invokevirtual 168, 3) := dk_182 0 168 (dk_at dksX0_isWord_0 12 rfl rfl)
theorem dX0_isWord_15 : decode cX0_isWord 15 = .ok (.ifCond .eq 7, 3) := dk_153 0 7 (dk_at dksX0_isWord_0 15 rfl rfl)
theorem dX0_isWord_18 : decode cX0_isWord 18 = .ok (.iconst 1, 1) := dk_4 (dk_at dksX0_isWord_0 18 rfl rfl)
theorem dX0_isWord_19 : decode cX0_isWord 19 = .ok (.goto 4, 3) := dk_167 0 4 (dk_at dksX0_isWord_0 19 rfl rfl)
theorem dX0_isWord_22 : decode cX0_isWord 22 = .ok (.iconst 0, 1) := dk_3 (dk_at dksX0_isWord_0 22 rfl rfl)
theorem dX0_isWord_23 : decode cX0_isWord 23 = .ok (.ireturn, 1) := dk_172 (dk_at dksX0_isWord_0 23 rfl rfl)
abbrev cX0_any : ByteArray := prog_1_method_22_code
def yX0_any : MethodName := ⟨RX0, "any", "()LFourCars$Term;"⟩
def dkwX0_any_1 : List UInt8 := [43, 42, 182, 1, 16, 183, 0, 239, 76, 167, 255, 228, 43, 176]
abbrev dktX0_any_1 : List UInt8 := dkwX0_any_1 ++ []
def dkwX0_any_0 : List UInt8 := [42, 182, 1, 16, 76, 42, 18, 55, 182, 0, 248, 153, 0, 25, 42, 182, 0, 223, 187, 0, 237, 89, 16, 124]
abbrev dktX0_any_0 : List UInt8 := dkwX0_any_0 ++ dktX0_any_1
theorem dksX0_any_0 : cX0_any.data.toList.drop 0 = dktX0_any_0 := by decide +kernel
theorem dksX0_any_1 : cX0_any.data.toList.drop 24 = dktX0_any_1 := dk_seg dksX0_any_0 24 rfl rfl
theorem dX0_any_0 : decode cX0_any 0 = .ok (.aload_n 0, 1) := dk_42 (dk_at dksX0_any_0 0 rfl rfl)
theorem dX0_any_1 : decode cX0_any 1 = .ok (.invokevirtual 272, 3) := dk_182 1 16 (dk_at dksX0_any_0 1 rfl rfl)
theorem dX0_any_4 : decode cX0_any 4 = .ok (.astore_n 1, 1) := dk_76 (dk_at dksX0_any_0 4 rfl rfl)
theorem dX0_any_5 : decode cX0_any 5 = .ok (.aload_n 0, 1) := dk_42 (dk_at dksX0_any_0 5 rfl rfl)
theorem dX0_any_6 : decode cX0_any 6 = .ok (.ldc 55, 2) := dk_18 55 (dk_at dksX0_any_0 6 rfl rfl)
theorem dX0_any_8 : decode cX0_any 8 = .ok (.invokevirtual 248, 3) := dk_182 0 248 (dk_at dksX0_any_0 8 rfl rfl)
theorem dX0_any_11 : decode cX0_any 11 = .ok (.ifCond .eq 25, 3) := dk_153 0 25 (dk_at dksX0_any_0 11 rfl rfl)
theorem dX0_any_14 : decode cX0_any 14 = .ok (.aload_n 0, 1) := dk_42 (dk_at dksX0_any_0 14 rfl rfl)
theorem dX0_any_15 : decode cX0_any 15 = .ok (.invokevirtual 223, 3) := dk_182 0 223 (dk_at dksX0_any_0 15 rfl rfl)
theorem dX0_any_18 : decode cX0_any 18 = .ok (.new 237, 3) := dk_187 0 237 (dk_at dksX0_any_0 18 rfl rfl)
theorem dX0_any_21 : decode cX0_any 21 = .ok (.dup, 1) := dk_89 (dk_at dksX0_any_0 21 rfl rfl)
theorem dX0_any_22 : decode cX0_any 22 = .ok (.bipush 124, 2) := dk_16 124 (dk_at dksX0_any_0 22 rfl rfl)
theorem dX0_any_24 : decode cX0_any 24 = .ok (.aload_n 1, 1) := dk_43 (dk_at dksX0_any_1 0 rfl rfl)
theorem dX0_any_25 : decode cX0_any 25 = .ok (.aload_n 0, 1) := dk_42 (dk_at dksX0_any_1 1 rfl rfl)
theorem dX0_any_26 : decode cX0_any 26 = .ok (.invokevirtual 272, 3) := dk_182 1 16 (dk_at dksX0_any_1 2 rfl rfl)
theorem dX0_any_29 : decode cX0_any 29 = .ok (.invokespecial 239, 3) := dk_183 0 239 (dk_at dksX0_any_1 5 rfl rfl)
theorem dX0_any_32 : decode cX0_any 32 = .ok (.astore_n 1, 1) := dk_76 (dk_at dksX0_any_1 8 rfl rfl)
theorem dX0_any_33 : decode cX0_any 33 = .ok (.goto (-28), 3) := dk_167 255 228 (dk_at dksX0_any_1 9 rfl rfl)
theorem dX0_any_36 : decode cX0_any 36 = .ok (.aload_n 1, 1) := dk_43 (dk_at dksX0_any_1 12 rfl rfl)
theorem dX0_any_37 : decode cX0_any 37 = .ok (.areturn, 1) := dk_176 (dk_at dksX0_any_1 13 rfl rfl)
abbrev cX0_both : ByteArray := prog_1_method_21_code
def yX0_both : MethodName := ⟨RX0, "both", "()LFourCars$Term;"⟩
def dkwX0_both_1 : List UInt8 := [43, 42, 182, 0, 254, 183, 0, 239, 76, 167, 255, 228, 43, 176]
abbrev dktX0_both_1 : List UInt8 := dkwX0_both_1 ++ []
def dkwX0_both_0 : List UInt8 := [42, 182, 0, 254, 76, 42, 18, 57, 182, 0, 248, 153, 0, 25, 42, 182, 0, 223, 187, 0, 237, 89, 16, 38]
abbrev dktX0_both_0 : List UInt8 := dkwX0_both_0 ++ dktX0_both_1
theorem dksX0_both_0 : cX0_both.data.toList.drop 0 = dktX0_both_0 := by decide +kernel
theorem dksX0_both_1 : cX0_both.data.toList.drop 24 = dktX0_both_1 := dk_seg dksX0_both_0 24 rfl rfl
theorem dX0_both_0 : decode cX0_both 0 = .ok (.aload_n 0, 1) := dk_42 (dk_at dksX0_both_0 0 rfl rfl)
theorem dX0_both_1 : decode cX0_both 1 = .ok (.invokevirtual 254, 3) := dk_182 0 254 (dk_at dksX0_both_0 1 rfl rfl)
theorem dX0_both_4 : decode cX0_both 4 = .ok (.astore_n 1, 1) := dk_76 (dk_at dksX0_both_0 4 rfl rfl)
theorem dX0_both_5 : decode cX0_both 5 = .ok (.aload_n 0, 1) := dk_42 (dk_at dksX0_both_0 5 rfl rfl)
theorem dX0_both_6 : decode cX0_both 6 = .ok (.ldc 57, 2) := dk_18 57 (dk_at dksX0_both_0 6 rfl rfl)
theorem dX0_both_8 : decode cX0_both 8 = .ok (.invokevirtual 248, 3) := dk_182 0 248 (dk_at dksX0_both_0 8 rfl rfl)
theorem dX0_both_11 : decode cX0_both 11 = .ok (.ifCond .eq 25, 3) := dk_153 0 25 (dk_at dksX0_both_0 11 rfl rfl)
theorem dX0_both_14 : decode cX0_both 14 = .ok (.aload_n 0, 1) := dk_42 (dk_at dksX0_both_0 14 rfl rfl)
theorem dX0_both_15 : decode cX0_both 15 = .ok (.invokevirtual 223, 3) := dk_182 0 223 (dk_at dksX0_both_0 15 rfl rfl)
theorem dX0_both_18 : decode cX0_both 18 = .ok (.new 237, 3) := dk_187 0 237 (dk_at dksX0_both_0 18 rfl rfl)
theorem dX0_both_21 : decode cX0_both 21 = .ok (.dup, 1) := dk_89 (dk_at dksX0_both_0 21 rfl rfl)
theorem dX0_both_22 : decode cX0_both 22 = .ok (.bipush 38, 2) := dk_16 38 (dk_at dksX0_both_0 22 rfl rfl)
theorem dX0_both_24 : decode cX0_both 24 = .ok (.aload_n 1, 1) := dk_43 (dk_at dksX0_both_1 0 rfl rfl)
theorem dX0_both_25 : decode cX0_both 25 = .ok (.aload_n 0, 1) := dk_42 (dk_at dksX0_both_1 1 rfl rfl)
theorem dX0_both_26 : decode cX0_both 26 = .ok (.invokevirtual 254, 3) := dk_182 0 254 (dk_at dksX0_both_1 2 rfl rfl)
theorem dX0_both_29 : decode cX0_both 29 = .ok (.invokespecial 239, 3) := dk_183 0 239 (dk_at dksX0_both_1 5 rfl rfl)
theorem dX0_both_32 : decode cX0_both 32 = .ok (.astore_n 1, 1) := dk_76 (dk_at dksX0_both_1 8 rfl rfl)
theorem dX0_both_33 : decode cX0_both 33 = .ok (.goto (-28), 3) := dk_167 255 228 (dk_at dksX0_both_1 9 rfl rfl)
theorem dX0_both_36 : decode cX0_both 36 = .ok (.aload_n 1, 1) := dk_43 (dk_at dksX0_both_1 12 rfl rfl)
theorem dX0_both_37 : decode cX0_both 37 = .ok (.areturn, 1) := dk_176 (dk_at dksX0_both_1 13 rfl rfl)
abbrev cX0_oneOf : ByteArray := prog_1_method_20_code
def yX0_oneOf : MethodName := ⟨RX0, "oneOf", "()LFourCars$Term;"⟩
def dkwX0_oneOf_5 : List UInt8 := [146, 61, 42, 182, 0, 223, 187, 0, 237, 89, 28, 43, 42, 182, 1, 13, 183, 0, 239, 176]
abbrev dktX0_oneOf_5 : List UInt8 := dkwX0_oneOf_5 ++ []
def dkwX0_oneOf_4 : List UInt8 := [154, 0, 12, 42, 16, 62, 182, 0, 215, 153, 0, 7, 4, 167, 0, 4, 3, 182, 0, 219, 42, 180, 0, 175]
abbrev dktX0_oneOf_4 : List UInt8 := dkwX0_oneOf_4 ++ dktX0_oneOf_5
def dkwX0_oneOf_3 : List UInt8 := [43, 176, 42, 182, 1, 13, 76, 42, 42, 16, 60, 182, 0, 215, 154, 0, 21, 42, 16, 61, 182, 0, 215]
abbrev dktX0_oneOf_3 : List UInt8 := dkwX0_oneOf_3 ++ dktX0_oneOf_4
def dkwX0_oneOf_2 : List UInt8 := [182, 0, 251, 42, 182, 1, 6, 76, 42, 16, 41, 182, 1, 9, 42, 89, 180, 0, 245, 4, 100, 181, 0, 245]
abbrev dktX0_oneOf_2 : List UInt8 := dkwX0_oneOf_2 ++ dktX0_oneOf_3
def dkwX0_oneOf_1 : List UInt8 := [100, 181, 0, 245, 187, 1, 1, 89, 43, 183, 1, 3, 176, 42, 16, 40, 182, 0, 215, 153, 0, 30, 42]
abbrev dktX0_oneOf_1 : List UInt8 := dkwX0_oneOf_1 ++ dktX0_oneOf_2
def dkwX0_oneOf_0 : List UInt8 := [42, 18, 59, 182, 0, 248, 153, 0, 31, 42, 182, 0, 251, 42, 182, 0, 254, 76, 42, 89, 180, 0, 245, 4]
abbrev dktX0_oneOf_0 : List UInt8 := dkwX0_oneOf_0 ++ dktX0_oneOf_1
theorem dksX0_oneOf_0 : cX0_oneOf.data.toList.drop 0 = dktX0_oneOf_0 := by decide +kernel
theorem dksX0_oneOf_1 : cX0_oneOf.data.toList.drop 24 = dktX0_oneOf_1 := dk_seg dksX0_oneOf_0 24 rfl rfl
theorem dksX0_oneOf_2 : cX0_oneOf.data.toList.drop 47 = dktX0_oneOf_2 := dk_seg dksX0_oneOf_1 23 rfl rfl
theorem dksX0_oneOf_3 : cX0_oneOf.data.toList.drop 71 = dktX0_oneOf_3 := dk_seg dksX0_oneOf_2 24 rfl rfl
theorem dksX0_oneOf_4 : cX0_oneOf.data.toList.drop 94 = dktX0_oneOf_4 := dk_seg dksX0_oneOf_3 23 rfl rfl
theorem dksX0_oneOf_5 : cX0_oneOf.data.toList.drop 118 = dktX0_oneOf_5 := dk_seg dksX0_oneOf_4 24 rfl rfl
theorem dX0_oneOf_0 : decode cX0_oneOf 0 = .ok (.aload_n 0, 1) := dk_42 (dk_at dksX0_oneOf_0 0 rfl rfl)
theorem dX0_oneOf_1 : decode cX0_oneOf 1 = .ok (.ldc 59, 2) := dk_18 59 (dk_at dksX0_oneOf_0 1 rfl rfl)
theorem dX0_oneOf_3 : decode cX0_oneOf 3 = .ok (.invokevirtual 248, 3) := dk_182 0 248 (dk_at dksX0_oneOf_0 3 rfl rfl)
theorem dX0_oneOf_6 : decode cX0_oneOf 6 = .ok (.ifCond .eq 31, 3) := dk_153 0 31 (dk_at dksX0_oneOf_0 6 rfl rfl)
theorem dX0_oneOf_9 : decode cX0_oneOf 9 = .ok (.aload_n 0, 1) := dk_42 (dk_at dksX0_oneOf_0 9 rfl rfl)
theorem dX0_oneOf_10 : decode cX0_oneOf 10 = .ok (.invokevirtual 251, 3) := dk_182 0 251 (dk_at dksX0_oneOf_0 10 rfl rfl)
theorem dX0_oneOf_13 : decode cX0_oneOf 13 = .ok (.aload_n 0, 1) := dk_42 (dk_at dksX0_oneOf_0 13 rfl rfl)
theorem dX0_oneOf_14 : decode cX0_oneOf 14 = .ok (.invokevirtual 254, 3) := dk_182 0 254 (dk_at dksX0_oneOf_0 14 rfl rfl)
theorem dX0_oneOf_17 : decode cX0_oneOf 17 = .ok (.astore_n 1, 1) := dk_76 (dk_at dksX0_oneOf_0 17 rfl rfl)
theorem dX0_oneOf_18 : decode cX0_oneOf 18 = .ok (.aload_n 0, 1) := dk_42 (dk_at dksX0_oneOf_0 18 rfl rfl)
theorem dX0_oneOf_19 : decode cX0_oneOf 19 = .ok (.dup, 1) := dk_89 (dk_at dksX0_oneOf_0 19 rfl rfl)
theorem dX0_oneOf_20 : decode cX0_oneOf 20 = .ok (.getfield 245, 3) := dk_180 0 245 (dk_at dksX0_oneOf_0 20 rfl rfl)
theorem dX0_oneOf_23 : decode cX0_oneOf 23 = .ok (.iconst 1, 1) := dk_4 (dk_at dksX0_oneOf_0 23 rfl rfl)
theorem dX0_oneOf_24 : decode cX0_oneOf 24 = .ok (.isub, 1) := dk_100 (dk_at dksX0_oneOf_1 0 rfl rfl)
theorem dX0_oneOf_25 : decode cX0_oneOf 25 = .ok (.putfield 245, 3) := dk_181 0 245 (dk_at dksX0_oneOf_1 1 rfl rfl)
theorem dX0_oneOf_28 : decode cX0_oneOf 28 = .ok (.new 257, 3) := dk_187 1 1 (dk_at dksX0_oneOf_1 4 rfl rfl)
theorem dX0_oneOf_31 : decode cX0_oneOf 31 = .ok (.dup, 1) := dk_89 (dk_at dksX0_oneOf_1 7 rfl rfl)
theorem dX0_oneOf_32 : decode cX0_oneOf 32 = .ok (.aload_n 1, 1) := dk_43 (dk_at dksX0_oneOf_1 8 rfl rfl)
theorem dX0_oneOf_33 : decode cX0_oneOf 33 = .ok (.invokespecial 259, 3) := dk_183 1 3 (dk_at dksX0_oneOf_1 9 rfl rfl)
theorem dX0_oneOf_36 : decode cX0_oneOf 36 = .ok (.areturn, 1) := dk_176 (dk_at dksX0_oneOf_1 12 rfl rfl)
theorem dX0_oneOf_37 : decode cX0_oneOf 37 = .ok (.aload_n 0, 1) := dk_42 (dk_at dksX0_oneOf_1 13 rfl rfl)
theorem dX0_oneOf_38 : decode cX0_oneOf 38 = .ok (.bipush 40, 2) := dk_16 40 (dk_at dksX0_oneOf_1 14 rfl rfl)
theorem dX0_oneOf_40 : decode cX0_oneOf 40 = .ok (.invokevirtual 215, 3) := dk_182 0 215 (dk_at dksX0_oneOf_1 16 rfl rfl)
theorem dX0_oneOf_43 : decode cX0_oneOf 43 = .ok (.ifCond .eq 30, 3) := dk_153 0 30 (dk_at dksX0_oneOf_1 19 rfl rfl)
theorem dX0_oneOf_46 : decode cX0_oneOf 46 = .ok (.aload_n 0, 1) := dk_42 (dk_at dksX0_oneOf_1 22 rfl rfl)
theorem dX0_oneOf_47 : decode cX0_oneOf 47 = .ok (.invokevirtual 251, 3) := dk_182 0 251 (dk_at dksX0_oneOf_2 0 rfl rfl)
theorem dX0_oneOf_50 : decode cX0_oneOf 50 = .ok (.aload_n 0, 1) := dk_42 (dk_at dksX0_oneOf_2 3 rfl rfl)
theorem dX0_oneOf_51 : decode cX0_oneOf 51 = .ok (.invokevirtual 262, 3) := dk_182 1 6 (dk_at dksX0_oneOf_2 4 rfl rfl)
theorem dX0_oneOf_54 : decode cX0_oneOf 54 = .ok (.astore_n 1, 1) := dk_76 (dk_at dksX0_oneOf_2 7 rfl rfl)
theorem dX0_oneOf_55 : decode cX0_oneOf 55 = .ok (.aload_n 0, 1) := dk_42 (dk_at dksX0_oneOf_2 8 rfl rfl)
theorem dX0_oneOf_56 : decode cX0_oneOf 56 = .ok (.bipush 41, 2) := dk_16 41 (dk_at dksX0_oneOf_2 9 rfl rfl)
theorem dX0_oneOf_58 : decode cX0_oneOf 58 = .ok (.invokevirtual 265, 3) := dk_182 1 9 (dk_at dksX0_oneOf_2 11 rfl rfl)
theorem dX0_oneOf_61 : decode cX0_oneOf 61 = .ok (.aload_n 0, 1) := dk_42 (dk_at dksX0_oneOf_2 14 rfl rfl)
theorem dX0_oneOf_62 : decode cX0_oneOf 62 = .ok (.dup, 1) := dk_89 (dk_at dksX0_oneOf_2 15 rfl rfl)
theorem dX0_oneOf_63 : decode cX0_oneOf 63 = .ok (.getfield 245, 3) := dk_180 0 245 (dk_at dksX0_oneOf_2 16 rfl rfl)
theorem dX0_oneOf_66 : decode cX0_oneOf 66 = .ok (.iconst 1, 1) := dk_4 (dk_at dksX0_oneOf_2 19 rfl rfl)
theorem dX0_oneOf_67 : decode cX0_oneOf 67 = .ok (.isub, 1) := dk_100 (dk_at dksX0_oneOf_2 20 rfl rfl)
theorem dX0_oneOf_68 : decode cX0_oneOf 68 = .ok (.putfield 245, 3) := dk_181 0 245 (dk_at dksX0_oneOf_2 21 rfl rfl)
theorem dX0_oneOf_71 : decode cX0_oneOf 71 = .ok (.aload_n 1, 1) := dk_43 (dk_at dksX0_oneOf_3 0 rfl rfl)
theorem dX0_oneOf_72 : decode cX0_oneOf 72 = .ok (.areturn, 1) := dk_176 (dk_at dksX0_oneOf_3 1 rfl rfl)
theorem dX0_oneOf_73 : decode cX0_oneOf 73 = .ok (.aload_n 0, 1) := dk_42 (dk_at dksX0_oneOf_3 2 rfl rfl)
theorem dX0_oneOf_74 : decode cX0_oneOf 74 = .ok (.invokevirtual 269, 3) := dk_182 1 13 (dk_at dksX0_oneOf_3 3 rfl rfl)
theorem dX0_oneOf_77 : decode cX0_oneOf 77 = .ok (.astore_n 1, 1) := dk_76 (dk_at dksX0_oneOf_3 6 rfl rfl)
theorem dX0_oneOf_78 : decode cX0_oneOf 78 = .ok (.aload_n 0, 1) := dk_42 (dk_at dksX0_oneOf_3 7 rfl rfl)
theorem dX0_oneOf_79 : decode cX0_oneOf 79 = .ok (.aload_n 0, 1) := dk_42 (dk_at dksX0_oneOf_3 8 rfl rfl)
theorem dX0_oneOf_80 : decode cX0_oneOf 80 = .ok (.bipush 60, 2) := dk_16 60 (dk_at dksX0_oneOf_3 9 rfl rfl)
theorem dX0_oneOf_82 : decode cX0_oneOf 82 = .ok (.invokevirtual 215, 3) := dk_182 0 215 (dk_at dksX0_oneOf_3 11 rfl rfl)
theorem dX0_oneOf_85 : decode cX0_oneOf 85 = .ok (.ifCond .ne 21, 3) := dk_154 0 21 (dk_at dksX0_oneOf_3 14 rfl rfl)
theorem dX0_oneOf_88 : decode cX0_oneOf 88 = .ok (.aload_n 0, 1) := dk_42 (dk_at dksX0_oneOf_3 17 rfl rfl)
theorem dX0_oneOf_89 : decode cX0_oneOf 89 = .ok (.bipush 61, 2) := dk_16 61 (dk_at dksX0_oneOf_3 18 rfl rfl)
theorem dX0_oneOf_91 : decode cX0_oneOf 91 = .ok (.invokevirtual 215, 3) := dk_182 0 215 (dk_at dksX0_oneOf_3 20 rfl rfl)
theorem dX0_oneOf_94 : decode cX0_oneOf 94 = .ok (.ifCond .ne 12, 3) := dk_154 0 12 (dk_at dksX0_oneOf_4 0 rfl rfl)
theorem dX0_oneOf_97 : decode cX0_oneOf 97 = .ok (.aload_n 0, 1) := dk_42 (dk_at dksX0_oneOf_4 3 rfl rfl)
theorem dX0_oneOf_98 : decode cX0_oneOf 98 = .ok (.bipush 62, 2) := dk_16 62 (dk_at dksX0_oneOf_4 4 rfl rfl)
theorem dX0_oneOf_100 : decode cX0_oneOf 100 = .ok (.invokevirtual 215, 3) := dk_182 0 215 (dk_at dksX0_oneOf_4 6 rfl rfl)
theorem dX0_oneOf_103 : decode cX0_oneOf 103 = .ok (.ifCond .eq 7, 3) := dk_153 0 7 (dk_at dksX0_oneOf_4 9 rfl rfl)
theorem dX0_oneOf_106 : decode cX0_oneOf 106 = .ok (.iconst 1, 1) := dk_4 (dk_at dksX0_oneOf_4 12 rfl rfl)
theorem dX0_oneOf_107 : decode cX0_oneOf 107 = .ok (.goto 4, 3) := dk_167 0 4 (dk_at dksX0_oneOf_4 13 rfl rfl)
theorem dX0_oneOf_110 : decode cX0_oneOf 110 = .ok (.iconst 0, 1) := dk_3 (dk_at dksX0_oneOf_4 16 rfl rfl)
theorem dX0_oneOf_111 : decode cX0_oneOf 111 = .ok (.invokevirtual 219, 3) := dk_182 0 219 (dk_at dksX0_oneOf_4 17 rfl rfl)
theorem dX0_oneOf_114 : decode cX0_oneOf 114 = .ok (.aload_n 0, 1) := dk_42 (dk_at dksX0_oneOf_4 20 rfl rfl)
theorem dX0_oneOf_115 : decode cX0_oneOf 115 = .ok (.getfield 175, 3) := dk_180 0 175 (dk_at dksX0_oneOf_4 21 rfl rfl)
theorem dX0_oneOf_118 : decode cX0_oneOf 118 = .ok (.i2c, 1) := dk_146 (dk_at dksX0_oneOf_5 0 rfl rfl)
theorem dX0_oneOf_119 : decode cX0_oneOf 119 = .ok (.istore_n 2, 1) := dk_61 (dk_at dksX0_oneOf_5 1 rfl rfl)
theorem dX0_oneOf_120 : decode cX0_oneOf 120 = .ok (.aload_n 0, 1) := dk_42 (dk_at dksX0_oneOf_5 2 rfl rfl)
theorem dX0_oneOf_121 : decode cX0_oneOf 121 = .ok (.invokevirtual 223, 3) := dk_182 0 223 (dk_at dksX0_oneOf_5 3 rfl rfl)
theorem dX0_oneOf_124 : decode cX0_oneOf 124 = .ok (.new 237, 3) := dk_187 0 237 (dk_at dksX0_oneOf_5 6 rfl rfl)
theorem dX0_oneOf_127 : decode cX0_oneOf 127 = .ok (.dup, 1) := dk_89 (dk_at dksX0_oneOf_5 9 rfl rfl)
theorem dX0_oneOf_128 : decode cX0_oneOf 128 = .ok (.iload_n 2, 1) := dk_28 (dk_at dksX0_oneOf_5 10 rfl rfl)
theorem dX0_oneOf_129 : decode cX0_oneOf 129 = .ok (.aload_n 1, 1) := dk_43 (dk_at dksX0_oneOf_5 11 rfl rfl)
theorem dX0_oneOf_130 : decode cX0_oneOf 130 = .ok (.aload_n 0, 1) := dk_42 (dk_at dksX0_oneOf_5 12 rfl rfl)
theorem dX0_oneOf_131 : decode cX0_oneOf 131 = .ok (.invokevirtual 269, 3) := dk_182 1 13 (dk_at dksX0_oneOf_5 13 rfl rfl)
theorem dX0_oneOf_134 : decode cX0_oneOf 134 = .ok (.invokespecial 239, 3) := dk_183 0 239 (dk_at dksX0_oneOf_5 16 rfl rfl)
theorem dX0_oneOf_137 : decode cX0_oneOf 137 = .ok (.areturn, 1) := dk_176 (dk_at dksX0_oneOf_5 19 rfl rfl)
abbrev cX0_opens : ByteArray := prog_1_method_19_code
def yX0_opens : MethodName := ⟨RX0, "opens", "()V"⟩
def dkwX0_opens_1 : List UInt8 := [180, 0, 245, 4, 96, 181, 0, 245, 42, 182, 0, 223, 177]
abbrev dktX0_opens_1 : List UInt8 := dkwX0_opens_1 ++ []
def dkwX0_opens_0 : List UInt8 := [42, 180, 0, 245, 16, 8, 160, 0, 16, 187, 0, 210, 89, 6, 42, 180, 0, 148, 183, 0, 212, 191, 42, 89]
abbrev dktX0_opens_0 : List UInt8 := dkwX0_opens_0 ++ dktX0_opens_1
theorem dksX0_opens_0 : cX0_opens.data.toList.drop 0 = dktX0_opens_0 := by decide +kernel
theorem dksX0_opens_1 : cX0_opens.data.toList.drop 24 = dktX0_opens_1 := dk_seg dksX0_opens_0 24 rfl rfl
theorem dX0_opens_0 : decode cX0_opens 0 = .ok (.aload_n 0, 1) := dk_42 (dk_at dksX0_opens_0 0 rfl rfl)
theorem dX0_opens_1 : decode cX0_opens 1 = .ok (.getfield 245, 3) := dk_180 0 245 (dk_at dksX0_opens_0 1 rfl rfl)
theorem dX0_opens_4 : decode cX0_opens 4 = .ok (.bipush 8, 2) := dk_16 8 (dk_at dksX0_opens_0 4 rfl rfl)
theorem dX0_opens_6 : decode cX0_opens 6 = .ok (.if_icmp .ne 16, 3) := dk_160 0 16 (dk_at dksX0_opens_0 6 rfl rfl)
theorem dX0_opens_9 : decode cX0_opens 9 = .ok (.new 210, 3) := dk_187 0 210 (dk_at dksX0_opens_0 9 rfl rfl)
theorem dX0_opens_12 : decode cX0_opens 12 = .ok (.dup, 1) := dk_89 (dk_at dksX0_opens_0 12 rfl rfl)
theorem dX0_opens_13 : decode cX0_opens 13 = .ok (.iconst 3, 1) := dk_6 (dk_at dksX0_opens_0 13 rfl rfl)
theorem dX0_opens_14 : decode cX0_opens 14 = .ok (.aload_n 0, 1) := dk_42 (dk_at dksX0_opens_0 14 rfl rfl)
theorem dX0_opens_15 : decode cX0_opens 15 = .ok (.getfield 148, 3) := dk_180 0 148 (dk_at dksX0_opens_0 15 rfl rfl)
theorem dX0_opens_18 : decode cX0_opens 18 = .ok (.invokespecial 212, 3) := dk_183 0 212 (dk_at dksX0_opens_0 18 rfl rfl)
theorem dX0_opens_21 : decode cX0_opens 21 = .ok (.athrow, 1) := dk_191 (dk_at dksX0_opens_0 21 rfl rfl)
theorem dX0_opens_22 : decode cX0_opens 22 = .ok (.aload_n 0, 1) := dk_42 (dk_at dksX0_opens_0 22 rfl rfl)
theorem dX0_opens_23 : decode cX0_opens 23 = .ok (.dup, 1) := dk_89 (dk_at dksX0_opens_0 23 rfl rfl)
theorem dX0_opens_24 : decode cX0_opens 24 = .ok (.getfield 245, 3) := dk_180 0 245 (dk_at dksX0_opens_1 0 rfl rfl)
theorem dX0_opens_27 : decode cX0_opens 27 = .ok (.iconst 1, 1) := dk_4 (dk_at dksX0_opens_1 3 rfl rfl)
theorem dX0_opens_28 : decode cX0_opens 28 = .ok (.iadd, 1) := dk_96 (dk_at dksX0_opens_1 4 rfl rfl)
theorem dX0_opens_29 : decode cX0_opens 29 = .ok (.putfield 245, 3) := dk_181 0 245 (dk_at dksX0_opens_1 5 rfl rfl)
theorem dX0_opens_32 : decode cX0_opens 32 = .ok (.aload_n 0, 1) := dk_42 (dk_at dksX0_opens_1 8 rfl rfl)
theorem dX0_opens_33 : decode cX0_opens 33 = .ok (.invokevirtual 223, 3) := dk_182 0 223 (dk_at dksX0_opens_1 9 rfl rfl)
theorem dX0_opens_36 : decode cX0_opens 36 = .ok (.return_, 1) := dk_177 (dk_at dksX0_opens_1 12 rfl rfl)
abbrev cX0_takesSign : ByteArray := prog_1_method_15_code
def yX0_takesSign : MethodName := ⟨RX0, "takesSign", "(C)V"⟩
def dkwX0_takesSign_0 : List UInt8 := [42, 42, 27, 182, 0, 215, 182, 0, 219, 42, 182, 0, 223, 177]
abbrev dktX0_takesSign_0 : List UInt8 := dkwX0_takesSign_0 ++ []
theorem dksX0_takesSign_0 : cX0_takesSign.data.toList.drop 0 = dktX0_takesSign_0 := by decide +kernel
theorem dX0_takesSign_0 : decode cX0_takesSign 0 = .ok (.aload_n 0, 1) := dk_42 (dk_at dksX0_takesSign_0 0 rfl rfl)
theorem dX0_takesSign_1 : decode cX0_takesSign 1 = .ok (.aload_n 0, 1) := dk_42 (dk_at dksX0_takesSign_0 1 rfl rfl)
theorem dX0_takesSign_2 : decode cX0_takesSign 2 = .ok (.iload_n 1, 1) := dk_27 (dk_at dksX0_takesSign_0 2 rfl rfl)
theorem dX0_takesSign_3 : decode cX0_takesSign 3 = .ok (.invokevirtual 215, 3) := dk_182 0 215 (dk_at dksX0_takesSign_0 3 rfl rfl)
theorem dX0_takesSign_6 : decode cX0_takesSign 6 = .ok (.invokevirtual 219, 3) := dk_182 0 219 (dk_at dksX0_takesSign_0 6 rfl rfl)
theorem dX0_takesSign_9 : decode cX0_takesSign 9 = .ok (.aload_n 0, 1) := dk_42 (dk_at dksX0_takesSign_0 9 rfl rfl)
theorem dX0_takesSign_10 : decode cX0_takesSign 10 = .ok (.invokevirtual 223, 3) := dk_182 0 223 (dk_at dksX0_takesSign_0 10 rfl rfl)
theorem dX0_takesSign_13 : decode cX0_takesSign 13 = .ok (.return_, 1) := dk_177 (dk_at dksX0_takesSign_0 13 rfl rfl)
abbrev cX0_readsTower : ByteArray := prog_1_method_26_code
def yX0_readsTower : MethodName := ⟨RX0, "readsTower", "()LFourCars$Plan;"⟩
def dkwX0_readsTower_8 : List UInt8 := [181, 1, 52, 167, 255, 83, 43, 176]
abbrev dktX0_readsTower_8 : List UInt8 := dkwX0_readsTower_8 ++ []
def dkwX0_readsTower_7 : List UInt8 := [180, 1, 50, 4, 100, 182, 1, 37, 4, 84, 42, 16, 59, 182, 1, 9, 43, 89, 180, 1, 52, 4, 96]
abbrev dktX0_readsTower_7 : List UInt8 := dkwX0_readsTower_7 ++ dktX0_readsTower_8
def dkwX0_readsTower_6 : List UInt8 := [160, 0, 34, 42, 3, 43, 180, 1, 34, 4, 100, 182, 1, 37, 62, 43, 180, 1, 59, 29, 50, 42, 3, 43]
abbrev dktX0_readsTower_6 : List UInt8 := dkwX0_readsTower_6 ++ dktX0_readsTower_7
def dkwX0_readsTower_5 : List UInt8 := [43, 42, 5, 16, 80, 182, 1, 37, 181, 1, 50, 28, 4, 160, 0, 8, 42, 43, 182, 1, 55, 28, 5]
abbrev dktX0_readsTower_5 : List UInt8 := dkwX0_readsTower_5 ++ dktX0_readsTower_6
def dkwX0_readsTower_4 : List UInt8 := [160, 0, 16, 187, 0, 210, 89, 6, 42, 180, 0, 148, 183, 0, 212, 191, 42, 182, 0, 223, 28, 154, 0, 14]
abbrev dktX0_readsTower_4 : List UInt8 := dkwX0_readsTower_4 ++ dktX0_readsTower_5
def dkwX0_readsTower_3 : List UInt8 := [182, 0, 219, 43, 180, 1, 52, 16, 40, 159, 0, 16, 28, 4, 160, 0, 24, 43, 180, 1, 34, 7]
abbrev dktX0_readsTower_3 : List UInt8 := dkwX0_readsTower_3 ++ dktX0_readsTower_4
def dkwX0_readsTower_2 : List UInt8 := [167, 0, 4, 3, 43, 180, 1, 50, 154, 0, 7, 4, 167, 0, 4, 3, 160, 0, 7, 4, 167, 0, 4, 3]
abbrev dktX0_readsTower_2 : List UInt8 := dkwX0_readsTower_2 ++ dktX0_readsTower_3
def dkwX0_readsTower_1 : List UInt8 := [165, 0, 169, 42, 42, 180, 0, 29, 182, 0, 188, 61, 42, 28, 2, 159, 0, 31, 28, 154, 0, 7, 4]
abbrev dktX0_readsTower_1 : List UInt8 := dkwX0_readsTower_1 ++ dktX0_readsTower_2
def dkwX0_readsTower_0 : List UInt8 := [187, 0, 75, 89, 183, 0, 77, 76, 42, 3, 181, 0, 145, 42, 182, 0, 223, 42, 180, 0, 159, 178, 0, 178]
abbrev dktX0_readsTower_0 : List UInt8 := dkwX0_readsTower_0 ++ dktX0_readsTower_1
theorem dksX0_readsTower_0 : cX0_readsTower.data.toList.drop 0 = dktX0_readsTower_0 := by decide +kernel
theorem dksX0_readsTower_1 : cX0_readsTower.data.toList.drop 24 = dktX0_readsTower_1 := dk_seg dksX0_readsTower_0 24 rfl rfl
theorem dksX0_readsTower_2 : cX0_readsTower.data.toList.drop 47 = dktX0_readsTower_2 := dk_seg dksX0_readsTower_1 23 rfl rfl
theorem dksX0_readsTower_3 : cX0_readsTower.data.toList.drop 71 = dktX0_readsTower_3 := dk_seg dksX0_readsTower_2 24 rfl rfl
theorem dksX0_readsTower_4 : cX0_readsTower.data.toList.drop 93 = dktX0_readsTower_4 := dk_seg dksX0_readsTower_3 22 rfl rfl
theorem dksX0_readsTower_5 : cX0_readsTower.data.toList.drop 117 = dktX0_readsTower_5 := dk_seg dksX0_readsTower_4 24 rfl rfl
theorem dksX0_readsTower_6 : cX0_readsTower.data.toList.drop 140 = dktX0_readsTower_6 := dk_seg dksX0_readsTower_5 23 rfl rfl
theorem dksX0_readsTower_7 : cX0_readsTower.data.toList.drop 164 = dktX0_readsTower_7 := dk_seg dksX0_readsTower_6 24 rfl rfl
theorem dksX0_readsTower_8 : cX0_readsTower.data.toList.drop 187 = dktX0_readsTower_8 := dk_seg dksX0_readsTower_7 23 rfl rfl
theorem dX0_readsTower_0 : decode cX0_readsTower 0 = .ok (.new 75, 3) := dk_187 0 75 (dk_at dksX0_readsTower_0 0 rfl rfl)
theorem dX0_readsTower_3 : decode cX0_readsTower 3 = .ok (.dup, 1) := dk_89 (dk_at dksX0_readsTower_0 3 rfl rfl)
theorem dX0_readsTower_4 : decode cX0_readsTower 4 = .ok (.invokespecial 77, 3) := dk_183 0 77 (dk_at dksX0_readsTower_0 4 rfl rfl)
theorem dX0_readsTower_7 : decode cX0_readsTower 7 = .ok (.astore_n 1, 1) := dk_76 (dk_at dksX0_readsTower_0 7 rfl rfl)
theorem dX0_readsTower_8 : decode cX0_readsTower 8 = .ok (.aload_n 0, 1) := dk_42 (dk_at dksX0_readsTower_0 8 rfl rfl)
theorem dX0_readsTower_9 : decode cX0_readsTower 9 = .ok (.iconst 0, 1) := dk_3 (dk_at dksX0_readsTower_0 9 rfl rfl)
theorem dX0_readsTower_10 : decode cX0_readsTower 10 = .ok (.putfield 145, 3) := dk_181 0 145 (dk_at dksX0_readsTower_0 10 rfl rfl)
theorem dX0_readsTower_13 : decode cX0_readsTower 13 = .ok (.aload_n 0, 1) := dk_42 (dk_at dksX0_readsTower_0 13 rfl rfl)
theorem dX0_readsTower_14 : decode cX0_readsTower 14 = .ok (.invokevirtual 223, 3) := dk_182 0 223 (dk_at dksX0_readsTower_0 14 rfl rfl)
theorem dX0_readsTower_17 : decode cX0_readsTower 17 = .ok (.aload_n 0, 1) := dk_42 (dk_at dksX0_readsTower_0 17 rfl rfl)
theorem dX0_readsTower_18 : decode cX0_readsTower 18 = .ok (.getfield 159, 3) := dk_180 0 159 (dk_at dksX0_readsTower_0 18 rfl rfl)
theorem dX0_readsTower_21 : decode cX0_readsTower 21 = .ok (.getstatic 178, 3) := dk_178 0 178 (dk_at dksX0_readsTower_0 21 rfl rfl)
theorem dX0_readsTower_24 : decode cX0_readsTower 24 = .ok (.if_acmp .eq 169, 3) := dk_165 0 169 (dk_at dksX0_readsTower_1 0 rfl rfl)
theorem dX0_readsTower_27 : decode cX0_readsTower 27 = .ok (.aload_n 0, 1) := dk_42 (dk_at dksX0_readsTower_1 3 rfl rfl)
theorem dX0_readsTower_28 : decode cX0_readsTower 28 = .ok (.aload_n 0, 1) := dk_42 (dk_at dksX0_readsTower_1 4 rfl rfl)
theorem dX0_readsTower_29 : decode cX0_readsTower 29 = .ok (.getfield 29, 3) := dk_180 0 29 (dk_at dksX0_readsTower_1 5 rfl rfl)
theorem dX0_readsTower_32 : decode cX0_readsTower 32 = .ok (.invokevirtual 188, 3) := dk_182 0 188 (dk_at dksX0_readsTower_1 8 rfl rfl)
theorem dX0_readsTower_35 : decode cX0_readsTower 35 = .ok (.istore_n 2, 1) := dk_61 (dk_at dksX0_readsTower_1 11 rfl rfl)
theorem dX0_readsTower_36 : decode cX0_readsTower 36 = .ok (.aload_n 0, 1) := dk_42 (dk_at dksX0_readsTower_1 12 rfl rfl)
theorem dX0_readsTower_37 : decode cX0_readsTower 37 = .ok (.iload_n 2, 1) := dk_28 (dk_at dksX0_readsTower_1 13 rfl rfl)
theorem dX0_readsTower_38 : decode cX0_readsTower 38 = .ok (.iconst (-1), 1) := dk_2 (dk_at dksX0_readsTower_1 14 rfl rfl)
theorem dX0_readsTower_39 : decode cX0_readsTower 39 = .ok (.if_icmp .eq 31, 3) := dk_159 0 31 (dk_at dksX0_readsTower_1 15 rfl rfl)
theorem dX0_readsTower_42 : decode cX0_readsTower 42 = .ok (.iload_n 2, 1) := dk_28 (dk_at dksX0_readsTower_1 18 rfl rfl)
theorem dX0_readsTower_43 : decode cX0_readsTower 43 = .ok (.ifCond .ne 7, 3) := dk_154 0 7 (dk_at dksX0_readsTower_1 19 rfl rfl)
theorem dX0_readsTower_46 : decode cX0_readsTower 46 = .ok (.iconst 1, 1) := dk_4 (dk_at dksX0_readsTower_1 22 rfl rfl)
theorem dX0_readsTower_47 : decode cX0_readsTower 47 = .ok (.goto 4, 3) := dk_167 0 4 (dk_at dksX0_readsTower_2 0 rfl rfl)
theorem dX0_readsTower_50 : decode cX0_readsTower 50 = .ok (.iconst 0, 1) := dk_3 (dk_at dksX0_readsTower_2 3 rfl rfl)
theorem dX0_readsTower_51 : decode cX0_readsTower 51 = .ok (.aload_n 1, 1) := dk_43 (dk_at dksX0_readsTower_2 4 rfl rfl)
theorem dX0_readsTower_52 : decode cX0_readsTower 52 = .ok (.getfield 306, 3) := dk_180 1 50 (dk_at dksX0_readsTower_2 5 rfl rfl)
theorem dX0_readsTower_55 : decode cX0_readsTower 55 = .ok (.ifCond .ne 7, 3) := dk_154 0 7 (dk_at dksX0_readsTower_2 8 rfl rfl)
theorem dX0_readsTower_58 : decode cX0_readsTower 58 = .ok (.iconst 1, 1) := dk_4 (dk_at dksX0_readsTower_2 11 rfl rfl)
theorem dX0_readsTower_59 : decode cX0_readsTower 59 = .ok (.goto 4, 3) := dk_167 0 4 (dk_at dksX0_readsTower_2 12 rfl rfl)
theorem dX0_readsTower_62 : decode cX0_readsTower 62 = .ok (.iconst 0, 1) := dk_3 (dk_at dksX0_readsTower_2 15 rfl rfl)
theorem dX0_readsTower_63 : decode cX0_readsTower 63 = .ok (.if_icmp .ne 7, 3) := dk_160 0 7 (dk_at dksX0_readsTower_2 16 rfl rfl)
theorem dX0_readsTower_66 : decode cX0_readsTower 66 = .ok (.iconst 1, 1) := dk_4 (dk_at dksX0_readsTower_2 19 rfl rfl)
theorem dX0_readsTower_67 : decode cX0_readsTower 67 = .ok (.goto 4, 3) := dk_167 0 4 (dk_at dksX0_readsTower_2 20 rfl rfl)
theorem dX0_readsTower_70 : decode cX0_readsTower 70 = .ok (.iconst 0, 1) := dk_3 (dk_at dksX0_readsTower_2 23 rfl rfl)
theorem dX0_readsTower_71 : decode cX0_readsTower 71 = .ok (.invokevirtual 219, 3) := dk_182 0 219 (dk_at dksX0_readsTower_3 0 rfl rfl)
theorem dX0_readsTower_74 : decode cX0_readsTower 74 = .ok (.aload_n 1, 1) := dk_43 (dk_at dksX0_readsTower_3 3 rfl rfl)
theorem dX0_readsTower_75 : decode cX0_readsTower 75 = .ok (.getfield 308, 3) := dk_180 1 52 (dk_at dksX0_readsTower_3 4 rfl rfl)
theorem dX0_readsTower_78 : decode cX0_readsTower 78 = .ok (.bipush 40, 2) := dk_16 40 (dk_at dksX0_readsTower_3 7 rfl rfl)
theorem dX0_readsTower_80 : decode cX0_readsTower 80 = .ok (.if_icmp .eq 16, 3) := dk_159 0 16 (dk_at dksX0_readsTower_3 9 rfl rfl)
theorem dX0_readsTower_83 : decode cX0_readsTower 83 = .ok (.iload_n 2, 1) := dk_28 (dk_at dksX0_readsTower_3 12 rfl rfl)
theorem dX0_readsTower_84 : decode cX0_readsTower 84 = .ok (.iconst 1, 1) := dk_4 (dk_at dksX0_readsTower_3 13 rfl rfl)
theorem dX0_readsTower_85 : decode cX0_readsTower 85 = .ok (.if_icmp .ne 24, 3) := dk_160 0 24 (dk_at dksX0_readsTower_3 14 rfl rfl)
theorem dX0_readsTower_88 : decode cX0_readsTower 88 = .ok (.aload_n 1, 1) := dk_43 (dk_at dksX0_readsTower_3 17 rfl rfl)
theorem dX0_readsTower_89 : decode cX0_readsTower 89 = .ok (.getfield 290, 3) := dk_180 1 34 (dk_at dksX0_readsTower_3 18 rfl rfl)
theorem dX0_readsTower_92 : decode cX0_readsTower 92 = .ok (.iconst 4, 1) := dk_7 (dk_at dksX0_readsTower_3 21 rfl rfl)
theorem dX0_readsTower_93 : decode cX0_readsTower 93 = .ok (.if_icmp .ne 16, 3) := dk_160 0 16 (dk_at dksX0_readsTower_4 0 rfl rfl)
theorem dX0_readsTower_96 : decode cX0_readsTower 96 = .ok (.new 210, 3) := dk_187 0 210 (dk_at dksX0_readsTower_4 3 rfl rfl)
theorem dX0_readsTower_99 : decode cX0_readsTower 99 = .ok (.dup, 1) := dk_89 (dk_at dksX0_readsTower_4 6 rfl rfl)
theorem dX0_readsTower_100 : decode cX0_readsTower 100 = .ok (.iconst 3, 1) := dk_6 (dk_at dksX0_readsTower_4 7 rfl rfl)
theorem dX0_readsTower_101 : decode cX0_readsTower 101 = .ok (.aload_n 0, 1) := dk_42 (dk_at dksX0_readsTower_4 8 rfl rfl)
theorem dX0_readsTower_102 : decode cX0_readsTower 102 = .ok (.getfield 148, 3) := dk_180 0 148 (dk_at dksX0_readsTower_4 9 rfl rfl)
theorem dX0_readsTower_105 : decode cX0_readsTower 105 = .ok (.invokespecial 212, 3) := dk_183 0 212 (dk_at dksX0_readsTower_4 12 rfl rfl)
theorem dX0_readsTower_108 : decode cX0_readsTower 108 = .ok (.athrow, 1) := dk_191 (dk_at dksX0_readsTower_4 15 rfl rfl)
theorem dX0_readsTower_109 : decode cX0_readsTower 109 = .ok (.aload_n 0, 1) := dk_42 (dk_at dksX0_readsTower_4 16 rfl rfl)
theorem dX0_readsTower_110 : decode cX0_readsTower 110 = .ok (.invokevirtual 223, 3) := dk_182 0 223 (dk_at dksX0_readsTower_4 17 rfl rfl)
theorem dX0_readsTower_113 : decode cX0_readsTower 113 = .ok (.iload_n 2, 1) := dk_28 (dk_at dksX0_readsTower_4 20 rfl rfl)
theorem dX0_readsTower_114 : decode cX0_readsTower 114 = .ok (.ifCond .ne 14, 3) := dk_154 0 14 (dk_at dksX0_readsTower_4 21 rfl rfl)
theorem dX0_readsTower_117 : decode cX0_readsTower 117 = .ok (.aload_n 1, 1) := dk_43 (dk_at dksX0_readsTower_5 0 rfl rfl)
theorem dX0_readsTower_118 : decode cX0_readsTower 118 = .ok (.aload_n 0, 1) := dk_42 (dk_at dksX0_readsTower_5 1 rfl rfl)
theorem dX0_readsTower_119 : decode cX0_readsTower 119 = .ok (.iconst 2, 1) := dk_5 (dk_at dksX0_readsTower_5 2 rfl rfl)
theorem dX0_readsTower_120 : decode cX0_readsTower 120 = .ok (.bipush 80, 2) := dk_16 80 (dk_at dksX0_readsTower_5 3 rfl rfl)
theorem dX0_readsTower_122 : decode cX0_readsTower 122 = .ok (.invokevirtual 293, 3) := dk_182 1 37 (dk_at dksX0_readsTower_5 5 rfl rfl)
theorem dX0_readsTower_125 : decode cX0_readsTower 125 = .ok (.putfield 306, 3) := dk_181 1 50 (dk_at dksX0_readsTower_5 8 rfl rfl)
theorem dX0_readsTower_128 : decode cX0_readsTower 128 = .ok (.iload_n 2, 1) := dk_28 (dk_at dksX0_readsTower_5 11 rfl rfl)
theorem dX0_readsTower_129 : decode cX0_readsTower 129 = .ok (.iconst 1, 1) := dk_4 (dk_at dksX0_readsTower_5 12 rfl rfl)
theorem dX0_readsTower_130 : decode cX0_readsTower 130 = .ok (.if_icmp .ne 8, 3) := dk_160 0 8 (dk_at dksX0_readsTower_5 13 rfl rfl)
theorem dX0_readsTower_133 : decode cX0_readsTower 133 = .ok (.aload_n 0, 1) := dk_42 (dk_at dksX0_readsTower_5 16 rfl rfl)
theorem dX0_readsTower_134 : decode cX0_readsTower 134 = .ok (.aload_n 1, 1) := dk_43 (dk_at dksX0_readsTower_5 17 rfl rfl)
theorem dX0_readsTower_135 : decode cX0_readsTower 135 = .ok (.invokevirtual 311, 3) := dk_182 1 55 (dk_at dksX0_readsTower_5 18 rfl rfl)
theorem dX0_readsTower_138 : decode cX0_readsTower 138 = .ok (.iload_n 2, 1) := dk_28 (dk_at dksX0_readsTower_5 21 rfl rfl)
theorem dX0_readsTower_139 : decode cX0_readsTower 139 = .ok (.iconst 2, 1) := dk_5 (dk_at dksX0_readsTower_5 22 rfl rfl)
theorem dX0_readsTower_140 : decode cX0_readsTower 140 = .ok (.if_icmp .ne 34, 3) := dk_160 0 34 (dk_at dksX0_readsTower_6 0 rfl rfl)
theorem dX0_readsTower_143 : decode cX0_readsTower 143 = .ok (.aload_n 0, 1) := dk_42 (dk_at dksX0_readsTower_6 3 rfl rfl)
theorem dX0_readsTower_144 : decode cX0_readsTower 144 = .ok (.iconst 0, 1) := dk_3 (dk_at dksX0_readsTower_6 4 rfl rfl)
theorem dX0_readsTower_145 : decode cX0_readsTower 145 = .ok (.aload_n 1, 1) := dk_43 (dk_at dksX0_readsTower_6 5 rfl rfl)
theorem dX0_readsTower_146 : decode cX0_readsTower 146 = .ok (.getfield 290, 3) := dk_180 1 34 (dk_at dksX0_readsTower_6 6 rfl rfl)
theorem dX0_readsTower_149 : decode cX0_readsTower 149 = .ok (.iconst 1, 1) := dk_4 (dk_at dksX0_readsTower_6 9 rfl rfl)
theorem dX0_readsTower_150 : decode cX0_readsTower 150 = .ok (.isub, 1) := dk_100 (dk_at dksX0_readsTower_6 10 rfl rfl)
theorem dX0_readsTower_151 : decode cX0_readsTower 151 = .ok (.invokevirtual 293, 3) := dk_182 1 37 (dk_at dksX0_readsTower_6 11 rfl rfl)
theorem dX0_readsTower_154 : decode cX0_readsTower 154 = .ok (.istore_n 3, 1) := dk_62 (dk_at dksX0_readsTower_6 14 rfl rfl)
theorem dX0_readsTower_155 : decode cX0_readsTower 155 = .ok (.aload_n 1, 1) := dk_43 (dk_at dksX0_readsTower_6 15 rfl rfl)
theorem dX0_readsTower_156 : decode cX0_readsTower 156 = .ok (.getfield 315, 3) := dk_180 1 59 (dk_at dksX0_readsTower_6 16 rfl rfl)
theorem dX0_readsTower_159 : decode cX0_readsTower 159 = .ok (.iload_n 3, 1) := dk_29 (dk_at dksX0_readsTower_6 19 rfl rfl)
theorem dX0_readsTower_160 : decode cX0_readsTower 160 = .ok (.aaload, 1) := dk_50 (dk_at dksX0_readsTower_6 20 rfl rfl)
theorem dX0_readsTower_161 : decode cX0_readsTower 161 = .ok (.aload_n 0, 1) := dk_42 (dk_at dksX0_readsTower_6 21 rfl rfl)
theorem dX0_readsTower_162 : decode cX0_readsTower 162 = .ok (.iconst 0, 1) := dk_3 (dk_at dksX0_readsTower_6 22 rfl rfl)
theorem dX0_readsTower_163 : decode cX0_readsTower 163 = .ok (.aload_n 1, 1) := dk_43 (dk_at dksX0_readsTower_6 23 rfl rfl)
theorem dX0_readsTower_164 : decode cX0_readsTower 164 = .ok (.getfield 306, 3) := dk_180 1 50 (dk_at dksX0_readsTower_7 0 rfl rfl)
theorem dX0_readsTower_167 : decode cX0_readsTower 167 = .ok (.iconst 1, 1) := dk_4 (dk_at dksX0_readsTower_7 3 rfl rfl)
theorem dX0_readsTower_168 : decode cX0_readsTower 168 = .ok (.isub, 1) := dk_100 (dk_at dksX0_readsTower_7 4 rfl rfl)
theorem dX0_readsTower_169 : decode cX0_readsTower 169 = .ok (.invokevirtual 293, 3) := dk_182 1 37 (dk_at dksX0_readsTower_7 5 rfl rfl)
theorem dX0_readsTower_172 : decode cX0_readsTower 172 = .ok (.iconst 1, 1) := dk_4 (dk_at dksX0_readsTower_7 8 rfl rfl)
theorem dX0_readsTower_173 : decode cX0_readsTower 173 = .ok (.bastore, 1) := dk_84 (dk_at dksX0_readsTower_7 9 rfl rfl)
theorem dX0_readsTower_174 : decode cX0_readsTower 174 = .ok (.aload_n 0, 1) := dk_42 (dk_at dksX0_readsTower_7 10 rfl rfl)
theorem dX0_readsTower_175 : decode cX0_readsTower 175 = .ok (.bipush 59, 2) := dk_16 59 (dk_at dksX0_readsTower_7 11 rfl rfl)
theorem dX0_readsTower_177 : decode cX0_readsTower 177 = .ok (.invokevirtual 265, 3) := dk_182 1 9 (dk_at dksX0_readsTower_7 13 rfl rfl)
theorem dX0_readsTower_180 : decode cX0_readsTower 180 = .ok (.aload_n 1, 1) := dk_43 (dk_at dksX0_readsTower_7 16 rfl rfl)
theorem dX0_readsTower_181 : decode cX0_readsTower 181 = .ok (.dup, 1) := dk_89 (dk_at dksX0_readsTower_7 17 rfl rfl)
theorem dX0_readsTower_182 : decode cX0_readsTower 182 = .ok (.getfield 308, 3) := dk_180 1 52 (dk_at dksX0_readsTower_7 18 rfl rfl)
theorem dX0_readsTower_185 : decode cX0_readsTower 185 = .ok (.iconst 1, 1) := dk_4 (dk_at dksX0_readsTower_7 21 rfl rfl)
theorem dX0_readsTower_186 : decode cX0_readsTower 186 = .ok (.iadd, 1) := dk_96 (dk_at dksX0_readsTower_7 22 rfl rfl)
theorem dX0_readsTower_187 : decode cX0_readsTower 187 = .ok (.putfield 308, 3) := dk_181 1 52 (dk_at dksX0_readsTower_8 0 rfl rfl)
theorem dX0_readsTower_190 : decode cX0_readsTower 190 = .ok (.goto (-173), 3) := dk_167 255 83 (dk_at dksX0_readsTower_8 3 rfl rfl)
theorem dX0_readsTower_193 : decode cX0_readsTower 193 = .ok (.aload_n 1, 1) := dk_43 (dk_at dksX0_readsTower_8 6 rfl rfl)
theorem dX0_readsTower_194 : decode cX0_readsTower 194 = .ok (.areturn, 1) := dk_176 (dk_at dksX0_readsTower_8 7 rfl rfl)
abbrev cX0_number : ByteArray := prog_1_method_24_code
def yX0_number : MethodName := ⟨RX0, "number", "(II)I"⟩
def dkwX0_number_2 : List UInt8 := [62, 42, 182, 0, 223, 29, 172]
abbrev dktX0_number_2 : List UInt8 := dkwX0_number_2 ++ []
def dkwX0_number_1 : List UInt8 := [28, 184, 0, 137, 154, 0, 16, 187, 0, 210, 89, 5, 42, 180, 0, 148, 183, 0, 212, 191, 42, 180, 0, 175]
abbrev dktX0_number_1 : List UInt8 := dkwX0_number_1 ++ dktX0_number_2
def dkwX0_number_0 : List UInt8 := [42, 42, 180, 0, 159, 178, 0, 202, 166, 0, 7, 4, 167, 0, 4, 3, 182, 0, 219, 42, 180, 0, 175, 27]
abbrev dktX0_number_0 : List UInt8 := dkwX0_number_0 ++ dktX0_number_1
theorem dksX0_number_0 : cX0_number.data.toList.drop 0 = dktX0_number_0 := by decide +kernel
theorem dksX0_number_1 : cX0_number.data.toList.drop 24 = dktX0_number_1 := dk_seg dksX0_number_0 24 rfl rfl
theorem dksX0_number_2 : cX0_number.data.toList.drop 48 = dktX0_number_2 := dk_seg dksX0_number_1 24 rfl rfl
theorem dX0_number_0 : decode cX0_number 0 = .ok (.aload_n 0, 1) := dk_42 (dk_at dksX0_number_0 0 rfl rfl)
theorem dX0_number_1 : decode cX0_number 1 = .ok (.aload_n 0, 1) := dk_42 (dk_at dksX0_number_0 1 rfl rfl)
theorem dX0_number_2 : decode cX0_number 2 = .ok (.getfield 159, 3) := dk_180 0 159 (dk_at dksX0_number_0 2 rfl rfl)
theorem dX0_number_5 : decode cX0_number 5 = .ok (.getstatic 202, 3) := dk_178 0 202 (dk_at dksX0_number_0 5 rfl rfl)
theorem dX0_number_8 : decode cX0_number 8 = .ok (.if_acmp .ne 7, 3) := dk_166 0 7 (dk_at dksX0_number_0 8 rfl rfl)
theorem dX0_number_11 : decode cX0_number 11 = .ok (.iconst 1, 1) := dk_4 (dk_at dksX0_number_0 11 rfl rfl)
theorem dX0_number_12 : decode cX0_number 12 = .ok (.goto 4, 3) := dk_167 0 4 (dk_at dksX0_number_0 12 rfl rfl)
theorem dX0_number_15 : decode cX0_number 15 = .ok (.iconst 0, 1) := dk_3 (dk_at dksX0_number_0 15 rfl rfl)
theorem dX0_number_16 : decode cX0_number 16 = .ok (.invokevirtual 219, 3) := dk_182 0 219 (dk_at dksX0_number_0 16 rfl rfl)
theorem dX0_number_19 : decode cX0_number 19 = .ok (.aload_n 0, 1) := dk_42 (dk_at dksX0_number_0 19 rfl rfl)
theorem dX0_number_20 : decode cX0_number 20 = .ok (.getfield 175, 3) := dk_180 0 175 (dk_at dksX0_number_0 20 rfl rfl)
theorem dX0_number_23 : decode cX0_number 23 = .ok (.iload_n 1, 1) := dk_27 (dk_at dksX0_number_0 23 rfl rfl)
theorem dX0_number_24 : decode cX0_number 24 = .ok (.iload_n 2, 1) := dk_28 (dk_at dksX0_number_1 0 rfl rfl)
theorem dX0_number_25 : decode cX0_number 25 = .ok (.invokestatic 137, 3) := dk_184 0 137 (dk_at dksX0_number_1 1 rfl rfl)
theorem dX0_number_28 : decode cX0_number 28 = .ok (.ifCond .ne 16, 3) := dk_154 0 16 (dk_at dksX0_number_1 4 rfl rfl)
theorem dX0_number_31 : decode cX0_number 31 = .ok (.new 210, 3) := dk_187 0 210 (dk_at dksX0_number_1 7 rfl rfl)
theorem dX0_number_34 : decode cX0_number 34 = .ok (.dup, 1) := dk_89 (dk_at dksX0_number_1 10 rfl rfl)
theorem dX0_number_35 : decode cX0_number 35 = .ok (.iconst 2, 1) := dk_5 (dk_at dksX0_number_1 11 rfl rfl)
theorem dX0_number_36 : decode cX0_number 36 = .ok (.aload_n 0, 1) := dk_42 (dk_at dksX0_number_1 12 rfl rfl)
theorem dX0_number_37 : decode cX0_number 37 = .ok (.getfield 148, 3) := dk_180 0 148 (dk_at dksX0_number_1 13 rfl rfl)
theorem dX0_number_40 : decode cX0_number 40 = .ok (.invokespecial 212, 3) := dk_183 0 212 (dk_at dksX0_number_1 16 rfl rfl)
theorem dX0_number_43 : decode cX0_number 43 = .ok (.athrow, 1) := dk_191 (dk_at dksX0_number_1 19 rfl rfl)
theorem dX0_number_44 : decode cX0_number 44 = .ok (.aload_n 0, 1) := dk_42 (dk_at dksX0_number_1 20 rfl rfl)
theorem dX0_number_45 : decode cX0_number 45 = .ok (.getfield 175, 3) := dk_180 0 175 (dk_at dksX0_number_1 21 rfl rfl)
theorem dX0_number_48 : decode cX0_number 48 = .ok (.istore_n 3, 1) := dk_62 (dk_at dksX0_number_2 0 rfl rfl)
theorem dX0_number_49 : decode cX0_number 49 = .ok (.aload_n 0, 1) := dk_42 (dk_at dksX0_number_2 1 rfl rfl)
theorem dX0_number_50 : decode cX0_number 50 = .ok (.invokevirtual 223, 3) := dk_182 0 223 (dk_at dksX0_number_2 2 rfl rfl)
theorem dX0_number_53 : decode cX0_number 53 = .ok (.iload_n 3, 1) := dk_29 (dk_at dksX0_number_2 5 rfl rfl)
theorem dX0_number_54 : decode cX0_number 54 = .ok (.ireturn, 1) := dk_172 (dk_at dksX0_number_2 6 rfl rfl)
abbrev cX0_readsCar : ByteArray := prog_1_method_25_code
def yX0_readsCar : MethodName := ⟨RX0, "readsCar", "(LFourCars$Plan;)V"⟩
def dkwX0_readsCar_3 : List UInt8 := [42, 3, 43, 180, 1, 50, 4, 100, 182, 1, 37, 79, 43, 89, 180, 1, 34, 4, 96, 181, 1, 34, 177]
abbrev dktX0_readsCar_3 : List UInt8 := dkwX0_readsCar_3 ++ []
def dkwX0_readsCar_2 : List UInt8 := [43, 180, 1, 46, 43, 180, 1, 34, 42, 3, 16, 9, 182, 1, 37, 79, 43, 180, 1, 48, 43, 180, 1, 34]
abbrev dktX0_readsCar_2 : List UInt8 := dkwX0_readsCar_2 ++ dktX0_readsCar_3
def dkwX0_readsCar_1 : List UInt8 := [42, 4, 16, 9, 182, 1, 37, 79, 43, 180, 1, 43, 43, 180, 1, 34, 42, 4, 16, 9, 182, 1, 37, 79]
abbrev dktX0_readsCar_1 : List UInt8 := dkwX0_readsCar_1 ++ dktX0_readsCar_2
def dkwX0_readsCar_0 : List UInt8 := [43, 180, 1, 31, 43, 180, 1, 34, 42, 4, 16, 12, 182, 1, 37, 79, 43, 180, 1, 40, 43, 180, 1, 34]
abbrev dktX0_readsCar_0 : List UInt8 := dkwX0_readsCar_0 ++ dktX0_readsCar_1
theorem dksX0_readsCar_0 : cX0_readsCar.data.toList.drop 0 = dktX0_readsCar_0 := by decide +kernel
theorem dksX0_readsCar_1 : cX0_readsCar.data.toList.drop 24 = dktX0_readsCar_1 := dk_seg dksX0_readsCar_0 24 rfl rfl
theorem dksX0_readsCar_2 : cX0_readsCar.data.toList.drop 48 = dktX0_readsCar_2 := dk_seg dksX0_readsCar_1 24 rfl rfl
theorem dksX0_readsCar_3 : cX0_readsCar.data.toList.drop 72 = dktX0_readsCar_3 := dk_seg dksX0_readsCar_2 24 rfl rfl
theorem dX0_readsCar_0 : decode cX0_readsCar 0 = .ok (.aload_n 1, 1) := dk_43 (dk_at dksX0_readsCar_0 0 rfl rfl)
theorem dX0_readsCar_1 : decode cX0_readsCar 1 = .ok (.getfield 287, 3) := dk_180 1 31 (dk_at dksX0_readsCar_0 1 rfl rfl)
theorem dX0_readsCar_4 : decode cX0_readsCar 4 = .ok (.aload_n 1, 1) := dk_43 (dk_at dksX0_readsCar_0 4 rfl rfl)
theorem dX0_readsCar_5 : decode cX0_readsCar 5 = .ok (.getfield 290, 3) := dk_180 1 34 (dk_at dksX0_readsCar_0 5 rfl rfl)
theorem dX0_readsCar_8 : decode cX0_readsCar 8 = .ok (.aload_n 0, 1) := dk_42 (dk_at dksX0_readsCar_0 8 rfl rfl)
theorem dX0_readsCar_9 : decode cX0_readsCar 9 = .ok (.iconst 1, 1) := dk_4 (dk_at dksX0_readsCar_0 9 rfl rfl)
theorem dX0_readsCar_10 : decode cX0_readsCar 10 = .ok (.bipush 12, 2) := dk_16 12 (dk_at dksX0_readsCar_0 10 rfl rfl)
theorem dX0_readsCar_12 : decode cX0_readsCar 12 = .ok (.invokevirtual 293, 3) := dk_182 1 37 (dk_at dksX0_readsCar_0 12 rfl rfl)
theorem dX0_readsCar_15 : decode cX0_readsCar 15 = .ok (.iastore, 1) := dk_79 (dk_at dksX0_readsCar_0 15 rfl rfl)
theorem dX0_readsCar_16 : decode cX0_readsCar 16 = .ok (.aload_n 1, 1) := dk_43 (dk_at dksX0_readsCar_0 16 rfl rfl)
theorem dX0_readsCar_17 : decode cX0_readsCar 17 = .ok (.getfield 296, 3) := dk_180 1 40 (dk_at dksX0_readsCar_0 17 rfl rfl)
theorem dX0_readsCar_20 : decode cX0_readsCar 20 = .ok (.aload_n 1, 1) := dk_43 (dk_at dksX0_readsCar_0 20 rfl rfl)
theorem dX0_readsCar_21 : decode cX0_readsCar 21 = .ok (.getfield 290, 3) := dk_180 1 34 (dk_at dksX0_readsCar_0 21 rfl rfl)
theorem dX0_readsCar_24 : decode cX0_readsCar 24 = .ok (.aload_n 0, 1) := dk_42 (dk_at dksX0_readsCar_1 0 rfl rfl)
theorem dX0_readsCar_25 : decode cX0_readsCar 25 = .ok (.iconst 1, 1) := dk_4 (dk_at dksX0_readsCar_1 1 rfl rfl)
theorem dX0_readsCar_26 : decode cX0_readsCar 26 = .ok (.bipush 9, 2) := dk_16 9 (dk_at dksX0_readsCar_1 2 rfl rfl)
theorem dX0_readsCar_28 : decode cX0_readsCar 28 = .ok (.invokevirtual 293, 3) := dk_182 1 37 (dk_at dksX0_readsCar_1 4 rfl rfl)
theorem dX0_readsCar_31 : decode cX0_readsCar 31 = .ok (.iastore, 1) := dk_79 (dk_at dksX0_readsCar_1 7 rfl rfl)
theorem dX0_readsCar_32 : decode cX0_readsCar 32 = .ok (.aload_n 1, 1) := dk_43 (dk_at dksX0_readsCar_1 8 rfl rfl)
theorem dX0_readsCar_33 : decode cX0_readsCar 33 = .ok (.getfield 299, 3) := dk_180 1 43 (dk_at dksX0_readsCar_1 9 rfl rfl)
theorem dX0_readsCar_36 : decode cX0_readsCar 36 = .ok (.aload_n 1, 1) := dk_43 (dk_at dksX0_readsCar_1 12 rfl rfl)
theorem dX0_readsCar_37 : decode cX0_readsCar 37 = .ok (.getfield 290, 3) := dk_180 1 34 (dk_at dksX0_readsCar_1 13 rfl rfl)
theorem dX0_readsCar_40 : decode cX0_readsCar 40 = .ok (.aload_n 0, 1) := dk_42 (dk_at dksX0_readsCar_1 16 rfl rfl)
theorem dX0_readsCar_41 : decode cX0_readsCar 41 = .ok (.iconst 1, 1) := dk_4 (dk_at dksX0_readsCar_1 17 rfl rfl)
theorem dX0_readsCar_42 : decode cX0_readsCar 42 = .ok (.bipush 9, 2) := dk_16 9 (dk_at dksX0_readsCar_1 18 rfl rfl)
theorem dX0_readsCar_44 : decode cX0_readsCar 44 = .ok (.invokevirtual 293, 3) := dk_182 1 37 (dk_at dksX0_readsCar_1 20 rfl rfl)
theorem dX0_readsCar_47 : decode cX0_readsCar 47 = .ok (.iastore, 1) := dk_79 (dk_at dksX0_readsCar_1 23 rfl rfl)
theorem dX0_readsCar_48 : decode cX0_readsCar 48 = .ok (.aload_n 1, 1) := dk_43 (dk_at dksX0_readsCar_2 0 rfl rfl)
theorem dX0_readsCar_49 : decode cX0_readsCar 49 = .ok (.getfield 302, 3) := dk_180 1 46 (dk_at dksX0_readsCar_2 1 rfl rfl)
theorem dX0_readsCar_52 : decode cX0_readsCar 52 = .ok (.aload_n 1, 1) := dk_43 (dk_at dksX0_readsCar_2 4 rfl rfl)
theorem dX0_readsCar_53 : decode cX0_readsCar 53 = .ok (.getfield 290, 3) := dk_180 1 34 (dk_at dksX0_readsCar_2 5 rfl rfl)
theorem dX0_readsCar_56 : decode cX0_readsCar 56 = .ok (.aload_n 0, 1) := dk_42 (dk_at dksX0_readsCar_2 8 rfl rfl)
theorem dX0_readsCar_57 : decode cX0_readsCar 57 = .ok (.iconst 0, 1) := dk_3 (dk_at dksX0_readsCar_2 9 rfl rfl)
theorem dX0_readsCar_58 : decode cX0_readsCar 58 = .ok (.bipush 9, 2) := dk_16 9 (dk_at dksX0_readsCar_2 10 rfl rfl)
theorem dX0_readsCar_60 : decode cX0_readsCar 60 = .ok (.invokevirtual 293, 3) := dk_182 1 37 (dk_at dksX0_readsCar_2 12 rfl rfl)
theorem dX0_readsCar_63 : decode cX0_readsCar 63 = .ok (.iastore, 1) := dk_79 (dk_at dksX0_readsCar_2 15 rfl rfl)
theorem dX0_readsCar_64 : decode cX0_readsCar 64 = .ok (.aload_n 1, 1) := dk_43 (dk_at dksX0_readsCar_2 16 rfl rfl)
theorem dX0_readsCar_65 : decode cX0_readsCar 65 = .ok (.getfield 304, 3) := dk_180 1 48 (dk_at dksX0_readsCar_2 17 rfl rfl)
theorem dX0_readsCar_68 : decode cX0_readsCar 68 = .ok (.aload_n 1, 1) := dk_43 (dk_at dksX0_readsCar_2 20 rfl rfl)
theorem dX0_readsCar_69 : decode cX0_readsCar 69 = .ok (.getfield 290, 3) := dk_180 1 34 (dk_at dksX0_readsCar_2 21 rfl rfl)
theorem dX0_readsCar_72 : decode cX0_readsCar 72 = .ok (.aload_n 0, 1) := dk_42 (dk_at dksX0_readsCar_3 0 rfl rfl)
theorem dX0_readsCar_73 : decode cX0_readsCar 73 = .ok (.iconst 0, 1) := dk_3 (dk_at dksX0_readsCar_3 1 rfl rfl)
theorem dX0_readsCar_74 : decode cX0_readsCar 74 = .ok (.aload_n 1, 1) := dk_43 (dk_at dksX0_readsCar_3 2 rfl rfl)
theorem dX0_readsCar_75 : decode cX0_readsCar 75 = .ok (.getfield 306, 3) := dk_180 1 50 (dk_at dksX0_readsCar_3 3 rfl rfl)
theorem dX0_readsCar_78 : decode cX0_readsCar 78 = .ok (.iconst 1, 1) := dk_4 (dk_at dksX0_readsCar_3 6 rfl rfl)
theorem dX0_readsCar_79 : decode cX0_readsCar 79 = .ok (.isub, 1) := dk_100 (dk_at dksX0_readsCar_3 7 rfl rfl)
theorem dX0_readsCar_80 : decode cX0_readsCar 80 = .ok (.invokevirtual 293, 3) := dk_182 1 37 (dk_at dksX0_readsCar_3 8 rfl rfl)
theorem dX0_readsCar_83 : decode cX0_readsCar 83 = .ok (.iastore, 1) := dk_79 (dk_at dksX0_readsCar_3 11 rfl rfl)
theorem dX0_readsCar_84 : decode cX0_readsCar 84 = .ok (.aload_n 1, 1) := dk_43 (dk_at dksX0_readsCar_3 12 rfl rfl)
theorem dX0_readsCar_85 : decode cX0_readsCar 85 = .ok (.dup, 1) := dk_89 (dk_at dksX0_readsCar_3 13 rfl rfl)
theorem dX0_readsCar_86 : decode cX0_readsCar 86 = .ok (.getfield 290, 3) := dk_180 1 34 (dk_at dksX0_readsCar_3 14 rfl rfl)
theorem dX0_readsCar_89 : decode cX0_readsCar 89 = .ok (.iconst 1, 1) := dk_4 (dk_at dksX0_readsCar_3 17 rfl rfl)
theorem dX0_readsCar_90 : decode cX0_readsCar 90 = .ok (.iadd, 1) := dk_96 (dk_at dksX0_readsCar_3 18 rfl rfl)
theorem dX0_readsCar_91 : decode cX0_readsCar 91 = .ok (.putfield 290, 3) := dk_181 1 34 (dk_at dksX0_readsCar_3 19 rfl rfl)
theorem dX0_readsCar_94 : decode cX0_readsCar 94 = .ok (.return_, 1) := dk_177 (dk_at dksX0_readsCar_3 22 rfl rfl)
abbrev cX0_fault : ByteArray := prog_1_method_28_code
def yX0_fault : MethodName := ⟨RX0, "fault", "(I)I"⟩
def dkwX0_fault_1 : List UInt8 := [172]
abbrev dktX0_fault_1 : List UInt8 := dkwX0_fault_1 ++ []
def dkwX0_fault_0 : List UInt8 := [27, 154, 0, 10, 42, 180, 1, 63, 167, 0, 16, 27, 4, 160, 0, 10, 42, 180, 0, 64, 167, 0, 4, 2]
abbrev dktX0_fault_0 : List UInt8 := dkwX0_fault_0 ++ dktX0_fault_1
theorem dksX0_fault_0 : cX0_fault.data.toList.drop 0 = dktX0_fault_0 := by decide +kernel
theorem dksX0_fault_1 : cX0_fault.data.toList.drop 24 = dktX0_fault_1 := dk_seg dksX0_fault_0 24 rfl rfl
theorem dX0_fault_0 : decode cX0_fault 0 = .ok (.iload_n 1, 1) := dk_27 (dk_at dksX0_fault_0 0 rfl rfl)
theorem dX0_fault_1 : decode cX0_fault 1 = .ok (.ifCond .ne 10, 3) := dk_154 0 10 (dk_at dksX0_fault_0 1 rfl rfl)
theorem dX0_fault_4 : decode cX0_fault 4 = .ok (.aload_n 0, 1) := dk_42 (dk_at dksX0_fault_0 4 rfl rfl)
theorem dX0_fault_5 : decode cX0_fault 5 = .ok (.getfield 319, 3) := dk_180 1 63 (dk_at dksX0_fault_0 5 rfl rfl)
theorem dX0_fault_8 : decode cX0_fault 8 = .ok (.goto 16, 3) := dk_167 0 16 (dk_at dksX0_fault_0 8 rfl rfl)
theorem dX0_fault_11 : decode cX0_fault 11 = .ok (.iload_n 1, 1) := dk_27 (dk_at dksX0_fault_0 11 rfl rfl)
theorem dX0_fault_12 : decode cX0_fault 12 = .ok (.iconst 1, 1) := dk_4 (dk_at dksX0_fault_0 12 rfl rfl)
theorem dX0_fault_13 : decode cX0_fault 13 = .ok (.if_icmp .ne 10, 3) := dk_160 0 10 (dk_at dksX0_fault_0 13 rfl rfl)
theorem dX0_fault_16 : decode cX0_fault 16 = .ok (.aload_n 0, 1) := dk_42 (dk_at dksX0_fault_0 16 rfl rfl)
theorem dX0_fault_17 : decode cX0_fault 17 = .ok (.getfield 64, 3) := dk_180 0 64 (dk_at dksX0_fault_0 17 rfl rfl)
theorem dX0_fault_20 : decode cX0_fault 20 = .ok (.goto 4, 3) := dk_167 0 4 (dk_at dksX0_fault_0 20 rfl rfl)
theorem dX0_fault_23 : decode cX0_fault 23 = .ok (.iconst (-1), 1) := dk_2 (dk_at dksX0_fault_0 23 rfl rfl)
theorem dX0_fault_24 : decode cX0_fault 24 = .ok (.ireturn, 1) := dk_172 (dk_at dksX0_fault_1 0 rfl rfl)
abbrev cX0_one : ByteArray := prog_1_method_33_code
def yX0_one : MethodName := ⟨RX0, "one", "(III)I"⟩
def dkwX0_one_4 : List UInt8 := [4, 100, 172]
abbrev dktX0_one_4 : List UInt8 := dkwX0_one_4 ++ []
def dkwX0_one_3 : List UInt8 := [29, 182, 1, 100, 42, 180, 0, 94, 89, 180, 1, 89, 4, 96, 181, 1, 89, 42, 180, 0, 94, 180, 1, 89]
abbrev dktX0_one_3 : List UInt8 := dkwX0_one_3 ++ dktX0_one_4
def dkwX0_one_2 : List UInt8 := [16, 60, 160, 0, 5, 2, 172, 42, 180, 0, 94, 180, 1, 96, 42, 180, 0, 94, 180, 1, 89, 50, 27, 28]
abbrev dktX0_one_2 : List UInt8 := dkwX0_one_2 ++ dktX0_one_3
def dkwX0_one_1 : List UInt8 := [153, 0, 28, 42, 29, 182, 1, 93, 153, 0, 20, 28, 29, 159, 0, 15, 42, 180, 0, 94, 180, 1, 89]
abbrev dktX0_one_1 : List UInt8 := dkwX0_one_1 ++ dktX0_one_2
def dkwX0_one_0 : List UInt8 := [27, 42, 180, 0, 94, 180, 1, 90, 17, 39, 15, 184, 0, 137, 153, 0, 36, 42, 28, 182, 1, 93]
abbrev dktX0_one_0 : List UInt8 := dkwX0_one_0 ++ dktX0_one_1
theorem dksX0_one_0 : cX0_one.data.toList.drop 0 = dktX0_one_0 := by decide +kernel
theorem dksX0_one_1 : cX0_one.data.toList.drop 22 = dktX0_one_1 := dk_seg dksX0_one_0 22 rfl rfl
theorem dksX0_one_2 : cX0_one.data.toList.drop 45 = dktX0_one_2 := dk_seg dksX0_one_1 23 rfl rfl
theorem dksX0_one_3 : cX0_one.data.toList.drop 69 = dktX0_one_3 := dk_seg dksX0_one_2 24 rfl rfl
theorem dksX0_one_4 : cX0_one.data.toList.drop 93 = dktX0_one_4 := dk_seg dksX0_one_3 24 rfl rfl
theorem dX0_one_0 : decode cX0_one 0 = .ok (.iload_n 1, 1) := dk_27 (dk_at dksX0_one_0 0 rfl rfl)
theorem dX0_one_1 : decode cX0_one 1 = .ok (.aload_n 0, 1) := dk_42 (dk_at dksX0_one_0 1 rfl rfl)
theorem dX0_one_2 : decode cX0_one 2 = .ok (.getfield 94, 3) := dk_180 0 94 (dk_at dksX0_one_0 2 rfl rfl)
theorem dX0_one_5 : decode cX0_one 5 = .ok (.getfield 346, 3) := dk_180 1 90 (dk_at dksX0_one_0 5 rfl rfl)
theorem dX0_one_8 : decode cX0_one 8 = .ok (.sipush 9999, 3) := dk_17 39 15 (dk_at dksX0_one_0 8 rfl rfl)
theorem dX0_one_11 : decode cX0_one 11 = .ok (.invokestatic 137, 3) := dk_184 0 137 (dk_at dksX0_one_0 11 rfl rfl)
theorem dX0_one_14 : decode cX0_one 14 = .ok (.ifCond .eq 36, 3) := dk_153 0 36 (dk_at dksX0_one_0 14 rfl rfl)
theorem dX0_one_17 : decode cX0_one 17 = .ok (.aload_n 0, 1) := dk_42 (dk_at dksX0_one_0 17 rfl rfl)
theorem dX0_one_18 : decode cX0_one 18 = .ok (.iload_n 2, 1) := dk_28 (dk_at dksX0_one_0 18 rfl rfl)
theorem dX0_one_19 : decode cX0_one 19 = .ok (.invokevirtual 349, 3) := dk_182 1 93 (dk_at dksX0_one_0 19 rfl rfl)
theorem dX0_one_22 : decode cX0_one 22 = .ok (.ifCond .eq 28, 3) := dk_153 0 28 (dk_at dksX0_one_1 0 rfl rfl)
theorem dX0_one_25 : decode cX0_one 25 = .ok (.aload_n 0, 1) := dk_42 (dk_at dksX0_one_1 3 rfl rfl)
theorem dX0_one_26 : decode cX0_one 26 = .ok (.iload_n 3, 1) := dk_29 (dk_at dksX0_one_1 4 rfl rfl)
theorem dX0_one_27 : decode cX0_one 27 = .ok (.invokevirtual 349, 3) := dk_182 1 93 (dk_at dksX0_one_1 5 rfl rfl)
theorem dX0_one_30 : decode cX0_one 30 = .ok (.ifCond .eq 20, 3) := dk_153 0 20 (dk_at dksX0_one_1 8 rfl rfl)
theorem dX0_one_33 : decode cX0_one 33 = .ok (.iload_n 2, 1) := dk_28 (dk_at dksX0_one_1 11 rfl rfl)
theorem dX0_one_34 : decode cX0_one 34 = .ok (.iload_n 3, 1) := dk_29 (dk_at dksX0_one_1 12 rfl rfl)
theorem dX0_one_35 : decode cX0_one 35 = .ok (.if_icmp .eq 15, 3) := dk_159 0 15 (dk_at dksX0_one_1 13 rfl rfl)
theorem dX0_one_38 : decode cX0_one 38 = .ok (.aload_n 0, 1) := dk_42 (dk_at dksX0_one_1 16 rfl rfl)
theorem dX0_one_39 : decode cX0_one 39 = .ok (.getfield 94, 3) := dk_180 0 94 (dk_at dksX0_one_1 17 rfl rfl)
theorem dX0_one_42 : decode cX0_one 42 = .ok (.getfield 345, 3) := dk_180 1 89 (dk_at dksX0_one_1 20 rfl rfl)
theorem dX0_one_45 : decode cX0_one 45 = .ok (.bipush 60, 2) := dk_16 60 (dk_at dksX0_one_2 0 rfl rfl)
theorem dX0_one_47 : decode cX0_one 47 = .ok (.if_icmp .ne 5, 3) := dk_160 0 5 (dk_at dksX0_one_2 2 rfl rfl)
theorem dX0_one_50 : decode cX0_one 50 = .ok (.iconst (-1), 1) := dk_2 (dk_at dksX0_one_2 5 rfl rfl)
theorem dX0_one_51 : decode cX0_one 51 = .ok (.ireturn, 1) := dk_172 (dk_at dksX0_one_2 6 rfl rfl)
theorem dX0_one_52 : decode cX0_one 52 = .ok (.aload_n 0, 1) := dk_42 (dk_at dksX0_one_2 7 rfl rfl)
theorem dX0_one_53 : decode cX0_one 53 = .ok (.getfield 94, 3) := dk_180 0 94 (dk_at dksX0_one_2 8 rfl rfl)
theorem dX0_one_56 : decode cX0_one 56 = .ok (.getfield 352, 3) := dk_180 1 96 (dk_at dksX0_one_2 11 rfl rfl)
theorem dX0_one_59 : decode cX0_one 59 = .ok (.aload_n 0, 1) := dk_42 (dk_at dksX0_one_2 14 rfl rfl)
theorem dX0_one_60 : decode cX0_one 60 = .ok (.getfield 94, 3) := dk_180 0 94 (dk_at dksX0_one_2 15 rfl rfl)
theorem dX0_one_63 : decode cX0_one 63 = .ok (.getfield 345, 3) := dk_180 1 89 (dk_at dksX0_one_2 18 rfl rfl)
theorem dX0_one_66 : decode cX0_one 66 = .ok (.aaload, 1) := dk_50 (dk_at dksX0_one_2 21 rfl rfl)
theorem dX0_one_67 : decode cX0_one 67 = .ok (.iload_n 1, 1) := dk_27 (dk_at dksX0_one_2 22 rfl rfl)
theorem dX0_one_68 : decode cX0_one 68 = .ok (.iload_n 2, 1) := dk_28 (dk_at dksX0_one_2 23 rfl rfl)
theorem dX0_one_69 : decode cX0_one 69 = .ok (.iload_n 3, 1) := dk_29 (dk_at dksX0_one_3 0 rfl rfl)
theorem dX0_one_70 : decode cX0_one 70 = .ok (.invokevirtual 356, 3) := dk_182 1 100 (dk_at dksX0_one_3 1 rfl rfl)
theorem dX0_one_73 : decode cX0_one 73 = .ok (.aload_n 0, 1) := dk_42 (dk_at dksX0_one_3 4 rfl rfl)
theorem dX0_one_74 : decode cX0_one 74 = .ok (.getfield 94, 3) := dk_180 0 94 (dk_at dksX0_one_3 5 rfl rfl)
theorem dX0_one_77 : decode cX0_one 77 = .ok (.dup, 1) := dk_89 (dk_at dksX0_one_3 8 rfl rfl)
theorem dX0_one_78 : decode cX0_one 78 = .ok (.getfield 345, 3) := dk_180 1 89 (dk_at dksX0_one_3 9 rfl rfl)
theorem dX0_one_81 : decode cX0_one 81 = .ok (.iconst 1, 1) := dk_4 (dk_at dksX0_one_3 12 rfl rfl)
theorem dX0_one_82 : decode cX0_one 82 = .ok (.iadd, 1) := dk_96 (dk_at dksX0_one_3 13 rfl rfl)
theorem dX0_one_83 : decode cX0_one 83 = .ok (.putfield 345, 3) := dk_181 1 89 (dk_at dksX0_one_3 14 rfl rfl)
theorem dX0_one_86 : decode cX0_one 86 = .ok (.aload_n 0, 1) := dk_42 (dk_at dksX0_one_3 17 rfl rfl)
theorem dX0_one_87 : decode cX0_one 87 = .ok (.getfield 94, 3) := dk_180 0 94 (dk_at dksX0_one_3 18 rfl rfl)
theorem dX0_one_90 : decode cX0_one 90 = .ok (.getfield 345, 3) := dk_180 1 89 (dk_at dksX0_one_3 21 rfl rfl)
theorem dX0_one_93 : decode cX0_one 93 = .ok (.iconst 1, 1) := dk_4 (dk_at dksX0_one_4 0 rfl rfl)
theorem dX0_one_94 : decode cX0_one 94 = .ok (.isub, 1) := dk_100 (dk_at dksX0_one_4 1 rfl rfl)
theorem dX0_one_95 : decode cX0_one 95 = .ok (.ireturn, 1) := dk_172 (dk_at dksX0_one_4 2 rfl rfl)
abbrev cX0_isFloor : ByteArray := prog_1_method_29_code
def yX0_isFloor : MethodName := ⟨RX0, "isFloor", "(I)Z"⟩
def dkwX0_isFloor_0 : List UInt8 := [27, 3, 42, 180, 0, 78, 180, 1, 50, 4, 100, 184, 0, 137, 172]
abbrev dktX0_isFloor_0 : List UInt8 := dkwX0_isFloor_0 ++ []
theorem dksX0_isFloor_0 : cX0_isFloor.data.toList.drop 0 = dktX0_isFloor_0 := by decide +kernel
theorem dX0_isFloor_0 : decode cX0_isFloor 0 = .ok (.iload_n 1, 1) := dk_27 (dk_at dksX0_isFloor_0 0 rfl rfl)
theorem dX0_isFloor_1 : decode cX0_isFloor 1 = .ok (.iconst 0, 1) := dk_3 (dk_at dksX0_isFloor_0 1 rfl rfl)
theorem dX0_isFloor_2 : decode cX0_isFloor 2 = .ok (.aload_n 0, 1) := dk_42 (dk_at dksX0_isFloor_0 2 rfl rfl)
theorem dX0_isFloor_3 : decode cX0_isFloor 3 = .ok (.getfield 78, 3) := dk_180 0 78 (dk_at dksX0_isFloor_0 3 rfl rfl)
theorem dX0_isFloor_6 : decode cX0_isFloor 6 = .ok (.getfield 306, 3) := dk_180 1 50 (dk_at dksX0_isFloor_0 6 rfl rfl)
theorem dX0_isFloor_9 : decode cX0_isFloor 9 = .ok (.iconst 1, 1) := dk_4 (dk_at dksX0_isFloor_0 9 rfl rfl)
theorem dX0_isFloor_10 : decode cX0_isFloor 10 = .ok (.isub, 1) := dk_100 (dk_at dksX0_isFloor_0 10 rfl rfl)
theorem dX0_isFloor_11 : decode cX0_isFloor 11 = .ok (.invokestatic 137, 3) := dk_184 0 137 (dk_at dksX0_isFloor_0 11 rfl rfl)
theorem dX0_isFloor_14 : decode cX0_isFloor 14 = .ok (.ireturn, 1) := dk_172 (dk_at dksX0_isFloor_0 14 rfl rfl)
abbrev cX0_set : ByteArray := prog_1_method_35_code
def yX0_set : MethodName := ⟨RX0, "set", "(III)Z"⟩
def dkwX0_set_7 : List UInt8 := [29, 79, 4, 172, 3, 172]
abbrev dktX0_set_7 : List UInt8 := dkwX0_set_7 ++ []
def dkwX0_set_6 : List UInt8 := [28, 182, 1, 93, 153, 0, 13, 29, 3, 16, 99, 184, 0, 137, 154, 0, 5, 3, 172, 42, 180, 0, 82, 28]
abbrev dktX0_set_6 : List UInt8 := dkwX0_set_6 ++ dktX0_set_7
def dkwX0_set_5 : List UInt8 := [182, 1, 93, 154, 0, 5, 3, 172, 42, 180, 0, 94, 180, 1, 106, 28, 50, 29, 181, 1, 140, 4, 172, 42]
abbrev dktX0_set_5 : List UInt8 := dkwX0_set_5 ++ dktX0_set_6
def dkwX0_set_4 : List UInt8 := [167, 0, 4, 3, 182, 1, 136, 4, 172, 42, 28, 182, 1, 133, 153, 0, 16, 29, 2, 159, 0, 13, 42, 29]
abbrev dktX0_set_4 : List UInt8 := dkwX0_set_4 ++ dktX0_set_5
def dkwX0_set_3 : List UInt8 := [153, 0, 12, 29, 3, 4, 184, 0, 137, 154, 0, 5, 3, 172, 42, 28, 29, 4, 160, 0, 7, 4]
abbrev dktX0_set_3 : List UInt8 := dkwX0_set_3 ++ dktX0_set_4
def dkwX0_set_2 : List UInt8 := [29, 184, 1, 127, 154, 0, 5, 3, 172, 42, 180, 0, 94, 29, 181, 1, 130, 4, 172, 42, 28, 182, 1, 133]
abbrev dktX0_set_2 : List UInt8 := dkwX0_set_2 ++ dktX0_set_3
def dkwX0_set_1 : List UInt8 := [170, 0, 0, 0, 0, 0, 153, 0, 0, 0, 0, 0, 0, 0, 3, 0, 0, 0, 31, 0, 0, 0, 50, 0, 0, 0, 86, 0, 0, 0, 124]
abbrev dktX0_set_1 : List UInt8 := dkwX0_set_1 ++ dktX0_set_2
def dkwX0_set_0 : List UInt8 := [27]
abbrev dktX0_set_0 : List UInt8 := dkwX0_set_0 ++ dktX0_set_1
theorem dksX0_set_0 : cX0_set.data.toList.drop 0 = dktX0_set_0 := by decide +kernel
theorem dksX0_set_1 : cX0_set.data.toList.drop 1 = dktX0_set_1 := dk_seg dksX0_set_0 1 rfl rfl
theorem dksX0_set_2 : cX0_set.data.toList.drop 32 = dktX0_set_2 := dk_seg dksX0_set_1 31 rfl rfl
theorem dksX0_set_3 : cX0_set.data.toList.drop 56 = dktX0_set_3 := dk_seg dksX0_set_2 24 rfl rfl
theorem dksX0_set_4 : cX0_set.data.toList.drop 78 = dktX0_set_4 := dk_seg dksX0_set_3 22 rfl rfl
theorem dksX0_set_5 : cX0_set.data.toList.drop 102 = dktX0_set_5 := dk_seg dksX0_set_4 24 rfl rfl
theorem dksX0_set_6 : cX0_set.data.toList.drop 126 = dktX0_set_6 := dk_seg dksX0_set_5 24 rfl rfl
theorem dksX0_set_7 : cX0_set.data.toList.drop 150 = dktX0_set_7 := dk_seg dksX0_set_6 24 rfl rfl
theorem dX0_set_0 : decode cX0_set 0 = .ok (.iload_n 1, 1) := dk_27 (dk_at dksX0_set_0 0 rfl rfl)
theorem dX0_set_1 : decode cX0_set 1 = .ok (.tableswitch 153 0 3 #[31, 50, 86, 124], 31) := by decide +kernel
theorem dX0_set_32 : decode cX0_set 32 = .ok (.iload_n 3, 1) := dk_29 (dk_at dksX0_set_2 0 rfl rfl)
theorem dX0_set_33 : decode cX0_set 33 = .ok (.invokestatic 383, 3) := dk_184 1 127 (dk_at dksX0_set_2 1 rfl rfl)
theorem dX0_set_36 : decode cX0_set 36 = .ok (.ifCond .ne 5, 3) := dk_154 0 5 (dk_at dksX0_set_2 4 rfl rfl)
theorem dX0_set_39 : decode cX0_set 39 = .ok (.iconst 0, 1) := dk_3 (dk_at dksX0_set_2 7 rfl rfl)
theorem dX0_set_40 : decode cX0_set 40 = .ok (.ireturn, 1) := dk_172 (dk_at dksX0_set_2 8 rfl rfl)
theorem dX0_set_41 : decode cX0_set 41 = .ok (.aload_n 0, 1) := dk_42 (dk_at dksX0_set_2 9 rfl rfl)
theorem dX0_set_42 : decode cX0_set 42 = .ok (.getfield 94, 3) := dk_180 0 94 (dk_at dksX0_set_2 10 rfl rfl)
theorem dX0_set_45 : decode cX0_set 45 = .ok (.iload_n 3, 1) := dk_29 (dk_at dksX0_set_2 13 rfl rfl)
theorem dX0_set_46 : decode cX0_set 46 = .ok (.putfield 386, 3) := dk_181 1 130 (dk_at dksX0_set_2 14 rfl rfl)
theorem dX0_set_49 : decode cX0_set 49 = .ok (.iconst 1, 1) := dk_4 (dk_at dksX0_set_2 17 rfl rfl)
theorem dX0_set_50 : decode cX0_set 50 = .ok (.ireturn, 1) := dk_172 (dk_at dksX0_set_2 18 rfl rfl)
theorem dX0_set_51 : decode cX0_set 51 = .ok (.aload_n 0, 1) := dk_42 (dk_at dksX0_set_2 19 rfl rfl)
theorem dX0_set_52 : decode cX0_set 52 = .ok (.iload_n 2, 1) := dk_28 (dk_at dksX0_set_2 20 rfl rfl)
theorem dX0_set_53 : decode cX0_set 53 = .ok (.invokevirtual 389, 3) := dk_182 1 133 (dk_at dksX0_set_2 21 rfl rfl)
theorem dX0_set_56 : decode cX0_set 56 = .ok (.ifCond .eq 12, 3) := dk_153 0 12 (dk_at dksX0_set_3 0 rfl rfl)
theorem dX0_set_59 : decode cX0_set 59 = .ok (.iload_n 3, 1) := dk_29 (dk_at dksX0_set_3 3 rfl rfl)
theorem dX0_set_60 : decode cX0_set 60 = .ok (.iconst 0, 1) := dk_3 (dk_at dksX0_set_3 4 rfl rfl)
theorem dX0_set_61 : decode cX0_set 61 = .ok (.iconst 1, 1) := dk_4 (dk_at dksX0_set_3 5 rfl rfl)
theorem dX0_set_62 : decode cX0_set 62 = .ok (.invokestatic 137, 3) := dk_184 0 137 (dk_at dksX0_set_3 6 rfl rfl)
theorem dX0_set_65 : decode cX0_set 65 = .ok (.ifCond .ne 5, 3) := dk_154 0 5 (dk_at dksX0_set_3 9 rfl rfl)
theorem dX0_set_68 : decode cX0_set 68 = .ok (.iconst 0, 1) := dk_3 (dk_at dksX0_set_3 12 rfl rfl)
theorem dX0_set_69 : decode cX0_set 69 = .ok (.ireturn, 1) := dk_172 (dk_at dksX0_set_3 13 rfl rfl)
theorem dX0_set_70 : decode cX0_set 70 = .ok (.aload_n 0, 1) := dk_42 (dk_at dksX0_set_3 14 rfl rfl)
theorem dX0_set_71 : decode cX0_set 71 = .ok (.iload_n 2, 1) := dk_28 (dk_at dksX0_set_3 15 rfl rfl)
theorem dX0_set_72 : decode cX0_set 72 = .ok (.iload_n 3, 1) := dk_29 (dk_at dksX0_set_3 16 rfl rfl)
theorem dX0_set_73 : decode cX0_set 73 = .ok (.iconst 1, 1) := dk_4 (dk_at dksX0_set_3 17 rfl rfl)
theorem dX0_set_74 : decode cX0_set 74 = .ok (.if_icmp .ne 7, 3) := dk_160 0 7 (dk_at dksX0_set_3 18 rfl rfl)
theorem dX0_set_77 : decode cX0_set 77 = .ok (.iconst 1, 1) := dk_4 (dk_at dksX0_set_3 21 rfl rfl)
theorem dX0_set_78 : decode cX0_set 78 = .ok (.goto 4, 3) := dk_167 0 4 (dk_at dksX0_set_4 0 rfl rfl)
theorem dX0_set_81 : decode cX0_set 81 = .ok (.iconst 0, 1) := dk_3 (dk_at dksX0_set_4 3 rfl rfl)
theorem dX0_set_82 : decode cX0_set 82 = .ok (.invokevirtual 392, 3) := dk_182 1 136 (dk_at dksX0_set_4 4 rfl rfl)
theorem dX0_set_85 : decode cX0_set 85 = .ok (.iconst 1, 1) := dk_4 (dk_at dksX0_set_4 7 rfl rfl)
theorem dX0_set_86 : decode cX0_set 86 = .ok (.ireturn, 1) := dk_172 (dk_at dksX0_set_4 8 rfl rfl)
theorem dX0_set_87 : decode cX0_set 87 = .ok (.aload_n 0, 1) := dk_42 (dk_at dksX0_set_4 9 rfl rfl)
theorem dX0_set_88 : decode cX0_set 88 = .ok (.iload_n 2, 1) := dk_28 (dk_at dksX0_set_4 10 rfl rfl)
theorem dX0_set_89 : decode cX0_set 89 = .ok (.invokevirtual 389, 3) := dk_182 1 133 (dk_at dksX0_set_4 11 rfl rfl)
theorem dX0_set_92 : decode cX0_set 92 = .ok (.ifCond .eq 16, 3) := dk_153 0 16 (dk_at dksX0_set_4 14 rfl rfl)
theorem dX0_set_95 : decode cX0_set 95 = .ok (.iload_n 3, 1) := dk_29 (dk_at dksX0_set_4 17 rfl rfl)
theorem dX0_set_96 : decode cX0_set 96 = .ok (.iconst (-1), 1) := dk_2 (dk_at dksX0_set_4 18 rfl rfl)
theorem dX0_set_97 : decode cX0_set 97 = .ok (.if_icmp .eq 13, 3) := dk_159 0 13 (dk_at dksX0_set_4 19 rfl rfl)
theorem dX0_set_100 : decode cX0_set 100 = .ok (.aload_n 0, 1) := dk_42 (dk_at dksX0_set_4 22 rfl rfl)
theorem dX0_set_101 : decode cX0_set 101 = .ok (.iload_n 3, 1) := dk_29 (dk_at dksX0_set_4 23 rfl rfl)
theorem dX0_set_102 : decode cX0_set 102 = .ok (.invokevirtual 349, 3) := dk_182 1 93 (dk_at dksX0_set_5 0 rfl rfl)
theorem dX0_set_105 : decode cX0_set 105 = .ok (.ifCond .ne 5, 3) := dk_154 0 5 (dk_at dksX0_set_5 3 rfl rfl)
theorem dX0_set_108 : decode cX0_set 108 = .ok (.iconst 0, 1) := dk_3 (dk_at dksX0_set_5 6 rfl rfl)
theorem dX0_set_109 : decode cX0_set 109 = .ok (.ireturn, 1) := dk_172 (dk_at dksX0_set_5 7 rfl rfl)
theorem dX0_set_110 : decode cX0_set 110 = .ok (.aload_n 0, 1) := dk_42 (dk_at dksX0_set_5 8 rfl rfl)
theorem dX0_set_111 : decode cX0_set 111 = .ok (.getfield 94, 3) := dk_180 0 94 (dk_at dksX0_set_5 9 rfl rfl)
theorem dX0_set_114 : decode cX0_set 114 = .ok (.getfield 362, 3) := dk_180 1 106 (dk_at dksX0_set_5 12 rfl rfl)
theorem dX0_set_117 : decode cX0_set 117 = .ok (.iload_n 2, 1) := dk_28 (dk_at dksX0_set_5 15 rfl rfl)
theorem dX0_set_118 : decode cX0_set 118 = .ok (.aaload, 1) := dk_50 (dk_at dksX0_set_5 16 rfl rfl)
theorem dX0_set_119 : decode cX0_set 119 = .ok (.iload_n 3, 1) := dk_29 (dk_at dksX0_set_5 17 rfl rfl)
theorem dX0_set_120 : decode cX0_set 120 = .ok (.putfield 396, 3) := dk_181 1 140 (dk_at dksX0_set_5 18 rfl rfl)
theorem dX0_set_123 : decode cX0_set 123 = .ok (.iconst 1, 1) := dk_4 (dk_at dksX0_set_5 21 rfl rfl)
theorem dX0_set_124 : decode cX0_set 124 = .ok (.ireturn, 1) := dk_172 (dk_at dksX0_set_5 22 rfl rfl)
theorem dX0_set_125 : decode cX0_set 125 = .ok (.aload_n 0, 1) := dk_42 (dk_at dksX0_set_5 23 rfl rfl)
theorem dX0_set_126 : decode cX0_set 126 = .ok (.iload_n 2, 1) := dk_28 (dk_at dksX0_set_6 0 rfl rfl)
theorem dX0_set_127 : decode cX0_set 127 = .ok (.invokevirtual 349, 3) := dk_182 1 93 (dk_at dksX0_set_6 1 rfl rfl)
theorem dX0_set_130 : decode cX0_set 130 = .ok (.ifCond .eq 13, 3) := dk_153 0 13 (dk_at dksX0_set_6 4 rfl rfl)
theorem dX0_set_133 : decode cX0_set 133 = .ok (.iload_n 3, 1) := dk_29 (dk_at dksX0_set_6 7 rfl rfl)
theorem dX0_set_134 : decode cX0_set 134 = .ok (.iconst 0, 1) := dk_3 (dk_at dksX0_set_6 8 rfl rfl)
theorem dX0_set_135 : decode cX0_set 135 = .ok (.bipush 99, 2) := dk_16 99 (dk_at dksX0_set_6 9 rfl rfl)
theorem dX0_set_137 : decode cX0_set 137 = .ok (.invokestatic 137, 3) := dk_184 0 137 (dk_at dksX0_set_6 11 rfl rfl)
theorem dX0_set_140 : decode cX0_set 140 = .ok (.ifCond .ne 5, 3) := dk_154 0 5 (dk_at dksX0_set_6 14 rfl rfl)
theorem dX0_set_143 : decode cX0_set 143 = .ok (.iconst 0, 1) := dk_3 (dk_at dksX0_set_6 17 rfl rfl)
theorem dX0_set_144 : decode cX0_set 144 = .ok (.ireturn, 1) := dk_172 (dk_at dksX0_set_6 18 rfl rfl)
theorem dX0_set_145 : decode cX0_set 145 = .ok (.aload_n 0, 1) := dk_42 (dk_at dksX0_set_6 19 rfl rfl)
theorem dX0_set_146 : decode cX0_set 146 = .ok (.getfield 82, 3) := dk_180 0 82 (dk_at dksX0_set_6 20 rfl rfl)
theorem dX0_set_149 : decode cX0_set 149 = .ok (.iload_n 2, 1) := dk_28 (dk_at dksX0_set_6 23 rfl rfl)
theorem dX0_set_150 : decode cX0_set 150 = .ok (.iload_n 3, 1) := dk_29 (dk_at dksX0_set_7 0 rfl rfl)
theorem dX0_set_151 : decode cX0_set 151 = .ok (.iastore, 1) := dk_79 (dk_at dksX0_set_7 1 rfl rfl)
theorem dX0_set_152 : decode cX0_set 152 = .ok (.iconst 1, 1) := dk_4 (dk_at dksX0_set_7 2 rfl rfl)
theorem dX0_set_153 : decode cX0_set 153 = .ok (.ireturn, 1) := dk_172 (dk_at dksX0_set_7 3 rfl rfl)
theorem dX0_set_154 : decode cX0_set 154 = .ok (.iconst 0, 1) := dk_3 (dk_at dksX0_set_7 4 rfl rfl)
theorem dX0_set_155 : decode cX0_set 155 = .ok (.ireturn, 1) := dk_172 (dk_at dksX0_set_7 5 rfl rfl)
abbrev cX0_isRule : ByteArray := prog_1_method_31_code
def yX0_isRule : MethodName := ⟨RX0, "isRule", "(I)Z"⟩
def dkwX0_isRule_0 : List UInt8 := [26, 3, 5, 184, 0, 137, 172]
abbrev dktX0_isRule_0 : List UInt8 := dkwX0_isRule_0 ++ []
theorem dksX0_isRule_0 : cX0_isRule.data.toList.drop 0 = dktX0_isRule_0 := by decide +kernel
theorem dX0_isRule_0 : decode cX0_isRule 0 = .ok (.iload_n 0, 1) := dk_26 (dk_at dksX0_isRule_0 0 rfl rfl)
theorem dX0_isRule_1 : decode cX0_isRule 1 = .ok (.iconst 0, 1) := dk_3 (dk_at dksX0_isRule_0 1 rfl rfl)
theorem dX0_isRule_2 : decode cX0_isRule 2 = .ok (.iconst 2, 1) := dk_5 (dk_at dksX0_isRule_0 2 rfl rfl)
theorem dX0_isRule_3 : decode cX0_isRule 3 = .ok (.invokestatic 137, 3) := dk_184 0 137 (dk_at dksX0_isRule_0 3 rfl rfl)
theorem dX0_isRule_6 : decode cX0_isRule 6 = .ok (.ireturn, 1) := dk_172 (dk_at dksX0_isRule_0 6 rfl rfl)
abbrev cX0_isCar : ByteArray := prog_1_method_30_code
def yX0_isCar : MethodName := ⟨RX0, "isCar", "(I)Z"⟩
def dkwX0_isCar_0 : List UInt8 := [27, 3, 42, 180, 0, 78, 180, 1, 34, 4, 100, 184, 0, 137, 172]
abbrev dktX0_isCar_0 : List UInt8 := dkwX0_isCar_0 ++ []
theorem dksX0_isCar_0 : cX0_isCar.data.toList.drop 0 = dktX0_isCar_0 := by decide +kernel
theorem dX0_isCar_0 : decode cX0_isCar 0 = .ok (.iload_n 1, 1) := dk_27 (dk_at dksX0_isCar_0 0 rfl rfl)
theorem dX0_isCar_1 : decode cX0_isCar 1 = .ok (.iconst 0, 1) := dk_3 (dk_at dksX0_isCar_0 1 rfl rfl)
theorem dX0_isCar_2 : decode cX0_isCar 2 = .ok (.aload_n 0, 1) := dk_42 (dk_at dksX0_isCar_0 2 rfl rfl)
theorem dX0_isCar_3 : decode cX0_isCar 3 = .ok (.getfield 78, 3) := dk_180 0 78 (dk_at dksX0_isCar_0 3 rfl rfl)
theorem dX0_isCar_6 : decode cX0_isCar 6 = .ok (.getfield 290, 3) := dk_180 1 34 (dk_at dksX0_isCar_0 6 rfl rfl)
theorem dX0_isCar_9 : decode cX0_isCar 9 = .ok (.iconst 1, 1) := dk_4 (dk_at dksX0_isCar_0 9 rfl rfl)
theorem dX0_isCar_10 : decode cX0_isCar 10 = .ok (.isub, 1) := dk_100 (dk_at dksX0_isCar_0 10 rfl rfl)
theorem dX0_isCar_11 : decode cX0_isCar 11 = .ok (.invokestatic 137, 3) := dk_184 0 137 (dk_at dksX0_isCar_0 11 rfl rfl)
theorem dX0_isCar_14 : decode cX0_isCar 14 = .ok (.ireturn, 1) := dk_172 (dk_at dksX0_isCar_0 14 rfl rfl)
abbrev cX0_putsOut : ByteArray := prog_1_method_34_code
def yX0_putsOut : MethodName := ⟨RX0, "putsOut", "(IZ)V"⟩
def dkwX0_putsOut_4 : List UInt8 := [181, 1, 120, 45, 3, 181, 1, 121, 45, 3, 181, 1, 124, 45, 28, 181, 1, 109, 177]
abbrev dktX0_putsOut_4 : List UInt8 := dkwX0_putsOut_4 ++ []
def dkwX0_putsOut_3 : List UInt8 := [42, 180, 0, 94, 180, 1, 96, 21, 4, 50, 2, 181, 1, 115, 132, 4, 1, 167, 255, 193, 45, 3]
abbrev dktX0_putsOut_3 : List UInt8 := dkwX0_putsOut_3 ++ dktX0_putsOut_4
def dkwX0_putsOut_2 : List UInt8 := [180, 1, 115, 27, 160, 0, 34, 42, 180, 0, 94, 180, 1, 96, 21, 4, 50, 180, 1, 117, 4, 160, 0, 17]
abbrev dktX0_putsOut_2 : List UInt8 := dkwX0_putsOut_2 ++ dktX0_putsOut_3
def dkwX0_putsOut_1 : List UInt8 := [21, 4, 42, 180, 0, 94, 180, 1, 89, 162, 0, 57, 42, 180, 0, 94, 180, 1, 96, 21, 4, 50]
abbrev dktX0_putsOut_1 : List UInt8 := dkwX0_putsOut_1 ++ dktX0_putsOut_2
def dkwX0_putsOut_0 : List UInt8 := [42, 180, 0, 94, 180, 1, 106, 27, 50, 78, 28, 153, 0, 94, 45, 180, 1, 109, 154, 0, 87, 3, 54, 4]
abbrev dktX0_putsOut_0 : List UInt8 := dkwX0_putsOut_0 ++ dktX0_putsOut_1
theorem dksX0_putsOut_0 : cX0_putsOut.data.toList.drop 0 = dktX0_putsOut_0 := by decide +kernel
theorem dksX0_putsOut_1 : cX0_putsOut.data.toList.drop 24 = dktX0_putsOut_1 := dk_seg dksX0_putsOut_0 24 rfl rfl
theorem dksX0_putsOut_2 : cX0_putsOut.data.toList.drop 46 = dktX0_putsOut_2 := dk_seg dksX0_putsOut_1 22 rfl rfl
theorem dksX0_putsOut_3 : cX0_putsOut.data.toList.drop 70 = dktX0_putsOut_3 := dk_seg dksX0_putsOut_2 24 rfl rfl
theorem dksX0_putsOut_4 : cX0_putsOut.data.toList.drop 92 = dktX0_putsOut_4 := dk_seg dksX0_putsOut_3 22 rfl rfl
theorem dX0_putsOut_0 : decode cX0_putsOut 0 = .ok (.aload_n 0, 1) := dk_42 (dk_at dksX0_putsOut_0 0 rfl rfl)
theorem dX0_putsOut_1 : decode cX0_putsOut 1 = .ok (.getfield 94, 3) := dk_180 0 94 (dk_at dksX0_putsOut_0 1 rfl rfl)
theorem dX0_putsOut_4 : decode cX0_putsOut 4 = .ok (.getfield 362, 3) := dk_180 1 106 (dk_at dksX0_putsOut_0 4 rfl rfl)
theorem dX0_putsOut_7 : decode cX0_putsOut 7 = .ok (.iload_n 1, 1) := dk_27 (dk_at dksX0_putsOut_0 7 rfl rfl)
theorem dX0_putsOut_8 : decode cX0_putsOut 8 = .ok (.aaload, 1) := dk_50 (dk_at dksX0_putsOut_0 8 rfl rfl)
theorem dX0_putsOut_9 : decode cX0_putsOut 9 = .ok (.astore_n 3, 1) := dk_78 (dk_at dksX0_putsOut_0 9 rfl rfl)
theorem dX0_putsOut_10 : decode cX0_putsOut 10 = .ok (.iload_n 2, 1) := dk_28 (dk_at dksX0_putsOut_0 10 rfl rfl)
theorem dX0_putsOut_11 : decode cX0_putsOut 11 = .ok (.ifCond .eq 94, 3) := dk_153 0 94 (dk_at dksX0_putsOut_0 11 rfl rfl)
theorem dX0_putsOut_14 : decode cX0_putsOut 14 = .ok (.aload_n 3, 1) := dk_45 (dk_at dksX0_putsOut_0 14 rfl rfl)
theorem dX0_putsOut_15 : decode cX0_putsOut 15 = .ok (.getfield 365, 3) := dk_180 1 109 (dk_at dksX0_putsOut_0 15 rfl rfl)
theorem dX0_putsOut_18 : decode cX0_putsOut 18 = .ok (.ifCond .ne 87, 3) := dk_154 0 87 (dk_at dksX0_putsOut_0 18 rfl rfl)
theorem dX0_putsOut_21 : decode cX0_putsOut 21 = .ok (.iconst 0, 1) := dk_3 (dk_at dksX0_putsOut_0 21 rfl rfl)
theorem dX0_putsOut_22 : decode cX0_putsOut 22 = .ok (.istore 4, 2) := dk_54 4 (dk_at dksX0_putsOut_0 22 rfl rfl)
theorem dX0_putsOut_24 : decode cX0_putsOut 24 = .ok (.iload 4, 2) := dk_21 4 (dk_at dksX0_putsOut_1 0 rfl rfl)
theorem dX0_putsOut_26 : decode cX0_putsOut 26 = .ok (.aload_n 0, 1) := dk_42 (dk_at dksX0_putsOut_1 2 rfl rfl)
theorem dX0_putsOut_27 : decode cX0_putsOut 27 = .ok (.getfield 94, 3) := dk_180 0 94 (dk_at dksX0_putsOut_1 3 rfl rfl)
theorem dX0_putsOut_30 : decode cX0_putsOut 30 = .ok (.getfield 345, 3) := dk_180 1 89 (dk_at dksX0_putsOut_1 6 rfl rfl)
theorem dX0_putsOut_33 : decode cX0_putsOut 33 = .ok (.if_icmp .ge 57, 3) := dk_162 0 57 (dk_at dksX0_putsOut_1 9 rfl rfl)
theorem dX0_putsOut_36 : decode cX0_putsOut 36 = .ok (.aload_n 0, 1) := dk_42 (dk_at dksX0_putsOut_1 12 rfl rfl)
theorem dX0_putsOut_37 : decode cX0_putsOut 37 = .ok (.getfield 94, 3) := dk_180 0 94 (dk_at dksX0_putsOut_1 13 rfl rfl)
theorem dX0_putsOut_40 : decode cX0_putsOut 40 = .ok (.getfield 352, 3) := dk_180 1 96 (dk_at dksX0_putsOut_1 16 rfl rfl)
theorem dX0_putsOut_43 : decode cX0_putsOut 43 = .ok (.iload 4, 2) := dk_21 4 (dk_at dksX0_putsOut_1 19 rfl rfl)
theorem dX0_putsOut_45 : decode cX0_putsOut 45 = .ok (.aaload, 1) := dk_50 (dk_at dksX0_putsOut_1 21 rfl rfl)
theorem dX0_putsOut_46 : decode cX0_putsOut 46 = .ok (.getfield 371, 3) := dk_180 1 115 (dk_at dksX0_putsOut_2 0 rfl rfl)
theorem dX0_putsOut_49 : decode cX0_putsOut 49 = .ok (.iload_n 1, 1) := dk_27 (dk_at dksX0_putsOut_2 3 rfl rfl)
theorem dX0_putsOut_50 : decode cX0_putsOut 50 = .ok (.if_icmp .ne 34, 3) := dk_160 0 34 (dk_at dksX0_putsOut_2 4 rfl rfl)
theorem dX0_putsOut_53 : decode cX0_putsOut 53 = .ok (.aload_n 0, 1) := dk_42 (dk_at dksX0_putsOut_2 7 rfl rfl)
theorem dX0_putsOut_54 : decode cX0_putsOut 54 = .ok (.getfield 94, 3) := dk_180 0 94 (dk_at dksX0_putsOut_2 8 rfl rfl)
theorem dX0_putsOut_57 : decode cX0_putsOut 57 = .ok (.getfield 352, 3) := dk_180 1 96 (dk_at dksX0_putsOut_2 11 rfl rfl)
theorem dX0_putsOut_60 : decode cX0_putsOut 60 = .ok (.iload 4, 2) := dk_21 4 (dk_at dksX0_putsOut_2 14 rfl rfl)
theorem dX0_putsOut_62 : decode cX0_putsOut 62 = .ok (.aaload, 1) := dk_50 (dk_at dksX0_putsOut_2 16 rfl rfl)
theorem dX0_putsOut_63 : decode cX0_putsOut 63 = .ok (.getfield 373, 3) := dk_180 1 117 (dk_at dksX0_putsOut_2 17 rfl rfl)
theorem dX0_putsOut_66 : decode cX0_putsOut 66 = .ok (.iconst 1, 1) := dk_4 (dk_at dksX0_putsOut_2 20 rfl rfl)
theorem dX0_putsOut_67 : decode cX0_putsOut 67 = .ok (.if_icmp .ne 17, 3) := dk_160 0 17 (dk_at dksX0_putsOut_2 21 rfl rfl)
theorem dX0_putsOut_70 : decode cX0_putsOut 70 = .ok (.aload_n 0, 1) := dk_42 (dk_at dksX0_putsOut_3 0 rfl rfl)
theorem dX0_putsOut_71 : decode cX0_putsOut 71 = .ok (.getfield 94, 3) := dk_180 0 94 (dk_at dksX0_putsOut_3 1 rfl rfl)
theorem dX0_putsOut_74 : decode cX0_putsOut 74 = .ok (.getfield 352, 3) := dk_180 1 96 (dk_at dksX0_putsOut_3 4 rfl rfl)
theorem dX0_putsOut_77 : decode cX0_putsOut 77 = .ok (.iload 4, 2) := dk_21 4 (dk_at dksX0_putsOut_3 7 rfl rfl)
theorem dX0_putsOut_79 : decode cX0_putsOut 79 = .ok (.aaload, 1) := dk_50 (dk_at dksX0_putsOut_3 9 rfl rfl)
theorem dX0_putsOut_80 : decode cX0_putsOut 80 = .ok (.iconst (-1), 1) := dk_2 (dk_at dksX0_putsOut_3 10 rfl rfl)
theorem dX0_putsOut_81 : decode cX0_putsOut 81 = .ok (.putfield 371, 3) := dk_181 1 115 (dk_at dksX0_putsOut_3 11 rfl rfl)
theorem dX0_putsOut_84 : decode cX0_putsOut 84 = .ok (.iinc 4 1, 3) := dk_132 4 1 (dk_at dksX0_putsOut_3 14 rfl rfl)
theorem dX0_putsOut_87 : decode cX0_putsOut 87 = .ok (.goto (-63), 3) := dk_167 255 193 (dk_at dksX0_putsOut_3 17 rfl rfl)
theorem dX0_putsOut_90 : decode cX0_putsOut 90 = .ok (.aload_n 3, 1) := dk_45 (dk_at dksX0_putsOut_3 20 rfl rfl)
theorem dX0_putsOut_91 : decode cX0_putsOut 91 = .ok (.iconst 0, 1) := dk_3 (dk_at dksX0_putsOut_3 21 rfl rfl)
theorem dX0_putsOut_92 : decode cX0_putsOut 92 = .ok (.putfield 376, 3) := dk_181 1 120 (dk_at dksX0_putsOut_4 0 rfl rfl)
theorem dX0_putsOut_95 : decode cX0_putsOut 95 = .ok (.aload_n 3, 1) := dk_45 (dk_at dksX0_putsOut_4 3 rfl rfl)
theorem dX0_putsOut_96 : decode cX0_putsOut 96 = .ok (.iconst 0, 1) := dk_3 (dk_at dksX0_putsOut_4 4 rfl rfl)
theorem dX0_putsOut_97 : decode cX0_putsOut 97 = .ok (.putfield 377, 3) := dk_181 1 121 (dk_at dksX0_putsOut_4 5 rfl rfl)
theorem dX0_putsOut_100 : decode cX0_putsOut 100 = .ok (.aload_n 3, 1) := dk_45 (dk_at dksX0_putsOut_4 8 rfl rfl)
theorem dX0_putsOut_101 : decode cX0_putsOut 101 = .ok (.iconst 0, 1) := dk_3 (dk_at dksX0_putsOut_4 9 rfl rfl)
theorem dX0_putsOut_102 : decode cX0_putsOut 102 = .ok (.putfield 380, 3) := dk_181 1 124 (dk_at dksX0_putsOut_4 10 rfl rfl)
theorem dX0_putsOut_105 : decode cX0_putsOut 105 = .ok (.aload_n 3, 1) := dk_45 (dk_at dksX0_putsOut_4 13 rfl rfl)
theorem dX0_putsOut_106 : decode cX0_putsOut 106 = .ok (.iload_n 2, 1) := dk_28 (dk_at dksX0_putsOut_4 14 rfl rfl)
theorem dX0_putsOut_107 : decode cX0_putsOut 107 = .ok (.putfield 365, 3) := dk_181 1 109 (dk_at dksX0_putsOut_4 15 rfl rfl)
theorem dX0_putsOut_110 : decode cX0_putsOut 110 = .ok (.return_, 1) := dk_177 (dk_at dksX0_putsOut_4 18 rfl rfl)
abbrev cX0_seconds : ByteArray := prog_1_method_36_code
def yX0_seconds : MethodName := ⟨RX0, "seconds", "(I)I"⟩
def dkwX0_seconds_2 : List UInt8 := [180, 0, 94, 182, 1, 146, 132, 3, 1, 167, 255, 241, 42, 180, 0, 94, 6, 182, 1, 143, 28, 100, 172]
abbrev dktX0_seconds_2 : List UInt8 := dkwX0_seconds_2 ++ []
def dkwX0_seconds_1 : List UInt8 := [164, 0, 5, 2, 172, 42, 180, 0, 94, 6, 182, 1, 143, 61, 3, 62, 29, 27, 162, 0, 16, 42]
abbrev dktX0_seconds_1 : List UInt8 := dkwX0_seconds_1 ++ dktX0_seconds_2
def dkwX0_seconds_0 : List UInt8 := [27, 4, 17, 2, 88, 184, 0, 137, 153, 0, 18, 42, 180, 0, 94, 180, 1, 90, 27, 96, 17, 78, 31]
abbrev dktX0_seconds_0 : List UInt8 := dkwX0_seconds_0 ++ dktX0_seconds_1
theorem dksX0_seconds_0 : cX0_seconds.data.toList.drop 0 = dktX0_seconds_0 := by decide +kernel
theorem dksX0_seconds_1 : cX0_seconds.data.toList.drop 23 = dktX0_seconds_1 := dk_seg dksX0_seconds_0 23 rfl rfl
theorem dksX0_seconds_2 : cX0_seconds.data.toList.drop 45 = dktX0_seconds_2 := dk_seg dksX0_seconds_1 22 rfl rfl
theorem dX0_seconds_0 : decode cX0_seconds 0 = .ok (.iload_n 1, 1) := dk_27 (dk_at dksX0_seconds_0 0 rfl rfl)
theorem dX0_seconds_1 : decode cX0_seconds 1 = .ok (.iconst 1, 1) := dk_4 (dk_at dksX0_seconds_0 1 rfl rfl)
theorem dX0_seconds_2 : decode cX0_seconds 2 = .ok (.sipush 600, 3) := dk_17 2 88 (dk_at dksX0_seconds_0 2 rfl rfl)
theorem dX0_seconds_5 : decode cX0_seconds 5 = .ok (.invokestatic 137, 3) := dk_184 0 137 (dk_at dksX0_seconds_0 5 rfl rfl)
theorem dX0_seconds_8 : decode cX0_seconds 8 = .ok (.ifCond .eq 18, 3) := dk_153 0 18 (dk_at dksX0_seconds_0 8 rfl rfl)
theorem dX0_seconds_11 : decode cX0_seconds 11 = .ok (.aload_n 0, 1) := dk_42 (dk_at dksX0_seconds_0 11 rfl rfl)
theorem dX0_seconds_12 : decode cX0_seconds 12 = .ok (.getfield 94, 3) := dk_180 0 94 (dk_at dksX0_seconds_0 12 rfl rfl)
theorem dX0_seconds_15 : decode cX0_seconds 15 = .ok (.getfield 346, 3) := dk_180 1 90 (dk_at dksX0_seconds_0 15 rfl rfl)
theorem dX0_seconds_18 : decode cX0_seconds 18 = .ok (.iload_n 1, 1) := dk_27 (dk_at dksX0_seconds_0 18 rfl rfl)
theorem dX0_seconds_19 : decode cX0_seconds 19 = .ok (.iadd, 1) := dk_96 (dk_at dksX0_seconds_0 19 rfl rfl)
theorem dX0_seconds_20 : decode cX0_seconds 20 = .ok (.sipush 19999, 3) := dk_17 78 31 (dk_at dksX0_seconds_0 20 rfl rfl)
theorem dX0_seconds_23 : decode cX0_seconds 23 = .ok (.if_icmp .le 5, 3) := dk_164 0 5 (dk_at dksX0_seconds_1 0 rfl rfl)
theorem dX0_seconds_26 : decode cX0_seconds 26 = .ok (.iconst (-1), 1) := dk_2 (dk_at dksX0_seconds_1 3 rfl rfl)
theorem dX0_seconds_27 : decode cX0_seconds 27 = .ok (.ireturn, 1) := dk_172 (dk_at dksX0_seconds_1 4 rfl rfl)
theorem dX0_seconds_28 : decode cX0_seconds 28 = .ok (.aload_n 0, 1) := dk_42 (dk_at dksX0_seconds_1 5 rfl rfl)
theorem dX0_seconds_29 : decode cX0_seconds 29 = .ok (.getfield 94, 3) := dk_180 0 94 (dk_at dksX0_seconds_1 6 rfl rfl)
theorem dX0_seconds_32 : decode cX0_seconds 32 = .ok (.iconst 3, 1) := dk_6 (dk_at dksX0_seconds_1 9 rfl rfl)
theorem dX0_seconds_33 : decode cX0_seconds 33 = .ok (.invokevirtual 399, 3) := dk_182 1 143 (dk_at dksX0_seconds_1 10 rfl rfl)
theorem dX0_seconds_36 : decode cX0_seconds 36 = .ok (.istore_n 2, 1) := dk_61 (dk_at dksX0_seconds_1 13 rfl rfl)
theorem dX0_seconds_37 : decode cX0_seconds 37 = .ok (.iconst 0, 1) := dk_3 (dk_at dksX0_seconds_1 14 rfl rfl)
theorem dX0_seconds_38 : decode cX0_seconds 38 = .ok (.istore_n 3, 1) := dk_62 (dk_at dksX0_seconds_1 15 rfl rfl)
theorem dX0_seconds_39 : decode cX0_seconds 39 = .ok (.iload_n 3, 1) := dk_29 (dk_at dksX0_seconds_1 16 rfl rfl)
theorem dX0_seconds_40 : decode cX0_seconds 40 = .ok (.iload_n 1, 1) := dk_27 (dk_at dksX0_seconds_1 17 rfl rfl)
theorem dX0_seconds_41 : decode cX0_seconds 41 = .ok (.if_icmp .ge 16, 3) := dk_162 0 16 (dk_at dksX0_seconds_1 18 rfl rfl)
theorem dX0_seconds_44 : decode cX0_seconds 44 = .ok (.aload_n 0, 1) := dk_42 (dk_at dksX0_seconds_1 21 rfl rfl)
theorem dX0_seconds_45 : decode cX0_seconds 45 = .ok (.getfield 94, 3) := dk_180 0 94 (dk_at dksX0_seconds_2 0 rfl rfl)
theorem dX0_seconds_48 : decode cX0_seconds 48 = .ok (.invokevirtual 402, 3) := dk_182 1 146 (dk_at dksX0_seconds_2 3 rfl rfl)
theorem dX0_seconds_51 : decode cX0_seconds 51 = .ok (.iinc 3 1, 3) := dk_132 3 1 (dk_at dksX0_seconds_2 6 rfl rfl)
theorem dX0_seconds_54 : decode cX0_seconds 54 = .ok (.goto (-15), 3) := dk_167 255 241 (dk_at dksX0_seconds_2 9 rfl rfl)
theorem dX0_seconds_57 : decode cX0_seconds 57 = .ok (.aload_n 0, 1) := dk_42 (dk_at dksX0_seconds_2 12 rfl rfl)
theorem dX0_seconds_58 : decode cX0_seconds 58 = .ok (.getfield 94, 3) := dk_180 0 94 (dk_at dksX0_seconds_2 13 rfl rfl)
theorem dX0_seconds_61 : decode cX0_seconds 61 = .ok (.iconst 3, 1) := dk_6 (dk_at dksX0_seconds_2 16 rfl rfl)
theorem dX0_seconds_62 : decode cX0_seconds 62 = .ok (.invokevirtual 399, 3) := dk_182 1 143 (dk_at dksX0_seconds_2 17 rfl rfl)
theorem dX0_seconds_65 : decode cX0_seconds 65 = .ok (.iload_n 2, 1) := dk_28 (dk_at dksX0_seconds_2 20 rfl rfl)
theorem dX0_seconds_66 : decode cX0_seconds 66 = .ok (.isub, 1) := dk_100 (dk_at dksX0_seconds_2 21 rfl rfl)
theorem dX0_seconds_67 : decode cX0_seconds 67 = .ok (.ireturn, 1) := dk_172 (dk_at dksX0_seconds_2 22 rfl rfl)
abbrev cX0_car : ByteArray := prog_1_method_37_code
def yX0_car : MethodName := ⟨RX0, "car", "(II)I"⟩
def dkwX0_car_7 : List UInt8 := [180, 1, 59, 27, 50, 28, 16, 100, 100, 51, 153, 0, 7, 3, 167, 0, 9, 4, 167, 0, 5, 16, 254, 172]
abbrev dktX0_car_7 : List UInt8 := dkwX0_car_7 ++ []
def dkwX0_car_6 : List UInt8 := [46, 172, 28, 16, 100, 161, 0, 39, 42, 28, 16, 100, 100, 182, 1, 93, 153, 0, 28, 42, 180, 0, 78]
abbrev dktX0_car_6 : List UInt8 := dkwX0_car_6 ++ dktX0_car_7
def dkwX0_car_5 : List UInt8 := [180, 1, 40, 27, 46, 172, 42, 180, 0, 78, 180, 1, 43, 27, 46, 172, 42, 180, 0, 78, 180, 1, 46, 27]
abbrev dktX0_car_5 : List UInt8 := dkwX0_car_5 ++ dktX0_car_6
def dkwX0_car_4 : List UInt8 := [167, 0, 4, 3, 172, 45, 180, 1, 140, 172, 42, 180, 0, 78, 180, 1, 31, 27, 46, 172, 42, 180, 0, 78]
abbrev dktX0_car_4 : List UInt8 := dkwX0_car_4 ++ dktX0_car_5
def dkwX0_car_3 : List UInt8 := [27, 5, 182, 1, 151, 172, 42, 180, 0, 94, 27, 4, 182, 1, 151, 172, 45, 180, 1, 109, 153, 0, 7, 4]
abbrev dktX0_car_3 : List UInt8 := dkwX0_car_3 ++ dktX0_car_4
def dkwX0_car_2 : List UInt8 := [45, 180, 1, 149, 172, 45, 180, 1, 124, 172, 45, 180, 1, 120, 172, 45, 180, 1, 121, 172, 42, 180, 0, 94]
abbrev dktX0_car_2 : List UInt8 := dkwX0_car_2 ++ dktX0_car_3
def dkwX0_car_1 : List UInt8 := [170, 0, 0, 0, 0, 160, 0, 0, 0, 0, 0, 0, 0, 11, 0, 0, 0, 62, 0, 0, 0, 67, 0, 0, 0, 72, 0, 0, 0, 77, 0, 0, 0, 82, 0, 0, 0, 92, 0, 0, 0, 102, 0, 0, 0, 115, 0, 0, 0, 120, 0, 0, 0, 130, 0, 0, 0, 140, 0, 0, 0, 150]
abbrev dktX0_car_1 : List UInt8 := dkwX0_car_1 ++ dktX0_car_2
def dkwX0_car_0 : List UInt8 := [42, 27, 182, 1, 133, 154, 0, 6, 16, 254, 172, 42, 180, 0, 94, 180, 1, 106, 27, 50, 78, 28]
abbrev dktX0_car_0 : List UInt8 := dkwX0_car_0 ++ dktX0_car_1
theorem dksX0_car_0 : cX0_car.data.toList.drop 0 = dktX0_car_0 := by decide +kernel
theorem dksX0_car_1 : cX0_car.data.toList.drop 22 = dktX0_car_1 := dk_seg dksX0_car_0 22 rfl rfl
theorem dksX0_car_2 : cX0_car.data.toList.drop 84 = dktX0_car_2 := dk_seg dksX0_car_1 62 rfl rfl
theorem dksX0_car_3 : cX0_car.data.toList.drop 108 = dktX0_car_3 := dk_seg dksX0_car_2 24 rfl rfl
theorem dksX0_car_4 : cX0_car.data.toList.drop 132 = dktX0_car_4 := dk_seg dksX0_car_3 24 rfl rfl
theorem dksX0_car_5 : cX0_car.data.toList.drop 156 = dktX0_car_5 := dk_seg dksX0_car_4 24 rfl rfl
theorem dksX0_car_6 : cX0_car.data.toList.drop 180 = dktX0_car_6 := dk_seg dksX0_car_5 24 rfl rfl
theorem dksX0_car_7 : cX0_car.data.toList.drop 203 = dktX0_car_7 := dk_seg dksX0_car_6 23 rfl rfl
theorem dX0_car_0 : decode cX0_car 0 = .ok (.aload_n 0, 1) := dk_42 (dk_at dksX0_car_0 0 rfl rfl)
theorem dX0_car_1 : decode cX0_car 1 = .ok (.iload_n 1, 1) := dk_27 (dk_at dksX0_car_0 1 rfl rfl)
theorem dX0_car_2 : decode cX0_car 2 = .ok (.invokevirtual 389, 3) := dk_182 1 133 (dk_at dksX0_car_0 2 rfl rfl)
theorem dX0_car_5 : decode cX0_car 5 = .ok (.ifCond .ne 6, 3) := dk_154 0 6 (dk_at dksX0_car_0 5 rfl rfl)
theorem dX0_car_8 : decode cX0_car 8 = .ok (.bipush (-2), 2) := dk_16 254 (dk_at dksX0_car_0 8 rfl rfl)
theorem dX0_car_10 : decode cX0_car 10 = .ok (.ireturn, 1) := dk_172 (dk_at dksX0_car_0 10 rfl rfl)
theorem dX0_car_11 : decode cX0_car 11 = .ok (.aload_n 0, 1) := dk_42 (dk_at dksX0_car_0 11 rfl rfl)
theorem dX0_car_12 : decode cX0_car 12 = .ok (.getfield 94, 3) := dk_180 0 94 (dk_at dksX0_car_0 12 rfl rfl)
theorem dX0_car_15 : decode cX0_car 15 = .ok (.getfield 362, 3) := dk_180 1 106 (dk_at dksX0_car_0 15 rfl rfl)
theorem dX0_car_18 : decode cX0_car 18 = .ok (.iload_n 1, 1) := dk_27 (dk_at dksX0_car_0 18 rfl rfl)
theorem dX0_car_19 : decode cX0_car 19 = .ok (.aaload, 1) := dk_50 (dk_at dksX0_car_0 19 rfl rfl)
theorem dX0_car_20 : decode cX0_car 20 = .ok (.astore_n 3, 1) := dk_78 (dk_at dksX0_car_0 20 rfl rfl)
theorem dX0_car_21 : decode cX0_car 21 = .ok (.iload_n 2, 1) := dk_28 (dk_at dksX0_car_0 21 rfl rfl)
theorem dX0_car_22 : decode cX0_car 22 = .ok (.tableswitch 160 0 11 #[62, 67, 72, 77, 82, 92, 102, 115, 120, 130, 140, 150], 62) := by decide +kernel
theorem dX0_car_84 : decode cX0_car 84 = .ok (.aload_n 3, 1) := dk_45 (dk_at dksX0_car_2 0 rfl rfl)
theorem dX0_car_85 : decode cX0_car 85 = .ok (.getfield 405, 3) := dk_180 1 149 (dk_at dksX0_car_2 1 rfl rfl)
theorem dX0_car_88 : decode cX0_car 88 = .ok (.ireturn, 1) := dk_172 (dk_at dksX0_car_2 4 rfl rfl)
theorem dX0_car_89 : decode cX0_car 89 = .ok (.aload_n 3, 1) := dk_45 (dk_at dksX0_car_2 5 rfl rfl)
theorem dX0_car_90 : decode cX0_car 90 = .ok (.getfield 380, 3) := dk_180 1 124 (dk_at dksX0_car_2 6 rfl rfl)
theorem dX0_car_93 : decode cX0_car 93 = .ok (.ireturn, 1) := dk_172 (dk_at dksX0_car_2 9 rfl rfl)
theorem dX0_car_94 : decode cX0_car 94 = .ok (.aload_n 3, 1) := dk_45 (dk_at dksX0_car_2 10 rfl rfl)
theorem dX0_car_95 : decode cX0_car 95 = .ok (.getfield 376, 3) := dk_180 1 120 (dk_at dksX0_car_2 11 rfl rfl)
theorem dX0_car_98 : decode cX0_car 98 = .ok (.ireturn, 1) := dk_172 (dk_at dksX0_car_2 14 rfl rfl)
theorem dX0_car_99 : decode cX0_car 99 = .ok (.aload_n 3, 1) := dk_45 (dk_at dksX0_car_2 15 rfl rfl)
theorem dX0_car_100 : decode cX0_car 100 = .ok (.getfield 377, 3) := dk_180 1 121 (dk_at dksX0_car_2 16 rfl rfl)
theorem dX0_car_103 : decode cX0_car 103 = .ok (.ireturn, 1) := dk_172 (dk_at dksX0_car_2 19 rfl rfl)
theorem dX0_car_104 : decode cX0_car 104 = .ok (.aload_n 0, 1) := dk_42 (dk_at dksX0_car_2 20 rfl rfl)
theorem dX0_car_105 : decode cX0_car 105 = .ok (.getfield 94, 3) := dk_180 0 94 (dk_at dksX0_car_2 21 rfl rfl)
theorem dX0_car_108 : decode cX0_car 108 = .ok (.iload_n 1, 1) := dk_27 (dk_at dksX0_car_3 0 rfl rfl)
theorem dX0_car_109 : decode cX0_car 109 = .ok (.iconst 2, 1) := dk_5 (dk_at dksX0_car_3 1 rfl rfl)
theorem dX0_car_110 : decode cX0_car 110 = .ok (.invokevirtual 407, 3) := dk_182 1 151 (dk_at dksX0_car_3 2 rfl rfl)
theorem dX0_car_113 : decode cX0_car 113 = .ok (.ireturn, 1) := dk_172 (dk_at dksX0_car_3 5 rfl rfl)
theorem dX0_car_114 : decode cX0_car 114 = .ok (.aload_n 0, 1) := dk_42 (dk_at dksX0_car_3 6 rfl rfl)
theorem dX0_car_115 : decode cX0_car 115 = .ok (.getfield 94, 3) := dk_180 0 94 (dk_at dksX0_car_3 7 rfl rfl)
theorem dX0_car_118 : decode cX0_car 118 = .ok (.iload_n 1, 1) := dk_27 (dk_at dksX0_car_3 10 rfl rfl)
theorem dX0_car_119 : decode cX0_car 119 = .ok (.iconst 1, 1) := dk_4 (dk_at dksX0_car_3 11 rfl rfl)
theorem dX0_car_120 : decode cX0_car 120 = .ok (.invokevirtual 407, 3) := dk_182 1 151 (dk_at dksX0_car_3 12 rfl rfl)
theorem dX0_car_123 : decode cX0_car 123 = .ok (.ireturn, 1) := dk_172 (dk_at dksX0_car_3 15 rfl rfl)
theorem dX0_car_124 : decode cX0_car 124 = .ok (.aload_n 3, 1) := dk_45 (dk_at dksX0_car_3 16 rfl rfl)
theorem dX0_car_125 : decode cX0_car 125 = .ok (.getfield 365, 3) := dk_180 1 109 (dk_at dksX0_car_3 17 rfl rfl)
theorem dX0_car_128 : decode cX0_car 128 = .ok (.ifCond .eq 7, 3) := dk_153 0 7 (dk_at dksX0_car_3 20 rfl rfl)
theorem dX0_car_131 : decode cX0_car 131 = .ok (.iconst 1, 1) := dk_4 (dk_at dksX0_car_3 23 rfl rfl)
theorem dX0_car_132 : decode cX0_car 132 = .ok (.goto 4, 3) := dk_167 0 4 (dk_at dksX0_car_4 0 rfl rfl)
theorem dX0_car_135 : decode cX0_car 135 = .ok (.iconst 0, 1) := dk_3 (dk_at dksX0_car_4 3 rfl rfl)
theorem dX0_car_136 : decode cX0_car 136 = .ok (.ireturn, 1) := dk_172 (dk_at dksX0_car_4 4 rfl rfl)
theorem dX0_car_137 : decode cX0_car 137 = .ok (.aload_n 3, 1) := dk_45 (dk_at dksX0_car_4 5 rfl rfl)
theorem dX0_car_138 : decode cX0_car 138 = .ok (.getfield 396, 3) := dk_180 1 140 (dk_at dksX0_car_4 6 rfl rfl)
theorem dX0_car_141 : decode cX0_car 141 = .ok (.ireturn, 1) := dk_172 (dk_at dksX0_car_4 9 rfl rfl)
theorem dX0_car_142 : decode cX0_car 142 = .ok (.aload_n 0, 1) := dk_42 (dk_at dksX0_car_4 10 rfl rfl)
theorem dX0_car_143 : decode cX0_car 143 = .ok (.getfield 78, 3) := dk_180 0 78 (dk_at dksX0_car_4 11 rfl rfl)
theorem dX0_car_146 : decode cX0_car 146 = .ok (.getfield 287, 3) := dk_180 1 31 (dk_at dksX0_car_4 14 rfl rfl)
theorem dX0_car_149 : decode cX0_car 149 = .ok (.iload_n 1, 1) := dk_27 (dk_at dksX0_car_4 17 rfl rfl)
theorem dX0_car_150 : decode cX0_car 150 = .ok (.iaload, 1) := dk_46 (dk_at dksX0_car_4 18 rfl rfl)
theorem dX0_car_151 : decode cX0_car 151 = .ok (.ireturn, 1) := dk_172 (dk_at dksX0_car_4 19 rfl rfl)
theorem dX0_car_152 : decode cX0_car 152 = .ok (.aload_n 0, 1) := dk_42 (dk_at dksX0_car_4 20 rfl rfl)
theorem dX0_car_153 : decode cX0_car 153 = .ok (.getfield 78, 3) := dk_180 0 78 (dk_at dksX0_car_4 21 rfl rfl)
theorem dX0_car_156 : decode cX0_car 156 = .ok (.getfield 296, 3) := dk_180 1 40 (dk_at dksX0_car_5 0 rfl rfl)
theorem dX0_car_159 : decode cX0_car 159 = .ok (.iload_n 1, 1) := dk_27 (dk_at dksX0_car_5 3 rfl rfl)
theorem dX0_car_160 : decode cX0_car 160 = .ok (.iaload, 1) := dk_46 (dk_at dksX0_car_5 4 rfl rfl)
theorem dX0_car_161 : decode cX0_car 161 = .ok (.ireturn, 1) := dk_172 (dk_at dksX0_car_5 5 rfl rfl)
theorem dX0_car_162 : decode cX0_car 162 = .ok (.aload_n 0, 1) := dk_42 (dk_at dksX0_car_5 6 rfl rfl)
theorem dX0_car_163 : decode cX0_car 163 = .ok (.getfield 78, 3) := dk_180 0 78 (dk_at dksX0_car_5 7 rfl rfl)
theorem dX0_car_166 : decode cX0_car 166 = .ok (.getfield 299, 3) := dk_180 1 43 (dk_at dksX0_car_5 10 rfl rfl)
theorem dX0_car_169 : decode cX0_car 169 = .ok (.iload_n 1, 1) := dk_27 (dk_at dksX0_car_5 13 rfl rfl)
theorem dX0_car_170 : decode cX0_car 170 = .ok (.iaload, 1) := dk_46 (dk_at dksX0_car_5 14 rfl rfl)
theorem dX0_car_171 : decode cX0_car 171 = .ok (.ireturn, 1) := dk_172 (dk_at dksX0_car_5 15 rfl rfl)
theorem dX0_car_172 : decode cX0_car 172 = .ok (.aload_n 0, 1) := dk_42 (dk_at dksX0_car_5 16 rfl rfl)
theorem dX0_car_173 : decode cX0_car 173 = .ok (.getfield 78, 3) := dk_180 0 78 (dk_at dksX0_car_5 17 rfl rfl)
theorem dX0_car_176 : decode cX0_car 176 = .ok (.getfield 302, 3) := dk_180 1 46 (dk_at dksX0_car_5 20 rfl rfl)
theorem dX0_car_179 : decode cX0_car 179 = .ok (.iload_n 1, 1) := dk_27 (dk_at dksX0_car_5 23 rfl rfl)
theorem dX0_car_180 : decode cX0_car 180 = .ok (.iaload, 1) := dk_46 (dk_at dksX0_car_6 0 rfl rfl)
theorem dX0_car_181 : decode cX0_car 181 = .ok (.ireturn, 1) := dk_172 (dk_at dksX0_car_6 1 rfl rfl)
theorem dX0_car_182 : decode cX0_car 182 = .ok (.iload_n 2, 1) := dk_28 (dk_at dksX0_car_6 2 rfl rfl)
theorem dX0_car_183 : decode cX0_car 183 = .ok (.bipush 100, 2) := dk_16 100 (dk_at dksX0_car_6 3 rfl rfl)
theorem dX0_car_185 : decode cX0_car 185 = .ok (.if_icmp .lt 39, 3) := dk_161 0 39 (dk_at dksX0_car_6 5 rfl rfl)
theorem dX0_car_188 : decode cX0_car 188 = .ok (.aload_n 0, 1) := dk_42 (dk_at dksX0_car_6 8 rfl rfl)
theorem dX0_car_189 : decode cX0_car 189 = .ok (.iload_n 2, 1) := dk_28 (dk_at dksX0_car_6 9 rfl rfl)
theorem dX0_car_190 : decode cX0_car 190 = .ok (.bipush 100, 2) := dk_16 100 (dk_at dksX0_car_6 10 rfl rfl)
theorem dX0_car_192 : decode cX0_car 192 = .ok (.isub, 1) := dk_100 (dk_at dksX0_car_6 12 rfl rfl)
theorem dX0_car_193 : decode cX0_car 193 = .ok (.invokevirtual 349, 3) := dk_182 1 93 (dk_at dksX0_car_6 13 rfl rfl)
theorem dX0_car_196 : decode cX0_car 196 = .ok (.ifCond .eq 28, 3) := dk_153 0 28 (dk_at dksX0_car_6 16 rfl rfl)
theorem dX0_car_199 : decode cX0_car 199 = .ok (.aload_n 0, 1) := dk_42 (dk_at dksX0_car_6 19 rfl rfl)
theorem dX0_car_200 : decode cX0_car 200 = .ok (.getfield 78, 3) := dk_180 0 78 (dk_at dksX0_car_6 20 rfl rfl)
theorem dX0_car_203 : decode cX0_car 203 = .ok (.getfield 315, 3) := dk_180 1 59 (dk_at dksX0_car_7 0 rfl rfl)
theorem dX0_car_206 : decode cX0_car 206 = .ok (.iload_n 1, 1) := dk_27 (dk_at dksX0_car_7 3 rfl rfl)
theorem dX0_car_207 : decode cX0_car 207 = .ok (.aaload, 1) := dk_50 (dk_at dksX0_car_7 4 rfl rfl)
theorem dX0_car_208 : decode cX0_car 208 = .ok (.iload_n 2, 1) := dk_28 (dk_at dksX0_car_7 5 rfl rfl)
theorem dX0_car_209 : decode cX0_car 209 = .ok (.bipush 100, 2) := dk_16 100 (dk_at dksX0_car_7 6 rfl rfl)
theorem dX0_car_211 : decode cX0_car 211 = .ok (.isub, 1) := dk_100 (dk_at dksX0_car_7 8 rfl rfl)
theorem dX0_car_212 : decode cX0_car 212 = .ok (.baload, 1) := dk_51 (dk_at dksX0_car_7 9 rfl rfl)
theorem dX0_car_213 : decode cX0_car 213 = .ok (.ifCond .eq 7, 3) := dk_153 0 7 (dk_at dksX0_car_7 10 rfl rfl)
theorem dX0_car_216 : decode cX0_car 216 = .ok (.iconst 0, 1) := dk_3 (dk_at dksX0_car_7 13 rfl rfl)
theorem dX0_car_217 : decode cX0_car 217 = .ok (.goto 9, 3) := dk_167 0 9 (dk_at dksX0_car_7 14 rfl rfl)
theorem dX0_car_220 : decode cX0_car 220 = .ok (.iconst 1, 1) := dk_4 (dk_at dksX0_car_7 17 rfl rfl)
theorem dX0_car_221 : decode cX0_car 221 = .ok (.goto 5, 3) := dk_167 0 5 (dk_at dksX0_car_7 18 rfl rfl)
theorem dX0_car_224 : decode cX0_car 224 = .ok (.bipush (-2), 2) := dk_16 254 (dk_at dksX0_car_7 21 rfl rfl)
theorem dX0_car_226 : decode cX0_car 226 = .ok (.ireturn, 1) := dk_172 (dk_at dksX0_car_7 23 rfl rfl)
abbrev cX0_person : ByteArray := prog_1_method_38_code
def yX0_person : MethodName := ⟨RX0, "person", "(II)I"⟩
def dkwX0_person_4 : List UInt8 := [180, 1, 117, 6, 160, 0, 15, 45, 180, 1, 167, 45, 180, 1, 164, 100, 167, 0, 4, 2, 172, 16, 254, 172]
abbrev dktX0_person_4 : List UInt8 := dkwX0_person_4 ++ []
def dkwX0_person_3 : List UInt8 := [172, 45, 180, 1, 117, 5, 161, 0, 15, 45, 180, 1, 164, 45, 180, 1, 157, 100, 167, 0, 4, 2, 172, 45]
abbrev dktX0_person_3 : List UInt8 := dkwX0_person_3 ++ dktX0_person_4
def dkwX0_person_2 : List UInt8 := [45, 180, 1, 157, 172, 45, 180, 1, 160, 172, 45, 180, 1, 161, 172, 45, 180, 1, 117, 172, 45, 180, 1, 115]
abbrev dktX0_person_2 : List UInt8 := dkwX0_person_2 ++ dktX0_person_3
def dkwX0_person_1 : List UInt8 := [170, 0, 0, 0, 0, 111, 0, 0, 0, 0, 0, 0, 0, 6, 0, 0, 0, 42, 0, 0, 0, 47, 0, 0, 0, 52, 0, 0, 0, 57, 0, 0, 0, 62, 0, 0, 0, 67, 0, 0, 0, 89]
abbrev dktX0_person_1 : List UInt8 := dkwX0_person_1 ++ dktX0_person_2
def dkwX0_person_0 : List UInt8 := [42, 27, 182, 1, 154, 154, 0, 6, 16, 254, 172, 42, 180, 0, 94, 180, 1, 96, 27, 50, 78, 28]
abbrev dktX0_person_0 : List UInt8 := dkwX0_person_0 ++ dktX0_person_1
theorem dksX0_person_0 : cX0_person.data.toList.drop 0 = dktX0_person_0 := by decide +kernel
theorem dksX0_person_1 : cX0_person.data.toList.drop 22 = dktX0_person_1 := dk_seg dksX0_person_0 22 rfl rfl
theorem dksX0_person_2 : cX0_person.data.toList.drop 64 = dktX0_person_2 := dk_seg dksX0_person_1 42 rfl rfl
theorem dksX0_person_3 : cX0_person.data.toList.drop 88 = dktX0_person_3 := dk_seg dksX0_person_2 24 rfl rfl
theorem dksX0_person_4 : cX0_person.data.toList.drop 112 = dktX0_person_4 := dk_seg dksX0_person_3 24 rfl rfl
theorem dX0_person_0 : decode cX0_person 0 = .ok (.aload_n 0, 1) := dk_42 (dk_at dksX0_person_0 0 rfl rfl)
theorem dX0_person_1 : decode cX0_person 1 = .ok (.iload_n 1, 1) := dk_27 (dk_at dksX0_person_0 1 rfl rfl)
theorem dX0_person_2 : decode cX0_person 2 = .ok (.invokevirtual 410, 3) := dk_182 1 154 (dk_at dksX0_person_0 2 rfl rfl)
theorem dX0_person_5 : decode cX0_person 5 = .ok (.ifCond .ne 6, 3) := dk_154 0 6 (dk_at dksX0_person_0 5 rfl rfl)
theorem dX0_person_8 : decode cX0_person 8 = .ok (.bipush (-2), 2) := dk_16 254 (dk_at dksX0_person_0 8 rfl rfl)
theorem dX0_person_10 : decode cX0_person 10 = .ok (.ireturn, 1) := dk_172 (dk_at dksX0_person_0 10 rfl rfl)
theorem dX0_person_11 : decode cX0_person 11 = .ok (.aload_n 0, 1) := dk_42 (dk_at dksX0_person_0 11 rfl rfl)
theorem dX0_person_12 : decode cX0_person 12 = .ok (.getfield 94, 3) := dk_180 0 94 (dk_at dksX0_person_0 12 rfl rfl)
theorem dX0_person_15 : decode cX0_person 15 = .ok (.getfield 352, 3) := dk_180 1 96 (dk_at dksX0_person_0 15 rfl rfl)
theorem dX0_person_18 : decode cX0_person 18 = .ok (.iload_n 1, 1) := dk_27 (dk_at dksX0_person_0 18 rfl rfl)
theorem dX0_person_19 : decode cX0_person 19 = .ok (.aaload, 1) := dk_50 (dk_at dksX0_person_0 19 rfl rfl)
theorem dX0_person_20 : decode cX0_person 20 = .ok (.astore_n 3, 1) := dk_78 (dk_at dksX0_person_0 20 rfl rfl)
theorem dX0_person_21 : decode cX0_person 21 = .ok (.iload_n 2, 1) := dk_28 (dk_at dksX0_person_0 21 rfl rfl)
theorem dX0_person_22 : decode cX0_person 22 = .ok (.tableswitch 111 0 6 #[42, 47, 52, 57, 62, 67, 89], 42) := by decide +kernel
theorem dX0_person_64 : decode cX0_person 64 = .ok (.aload_n 3, 1) := dk_45 (dk_at dksX0_person_2 0 rfl rfl)
theorem dX0_person_65 : decode cX0_person 65 = .ok (.getfield 413, 3) := dk_180 1 157 (dk_at dksX0_person_2 1 rfl rfl)
theorem dX0_person_68 : decode cX0_person 68 = .ok (.ireturn, 1) := dk_172 (dk_at dksX0_person_2 4 rfl rfl)
theorem dX0_person_69 : decode cX0_person 69 = .ok (.aload_n 3, 1) := dk_45 (dk_at dksX0_person_2 5 rfl rfl)
theorem dX0_person_70 : decode cX0_person 70 = .ok (.getfield 416, 3) := dk_180 1 160 (dk_at dksX0_person_2 6 rfl rfl)
theorem dX0_person_73 : decode cX0_person 73 = .ok (.ireturn, 1) := dk_172 (dk_at dksX0_person_2 9 rfl rfl)
theorem dX0_person_74 : decode cX0_person 74 = .ok (.aload_n 3, 1) := dk_45 (dk_at dksX0_person_2 10 rfl rfl)
theorem dX0_person_75 : decode cX0_person 75 = .ok (.getfield 417, 3) := dk_180 1 161 (dk_at dksX0_person_2 11 rfl rfl)
theorem dX0_person_78 : decode cX0_person 78 = .ok (.ireturn, 1) := dk_172 (dk_at dksX0_person_2 14 rfl rfl)
theorem dX0_person_79 : decode cX0_person 79 = .ok (.aload_n 3, 1) := dk_45 (dk_at dksX0_person_2 15 rfl rfl)
theorem dX0_person_80 : decode cX0_person 80 = .ok (.getfield 373, 3) := dk_180 1 117 (dk_at dksX0_person_2 16 rfl rfl)
theorem dX0_person_83 : decode cX0_person 83 = .ok (.ireturn, 1) := dk_172 (dk_at dksX0_person_2 19 rfl rfl)
theorem dX0_person_84 : decode cX0_person 84 = .ok (.aload_n 3, 1) := dk_45 (dk_at dksX0_person_2 20 rfl rfl)
theorem dX0_person_85 : decode cX0_person 85 = .ok (.getfield 371, 3) := dk_180 1 115 (dk_at dksX0_person_2 21 rfl rfl)
theorem dX0_person_88 : decode cX0_person 88 = .ok (.ireturn, 1) := dk_172 (dk_at dksX0_person_3 0 rfl rfl)
theorem dX0_person_89 : decode cX0_person 89 = .ok (.aload_n 3, 1) := dk_45 (dk_at dksX0_person_3 1 rfl rfl)
theorem dX0_person_90 : decode cX0_person 90 = .ok (.getfield 373, 3) := dk_180 1 117 (dk_at dksX0_person_3 2 rfl rfl)
theorem dX0_person_93 : decode cX0_person 93 = .ok (.iconst 2, 1) := dk_5 (dk_at dksX0_person_3 5 rfl rfl)
theorem dX0_person_94 : decode cX0_person 94 = .ok (.if_icmp .lt 15, 3) := dk_161 0 15 (dk_at dksX0_person_3 6 rfl rfl)
theorem dX0_person_97 : decode cX0_person 97 = .ok (.aload_n 3, 1) := dk_45 (dk_at dksX0_person_3 9 rfl rfl)
theorem dX0_person_98 : decode cX0_person 98 = .ok (.getfield 420, 3) := dk_180 1 164 (dk_at dksX0_person_3 10 rfl rfl)
theorem dX0_person_101 : decode cX0_person 101 = .ok (.aload_n 3, 1) := dk_45 (dk_at dksX0_person_3 13 rfl rfl)
theorem dX0_person_102 : decode cX0_person 102 = .ok (.getfield 413, 3) := dk_180 1 157 (dk_at dksX0_person_3 14 rfl rfl)
theorem dX0_person_105 : decode cX0_person 105 = .ok (.isub, 1) := dk_100 (dk_at dksX0_person_3 17 rfl rfl)
theorem dX0_person_106 : decode cX0_person 106 = .ok (.goto 4, 3) := dk_167 0 4 (dk_at dksX0_person_3 18 rfl rfl)
theorem dX0_person_109 : decode cX0_person 109 = .ok (.iconst (-1), 1) := dk_2 (dk_at dksX0_person_3 21 rfl rfl)
theorem dX0_person_110 : decode cX0_person 110 = .ok (.ireturn, 1) := dk_172 (dk_at dksX0_person_3 22 rfl rfl)
theorem dX0_person_111 : decode cX0_person 111 = .ok (.aload_n 3, 1) := dk_45 (dk_at dksX0_person_3 23 rfl rfl)
theorem dX0_person_112 : decode cX0_person 112 = .ok (.getfield 373, 3) := dk_180 1 117 (dk_at dksX0_person_4 0 rfl rfl)
theorem dX0_person_115 : decode cX0_person 115 = .ok (.iconst 3, 1) := dk_6 (dk_at dksX0_person_4 3 rfl rfl)
theorem dX0_person_116 : decode cX0_person 116 = .ok (.if_icmp .ne 15, 3) := dk_160 0 15 (dk_at dksX0_person_4 4 rfl rfl)
theorem dX0_person_119 : decode cX0_person 119 = .ok (.aload_n 3, 1) := dk_45 (dk_at dksX0_person_4 7 rfl rfl)
theorem dX0_person_120 : decode cX0_person 120 = .ok (.getfield 423, 3) := dk_180 1 167 (dk_at dksX0_person_4 8 rfl rfl)
theorem dX0_person_123 : decode cX0_person 123 = .ok (.aload_n 3, 1) := dk_45 (dk_at dksX0_person_4 11 rfl rfl)
theorem dX0_person_124 : decode cX0_person 124 = .ok (.getfield 420, 3) := dk_180 1 164 (dk_at dksX0_person_4 12 rfl rfl)
theorem dX0_person_127 : decode cX0_person 127 = .ok (.isub, 1) := dk_100 (dk_at dksX0_person_4 15 rfl rfl)
theorem dX0_person_128 : decode cX0_person 128 = .ok (.goto 4, 3) := dk_167 0 4 (dk_at dksX0_person_4 16 rfl rfl)
theorem dX0_person_131 : decode cX0_person 131 = .ok (.iconst (-1), 1) := dk_2 (dk_at dksX0_person_4 19 rfl rfl)
theorem dX0_person_132 : decode cX0_person 132 = .ok (.ireturn, 1) := dk_172 (dk_at dksX0_person_4 20 rfl rfl)
theorem dX0_person_133 : decode cX0_person 133 = .ok (.bipush (-2), 2) := dk_16 254 (dk_at dksX0_person_4 21 rfl rfl)
theorem dX0_person_135 : decode cX0_person 135 = .ok (.ireturn, 1) := dk_172 (dk_at dksX0_person_4 23 rfl rfl)
abbrev cX0_isOne : ByteArray := prog_1_method_32_code
def yX0_isOne : MethodName := ⟨RX0, "isOne", "(I)Z"⟩
def dkwX0_isOne_0 : List UInt8 := [27, 3, 42, 180, 0, 94, 180, 1, 89, 4, 100, 184, 0, 137, 172]
abbrev dktX0_isOne_0 : List UInt8 := dkwX0_isOne_0 ++ []
theorem dksX0_isOne_0 : cX0_isOne.data.toList.drop 0 = dktX0_isOne_0 := by decide +kernel
theorem dX0_isOne_0 : decode cX0_isOne 0 = .ok (.iload_n 1, 1) := dk_27 (dk_at dksX0_isOne_0 0 rfl rfl)
theorem dX0_isOne_1 : decode cX0_isOne 1 = .ok (.iconst 0, 1) := dk_3 (dk_at dksX0_isOne_0 1 rfl rfl)
theorem dX0_isOne_2 : decode cX0_isOne 2 = .ok (.aload_n 0, 1) := dk_42 (dk_at dksX0_isOne_0 2 rfl rfl)
theorem dX0_isOne_3 : decode cX0_isOne 3 = .ok (.getfield 94, 3) := dk_180 0 94 (dk_at dksX0_isOne_0 3 rfl rfl)
theorem dX0_isOne_6 : decode cX0_isOne 6 = .ok (.getfield 345, 3) := dk_180 1 89 (dk_at dksX0_isOne_0 6 rfl rfl)
theorem dX0_isOne_9 : decode cX0_isOne 9 = .ok (.iconst 1, 1) := dk_4 (dk_at dksX0_isOne_0 9 rfl rfl)
theorem dX0_isOne_10 : decode cX0_isOne 10 = .ok (.isub, 1) := dk_100 (dk_at dksX0_isOne_0 10 rfl rfl)
theorem dX0_isOne_11 : decode cX0_isOne 11 = .ok (.invokestatic 137, 3) := dk_184 0 137 (dk_at dksX0_isOne_0 11 rfl rfl)
theorem dX0_isOne_14 : decode cX0_isOne 14 = .ok (.ireturn, 1) := dk_172 (dk_at dksX0_isOne_0 14 rfl rfl)
abbrev cX0_cost : ByteArray := prog_1_method_39_code
def yX0_cost : MethodName := ⟨RX0, "cost", "(III)I"⟩
def dkwX0_cost_3 : List UInt8 := [21, 4, 172]
abbrev dktX0_cost_3 : List UInt8 := dkwX0_cost_3 ++ []
def dkwX0_cost_2 : List UInt8 := [28, 29, 182, 1, 171, 54, 4, 42, 180, 0, 94, 180, 1, 175, 153, 0, 9, 19, 1, 170, 167, 0, 5]
abbrev dktX0_cost_2 : List UInt8 := dkwX0_cost_2 ++ dktX0_cost_3
def dkwX0_cost_1 : List UInt8 := [42, 28, 182, 1, 133, 153, 0, 10, 29, 184, 1, 127, 154, 0, 7, 19, 1, 170, 172, 42, 180, 0, 94, 27]
abbrev dktX0_cost_1 : List UInt8 := dkwX0_cost_1 ++ dktX0_cost_2
def dkwX0_cost_0 : List UInt8 := [42, 27, 182, 1, 154, 153, 0, 34, 42, 180, 0, 94, 180, 1, 96, 27, 50, 180, 1, 117, 4, 160, 0, 18]
abbrev dktX0_cost_0 : List UInt8 := dkwX0_cost_0 ++ dktX0_cost_1
theorem dksX0_cost_0 : cX0_cost.data.toList.drop 0 = dktX0_cost_0 := by decide +kernel
theorem dksX0_cost_1 : cX0_cost.data.toList.drop 24 = dktX0_cost_1 := dk_seg dksX0_cost_0 24 rfl rfl
theorem dksX0_cost_2 : cX0_cost.data.toList.drop 48 = dktX0_cost_2 := dk_seg dksX0_cost_1 24 rfl rfl
theorem dksX0_cost_3 : cX0_cost.data.toList.drop 71 = dktX0_cost_3 := dk_seg dksX0_cost_2 23 rfl rfl
theorem dX0_cost_0 : decode cX0_cost 0 = .ok (.aload_n 0, 1) := dk_42 (dk_at dksX0_cost_0 0 rfl rfl)
theorem dX0_cost_1 : decode cX0_cost 1 = .ok (.iload_n 1, 1) := dk_27 (dk_at dksX0_cost_0 1 rfl rfl)
theorem dX0_cost_2 : decode cX0_cost 2 = .ok (.invokevirtual 410, 3) := dk_182 1 154 (dk_at dksX0_cost_0 2 rfl rfl)
theorem dX0_cost_5 : decode cX0_cost 5 = .ok (.ifCond .eq 34, 3) := dk_153 0 34 (dk_at dksX0_cost_0 5 rfl rfl)
theorem dX0_cost_8 : decode cX0_cost 8 = .ok (.aload_n 0, 1) := dk_42 (dk_at dksX0_cost_0 8 rfl rfl)
theorem dX0_cost_9 : decode cX0_cost 9 = .ok (.getfield 94, 3) := dk_180 0 94 (dk_at dksX0_cost_0 9 rfl rfl)
theorem dX0_cost_12 : decode cX0_cost 12 = .ok (.getfield 352, 3) := dk_180 1 96 (dk_at dksX0_cost_0 12 rfl rfl)
theorem dX0_cost_15 : decode cX0_cost 15 = .ok (.iload_n 1, 1) := dk_27 (dk_at dksX0_cost_0 15 rfl rfl)
theorem dX0_cost_16 : decode cX0_cost 16 = .ok (.aaload, 1) := dk_50 (dk_at dksX0_cost_0 16 rfl rfl)
theorem dX0_cost_17 : decode cX0_cost 17 = .ok (.getfield 373, 3) := dk_180 1 117 (dk_at dksX0_cost_0 17 rfl rfl)
theorem dX0_cost_20 : decode cX0_cost 20 = .ok (.iconst 1, 1) := dk_4 (dk_at dksX0_cost_0 20 rfl rfl)
theorem dX0_cost_21 : decode cX0_cost 21 = .ok (.if_icmp .ne 18, 3) := dk_160 0 18 (dk_at dksX0_cost_0 21 rfl rfl)
theorem dX0_cost_24 : decode cX0_cost 24 = .ok (.aload_n 0, 1) := dk_42 (dk_at dksX0_cost_1 0 rfl rfl)
theorem dX0_cost_25 : decode cX0_cost 25 = .ok (.iload_n 2, 1) := dk_28 (dk_at dksX0_cost_1 1 rfl rfl)
theorem dX0_cost_26 : decode cX0_cost 26 = .ok (.invokevirtual 389, 3) := dk_182 1 133 (dk_at dksX0_cost_1 2 rfl rfl)
theorem dX0_cost_29 : decode cX0_cost 29 = .ok (.ifCond .eq 10, 3) := dk_153 0 10 (dk_at dksX0_cost_1 5 rfl rfl)
theorem dX0_cost_32 : decode cX0_cost 32 = .ok (.iload_n 3, 1) := dk_29 (dk_at dksX0_cost_1 8 rfl rfl)
theorem dX0_cost_33 : decode cX0_cost 33 = .ok (.invokestatic 383, 3) := dk_184 1 127 (dk_at dksX0_cost_1 9 rfl rfl)
theorem dX0_cost_36 : decode cX0_cost 36 = .ok (.ifCond .ne 7, 3) := dk_154 0 7 (dk_at dksX0_cost_1 12 rfl rfl)
theorem dX0_cost_39 : decode cX0_cost 39 = .ok (.ldc_w 426, 3) := dk_19 1 170 (dk_at dksX0_cost_1 15 rfl rfl)
theorem dX0_cost_42 : decode cX0_cost 42 = .ok (.ireturn, 1) := dk_172 (dk_at dksX0_cost_1 18 rfl rfl)
theorem dX0_cost_43 : decode cX0_cost 43 = .ok (.aload_n 0, 1) := dk_42 (dk_at dksX0_cost_1 19 rfl rfl)
theorem dX0_cost_44 : decode cX0_cost 44 = .ok (.getfield 94, 3) := dk_180 0 94 (dk_at dksX0_cost_1 20 rfl rfl)
theorem dX0_cost_47 : decode cX0_cost 47 = .ok (.iload_n 1, 1) := dk_27 (dk_at dksX0_cost_1 23 rfl rfl)
theorem dX0_cost_48 : decode cX0_cost 48 = .ok (.iload_n 2, 1) := dk_28 (dk_at dksX0_cost_2 0 rfl rfl)
theorem dX0_cost_49 : decode cX0_cost 49 = .ok (.iload_n 3, 1) := dk_29 (dk_at dksX0_cost_2 1 rfl rfl)
theorem dX0_cost_50 : decode cX0_cost 50 = .ok (.invokevirtual 427, 3) := dk_182 1 171 (dk_at dksX0_cost_2 2 rfl rfl)
theorem dX0_cost_53 : decode cX0_cost 53 = .ok (.istore 4, 2) := dk_54 4 (dk_at dksX0_cost_2 5 rfl rfl)
theorem dX0_cost_55 : decode cX0_cost 55 = .ok (.aload_n 0, 1) := dk_42 (dk_at dksX0_cost_2 7 rfl rfl)
theorem dX0_cost_56 : decode cX0_cost 56 = .ok (.getfield 94, 3) := dk_180 0 94 (dk_at dksX0_cost_2 8 rfl rfl)
theorem dX0_cost_59 : decode cX0_cost 59 = .ok (.getfield 431, 3) := dk_180 1 175 (dk_at dksX0_cost_2 11 rfl rfl)
theorem dX0_cost_62 : decode cX0_cost 62 = .ok (.ifCond .eq 9, 3) := dk_153 0 9 (dk_at dksX0_cost_2 14 rfl rfl)
theorem dX0_cost_65 : decode cX0_cost 65 = .ok (.ldc_w 426, 3) := dk_19 1 170 (dk_at dksX0_cost_2 17 rfl rfl)
theorem dX0_cost_68 : decode cX0_cost 68 = .ok (.goto 5, 3) := dk_167 0 5 (dk_at dksX0_cost_2 20 rfl rfl)
theorem dX0_cost_71 : decode cX0_cost 71 = .ok (.iload 4, 2) := dk_21 4 (dk_at dksX0_cost_3 0 rfl rfl)
theorem dX0_cost_73 : decode cX0_cost 73 = .ok (.ireturn, 1) := dk_172 (dk_at dksX0_cost_3 2 rfl rfl)
abbrev cX0_sums : ByteArray := prog_1_method_40_code
def yX0_sums : MethodName := ⟨RX0, "sums", "(I)I"⟩
def dkwX0_sums_5 : List UInt8 := [167, 255, 146, 27, 3, 6, 184, 0, 137, 153, 0, 9, 44, 27, 46, 167, 0, 4, 2, 172]
abbrev dktX0_sums_5 : List UInt8 := dkwX0_sums_5 ++ []
def dkwX0_sums_4 : List UInt8 := [25, 4, 180, 1, 167, 25, 4, 180, 1, 164, 100, 96, 79, 44, 6, 92, 46, 4, 96, 79, 132, 3, 1]
abbrev dktX0_sums_4 : List UInt8 := dkwX0_sums_4 ++ dktX0_sums_5
def dkwX0_sums_3 : List UInt8 := [180, 1, 157, 100, 184, 1, 178, 79, 25, 4, 180, 1, 117, 6, 159, 0, 6, 167, 0, 27, 44, 4, 92, 46]
abbrev dktX0_sums_3 : List UInt8 := dkwX0_sums_3 ++ dktX0_sums_4
def dkwX0_sums_2 : List UInt8 := [180, 1, 164, 25, 4, 180, 1, 157, 100, 96, 79, 44, 5, 44, 5, 46, 25, 4, 180, 1, 164, 25, 4]
abbrev dktX0_sums_2 : List UInt8 := dkwX0_sums_2 ++ dktX0_sums_3
def dkwX0_sums_1 : List UInt8 := [29, 50, 58, 4, 25, 4, 180, 1, 117, 5, 162, 0, 6, 167, 0, 76, 44, 3, 92, 46, 25, 4]
abbrev dktX0_sums_1 : List UInt8 := dkwX0_sums_1 ++ dktX0_sums_2
def dkwX0_sums_0 : List UInt8 := [7, 188, 10, 77, 3, 62, 29, 42, 180, 0, 94, 180, 1, 89, 162, 0, 105, 42, 180, 0, 94, 180, 1, 96]
abbrev dktX0_sums_0 : List UInt8 := dkwX0_sums_0 ++ dktX0_sums_1
theorem dksX0_sums_0 : cX0_sums.data.toList.drop 0 = dktX0_sums_0 := by decide +kernel
theorem dksX0_sums_1 : cX0_sums.data.toList.drop 24 = dktX0_sums_1 := dk_seg dksX0_sums_0 24 rfl rfl
theorem dksX0_sums_2 : cX0_sums.data.toList.drop 46 = dktX0_sums_2 := dk_seg dksX0_sums_1 22 rfl rfl
theorem dksX0_sums_3 : cX0_sums.data.toList.drop 69 = dktX0_sums_3 := dk_seg dksX0_sums_2 23 rfl rfl
theorem dksX0_sums_4 : cX0_sums.data.toList.drop 93 = dktX0_sums_4 := dk_seg dksX0_sums_3 24 rfl rfl
theorem dksX0_sums_5 : cX0_sums.data.toList.drop 116 = dktX0_sums_5 := dk_seg dksX0_sums_4 23 rfl rfl
theorem dX0_sums_0 : decode cX0_sums 0 = .ok (.iconst 4, 1) := dk_7 (dk_at dksX0_sums_0 0 rfl rfl)
theorem dX0_sums_1 : decode cX0_sums 1 = .ok (.newarray .int, 2) := dk_188_10 (dk_at dksX0_sums_0 1 rfl rfl)
theorem dX0_sums_3 : decode cX0_sums 3 = .ok (.astore_n 2, 1) := dk_77 (dk_at dksX0_sums_0 3 rfl rfl)
theorem dX0_sums_4 : decode cX0_sums 4 = .ok (.iconst 0, 1) := dk_3 (dk_at dksX0_sums_0 4 rfl rfl)
theorem dX0_sums_5 : decode cX0_sums 5 = .ok (.istore_n 3, 1) := dk_62 (dk_at dksX0_sums_0 5 rfl rfl)
theorem dX0_sums_6 : decode cX0_sums 6 = .ok (.iload_n 3, 1) := dk_29 (dk_at dksX0_sums_0 6 rfl rfl)
theorem dX0_sums_7 : decode cX0_sums 7 = .ok (.aload_n 0, 1) := dk_42 (dk_at dksX0_sums_0 7 rfl rfl)
theorem dX0_sums_8 : decode cX0_sums 8 = .ok (.getfield 94, 3) := dk_180 0 94 (dk_at dksX0_sums_0 8 rfl rfl)
theorem dX0_sums_11 : decode cX0_sums 11 = .ok (.getfield 345, 3) := dk_180 1 89 (dk_at dksX0_sums_0 11 rfl rfl)
theorem dX0_sums_14 : decode cX0_sums 14 = .ok (.if_icmp .ge 105, 3) := dk_162 0 105 (dk_at dksX0_sums_0 14 rfl rfl)
theorem dX0_sums_17 : decode cX0_sums 17 = .ok (.aload_n 0, 1) := dk_42 (dk_at dksX0_sums_0 17 rfl rfl)
theorem dX0_sums_18 : decode cX0_sums 18 = .ok (.getfield 94, 3) := dk_180 0 94 (dk_at dksX0_sums_0 18 rfl rfl)
theorem dX0_sums_21 : decode cX0_sums 21 = .ok (.getfield 352, 3) := dk_180 1 96 (dk_at dksX0_sums_0 21 rfl rfl)
theorem dX0_sums_24 : decode cX0_sums 24 = .ok (.iload_n 3, 1) := dk_29 (dk_at dksX0_sums_1 0 rfl rfl)
theorem dX0_sums_25 : decode cX0_sums 25 = .ok (.aaload, 1) := dk_50 (dk_at dksX0_sums_1 1 rfl rfl)
theorem dX0_sums_26 : decode cX0_sums 26 = .ok (.astore 4, 2) := dk_58 4 (dk_at dksX0_sums_1 2 rfl rfl)
theorem dX0_sums_28 : decode cX0_sums 28 = .ok (.aload 4, 2) := dk_25 4 (dk_at dksX0_sums_1 4 rfl rfl)
theorem dX0_sums_30 : decode cX0_sums 30 = .ok (.getfield 373, 3) := dk_180 1 117 (dk_at dksX0_sums_1 6 rfl rfl)
theorem dX0_sums_33 : decode cX0_sums 33 = .ok (.iconst 2, 1) := dk_5 (dk_at dksX0_sums_1 9 rfl rfl)
theorem dX0_sums_34 : decode cX0_sums 34 = .ok (.if_icmp .ge 6, 3) := dk_162 0 6 (dk_at dksX0_sums_1 10 rfl rfl)
theorem dX0_sums_37 : decode cX0_sums 37 = .ok (.goto 76, 3) := dk_167 0 76 (dk_at dksX0_sums_1 13 rfl rfl)
theorem dX0_sums_40 : decode cX0_sums 40 = .ok (.aload_n 2, 1) := dk_44 (dk_at dksX0_sums_1 16 rfl rfl)
theorem dX0_sums_41 : decode cX0_sums 41 = .ok (.iconst 0, 1) := dk_3 (dk_at dksX0_sums_1 17 rfl rfl)
theorem dX0_sums_42 : decode cX0_sums 42 = .ok (.dup2, 1) := dk_92 (dk_at dksX0_sums_1 18 rfl rfl)
theorem dX0_sums_43 : decode cX0_sums 43 = .ok (.iaload, 1) := dk_46 (dk_at dksX0_sums_1 19 rfl rfl)
theorem dX0_sums_44 : decode cX0_sums 44 = .ok (.aload 4, 2) := dk_25 4 (dk_at dksX0_sums_1 20 rfl rfl)
theorem dX0_sums_46 : decode cX0_sums 46 = .ok (.getfield 420, 3) := dk_180 1 164 (dk_at dksX0_sums_2 0 rfl rfl)
theorem dX0_sums_49 : decode cX0_sums 49 = .ok (.aload 4, 2) := dk_25 4 (dk_at dksX0_sums_2 3 rfl rfl)
theorem dX0_sums_51 : decode cX0_sums 51 = .ok (.getfield 413, 3) := dk_180 1 157 (dk_at dksX0_sums_2 5 rfl rfl)
theorem dX0_sums_54 : decode cX0_sums 54 = .ok (.isub, 1) := dk_100 (dk_at dksX0_sums_2 8 rfl rfl)
theorem dX0_sums_55 : decode cX0_sums 55 = .ok (.iadd, 1) := dk_96 (dk_at dksX0_sums_2 9 rfl rfl)
theorem dX0_sums_56 : decode cX0_sums 56 = .ok (.iastore, 1) := dk_79 (dk_at dksX0_sums_2 10 rfl rfl)
theorem dX0_sums_57 : decode cX0_sums 57 = .ok (.aload_n 2, 1) := dk_44 (dk_at dksX0_sums_2 11 rfl rfl)
theorem dX0_sums_58 : decode cX0_sums 58 = .ok (.iconst 2, 1) := dk_5 (dk_at dksX0_sums_2 12 rfl rfl)
theorem dX0_sums_59 : decode cX0_sums 59 = .ok (.aload_n 2, 1) := dk_44 (dk_at dksX0_sums_2 13 rfl rfl)
theorem dX0_sums_60 : decode cX0_sums 60 = .ok (.iconst 2, 1) := dk_5 (dk_at dksX0_sums_2 14 rfl rfl)
theorem dX0_sums_61 : decode cX0_sums 61 = .ok (.iaload, 1) := dk_46 (dk_at dksX0_sums_2 15 rfl rfl)
theorem dX0_sums_62 : decode cX0_sums 62 = .ok (.aload 4, 2) := dk_25 4 (dk_at dksX0_sums_2 16 rfl rfl)
theorem dX0_sums_64 : decode cX0_sums 64 = .ok (.getfield 420, 3) := dk_180 1 164 (dk_at dksX0_sums_2 18 rfl rfl)
