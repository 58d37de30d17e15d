set_option maxRecDepth 100000
theorem dksX6_tells_10 : cX6_tells.data.toList.drop 231 = dktX6_tells_10 := dk_seg dksX6_tells_9 24 rfl rfl
theorem dksX6_tells_11 : cX6_tells.data.toList.drop 255 = dktX6_tells_11 := dk_seg dksX6_tells_10 24 rfl rfl
theorem dksX6_tells_12 : cX6_tells.data.toList.drop 279 = dktX6_tells_12 := dk_seg dksX6_tells_11 24 rfl rfl
theorem dksX6_tells_13 : cX6_tells.data.toList.drop 303 = dktX6_tells_13 := dk_seg dksX6_tells_12 24 rfl rfl
theorem dksX6_tells_14 : cX6_tells.data.toList.drop 327 = dktX6_tells_14 := dk_seg dksX6_tells_13 24 rfl rfl
theorem dksX6_tells_15 : cX6_tells.data.toList.drop 349 = dktX6_tells_15 := dk_seg dksX6_tells_14 22 rfl rfl
theorem dX6_tells_0 : decode cX6_tells 0 = .ok (.aload_n 0, 1) := dk_42 (dk_at dksX6_tells_0 0 rfl rfl)
theorem dX6_tells_1 : decode cX6_tells 1 = .ok (.iload_n 2, 1) := dk_28 (dk_at dksX6_tells_0 1 rfl rfl)
theorem dX6_tells_2 : decode cX6_tells 2 = .ok (.iconst 1, 1) := dk_4 (dk_at dksX6_tells_0 2 rfl rfl)
theorem dX6_tells_3 : decode cX6_tells 3 = .ok (.invokevirtual 248, 3) := dk_182 0 248 (dk_at dksX6_tells_0 3 rfl rfl)
theorem dX6_tells_6 : decode cX6_tells 6 = .ok (.istore 4, 2) := dk_54 4 (dk_at dksX6_tells_0 6 rfl rfl)
theorem dX6_tells_8 : decode cX6_tells 8 = .ok (.aload_n 0, 1) := dk_42 (dk_at dksX6_tells_0 8 rfl rfl)
theorem dX6_tells_9 : decode cX6_tells 9 = .ok (.getfield 34, 3) := dk_180 0 34 (dk_at dksX6_tells_0 9 rfl rfl)
theorem dX6_tells_12 : decode cX6_tells 12 = .ok (.iconst 1, 1) := dk_4 (dk_at dksX6_tells_0 12 rfl rfl)
theorem dX6_tells_13 : decode cX6_tells 13 = .ok (.aload_n 0, 1) := dk_42 (dk_at dksX6_tells_0 13 rfl rfl)
theorem dX6_tells_14 : decode cX6_tells 14 = .ok (.iload_n 2, 1) := dk_28 (dk_at dksX6_tells_0 14 rfl rfl)
theorem dX6_tells_15 : decode cX6_tells 15 = .ok (.iconst 0, 1) := dk_3 (dk_at dksX6_tells_0 15 rfl rfl)
theorem dX6_tells_16 : decode cX6_tells 16 = .ok (.invokevirtual 248, 3) := dk_182 0 248 (dk_at dksX6_tells_0 16 rfl rfl)
theorem dX6_tells_19 : decode cX6_tells 19 = .ok (.aload_n 0, 1) := dk_42 (dk_at dksX6_tells_0 19 rfl rfl)
theorem dX6_tells_20 : decode cX6_tells 20 = .ok (.iload_n 1, 1) := dk_27 (dk_at dksX6_tells_0 20 rfl rfl)
theorem dX6_tells_21 : decode cX6_tells 21 = .ok (.iconst 1, 1) := dk_4 (dk_at dksX6_tells_0 21 rfl rfl)
theorem dX6_tells_22 : decode cX6_tells 22 = .ok (.invokevirtual 271, 3) := dk_182 1 15 (dk_at dksX6_tells_1 0 rfl rfl)
theorem dX6_tells_25 : decode cX6_tells 25 = .ok (.invokestatic 274, 3) := dk_184 1 18 (dk_at dksX6_tells_1 3 rfl rfl)
theorem dX6_tells_28 : decode cX6_tells 28 = .ok (.iastore, 1) := dk_79 (dk_at dksX6_tells_1 6 rfl rfl)
theorem dX6_tells_29 : decode cX6_tells 29 = .ok (.aload_n 0, 1) := dk_42 (dk_at dksX6_tells_1 7 rfl rfl)
theorem dX6_tells_30 : decode cX6_tells 30 = .ok (.getfield 34, 3) := dk_180 0 34 (dk_at dksX6_tells_1 8 rfl rfl)
theorem dX6_tells_33 : decode cX6_tells 33 = .ok (.iconst 2, 1) := dk_5 (dk_at dksX6_tells_1 11 rfl rfl)
theorem dX6_tells_34 : decode cX6_tells 34 = .ok (.iload 4, 2) := dk_21 4 (dk_at dksX6_tells_1 12 rfl rfl)
theorem dX6_tells_36 : decode cX6_tells 36 = .ok (.ifCond .eq 36, 3) := dk_153 0 36 (dk_at dksX6_tells_1 14 rfl rfl)
theorem dX6_tells_39 : decode cX6_tells 39 = .ok (.iload 4, 2) := dk_21 4 (dk_at dksX6_tells_1 17 rfl rfl)
theorem dX6_tells_41 : decode cX6_tells 41 = .ok (.aload_n 0, 1) := dk_42 (dk_at dksX6_tells_1 19 rfl rfl)
theorem dX6_tells_42 : decode cX6_tells 42 = .ok (.iload_n 1, 1) := dk_27 (dk_at dksX6_tells_1 20 rfl rfl)
theorem dX6_tells_43 : decode cX6_tells 43 = .ok (.invokevirtual 277, 3) := dk_182 1 21 (dk_at dksX6_tells_1 21 rfl rfl)
theorem dX6_tells_46 : decode cX6_tells 46 = .ok (.if_icmp .ne 26, 3) := dk_160 0 26 (dk_at dksX6_tells_2 0 rfl rfl)
theorem dX6_tells_49 : decode cX6_tells 49 = .ok (.aload_n 0, 1) := dk_42 (dk_at dksX6_tells_2 3 rfl rfl)
theorem dX6_tells_50 : decode cX6_tells 50 = .ok (.iload_n 1, 1) := dk_27 (dk_at dksX6_tells_2 4 rfl rfl)
theorem dX6_tells_51 : decode cX6_tells 51 = .ok (.iconst 1, 1) := dk_4 (dk_at dksX6_tells_2 5 rfl rfl)
theorem dX6_tells_52 : decode cX6_tells 52 = .ok (.invokevirtual 271, 3) := dk_182 1 15 (dk_at dksX6_tells_2 6 rfl rfl)
theorem dX6_tells_55 : decode cX6_tells 55 = .ok (.aload_n 0, 1) := dk_42 (dk_at dksX6_tells_2 9 rfl rfl)
theorem dX6_tells_56 : decode cX6_tells 56 = .ok (.iload_n 2, 1) := dk_28 (dk_at dksX6_tells_2 10 rfl rfl)
theorem dX6_tells_57 : decode cX6_tells 57 = .ok (.iconst 0, 1) := dk_3 (dk_at dksX6_tells_2 11 rfl rfl)
theorem dX6_tells_58 : decode cX6_tells 58 = .ok (.invokevirtual 248, 3) := dk_182 0 248 (dk_at dksX6_tells_2 12 rfl rfl)
theorem dX6_tells_61 : decode cX6_tells 61 = .ok (.isub, 1) := dk_100 (dk_at dksX6_tells_2 15 rfl rfl)
theorem dX6_tells_62 : decode cX6_tells 62 = .ok (.iload 4, 2) := dk_21 4 (dk_at dksX6_tells_2 16 rfl rfl)
theorem dX6_tells_64 : decode cX6_tells 64 = .ok (.imul, 1) := dk_104 (dk_at dksX6_tells_2 18 rfl rfl)
theorem dX6_tells_65 : decode cX6_tells 65 = .ok (.ifCond .lt 7, 3) := dk_155 0 7 (dk_at dksX6_tells_2 19 rfl rfl)
theorem dX6_tells_68 : decode cX6_tells 68 = .ok (.iconst 1, 1) := dk_4 (dk_at dksX6_tells_2 22 rfl rfl)
theorem dX6_tells_69 : decode cX6_tells 69 = .ok (.goto 4, 3) := dk_167 0 4 (dk_at dksX6_tells_3 0 rfl rfl)
theorem dX6_tells_72 : decode cX6_tells 72 = .ok (.iconst 0, 1) := dk_3 (dk_at dksX6_tells_3 3 rfl rfl)
theorem dX6_tells_73 : decode cX6_tells 73 = .ok (.iastore, 1) := dk_79 (dk_at dksX6_tells_3 4 rfl rfl)
theorem dX6_tells_74 : decode cX6_tells 74 = .ok (.aload_n 0, 1) := dk_42 (dk_at dksX6_tells_3 5 rfl rfl)
theorem dX6_tells_75 : decode cX6_tells 75 = .ok (.getfield 34, 3) := dk_180 0 34 (dk_at dksX6_tells_3 6 rfl rfl)
theorem dX6_tells_78 : decode cX6_tells 78 = .ok (.iconst 3, 1) := dk_6 (dk_at dksX6_tells_3 9 rfl rfl)
theorem dX6_tells_79 : decode cX6_tells 79 = .ok (.iload 4, 2) := dk_21 4 (dk_at dksX6_tells_3 10 rfl rfl)
theorem dX6_tells_81 : decode cX6_tells 81 = .ok (.ifCond .eq 17, 3) := dk_153 0 17 (dk_at dksX6_tells_3 12 rfl rfl)
theorem dX6_tells_84 : decode cX6_tells 84 = .ok (.iload 4, 2) := dk_21 4 (dk_at dksX6_tells_3 15 rfl rfl)
theorem dX6_tells_86 : decode cX6_tells 86 = .ok (.aload_n 0, 1) := dk_42 (dk_at dksX6_tells_3 17 rfl rfl)
theorem dX6_tells_87 : decode cX6_tells 87 = .ok (.iload_n 1, 1) := dk_27 (dk_at dksX6_tells_3 18 rfl rfl)
theorem dX6_tells_88 : decode cX6_tells 88 = .ok (.invokevirtual 277, 3) := dk_182 1 21 (dk_at dksX6_tells_3 19 rfl rfl)
theorem dX6_tells_91 : decode cX6_tells 91 = .ok (.if_icmp .eq 7, 3) := dk_159 0 7 (dk_at dksX6_tells_4 0 rfl rfl)
theorem dX6_tells_94 : decode cX6_tells 94 = .ok (.iconst 1, 1) := dk_4 (dk_at dksX6_tells_4 3 rfl rfl)
theorem dX6_tells_95 : decode cX6_tells 95 = .ok (.goto 4, 3) := dk_167 0 4 (dk_at dksX6_tells_4 4 rfl rfl)
theorem dX6_tells_98 : decode cX6_tells 98 = .ok (.iconst 0, 1) := dk_3 (dk_at dksX6_tells_4 7 rfl rfl)
theorem dX6_tells_99 : decode cX6_tells 99 = .ok (.iastore, 1) := dk_79 (dk_at dksX6_tells_4 8 rfl rfl)
theorem dX6_tells_100 : decode cX6_tells 100 = .ok (.aload_n 0, 1) := dk_42 (dk_at dksX6_tells_4 9 rfl rfl)
theorem dX6_tells_101 : decode cX6_tells 101 = .ok (.getfield 34, 3) := dk_180 0 34 (dk_at dksX6_tells_4 10 rfl rfl)
theorem dX6_tells_104 : decode cX6_tells 104 = .ok (.iconst 4, 1) := dk_7 (dk_at dksX6_tells_4 13 rfl rfl)
theorem dX6_tells_105 : decode cX6_tells 105 = .ok (.aload_n 0, 1) := dk_42 (dk_at dksX6_tells_4 14 rfl rfl)
theorem dX6_tells_106 : decode cX6_tells 106 = .ok (.iload_n 2, 1) := dk_28 (dk_at dksX6_tells_4 15 rfl rfl)
theorem dX6_tells_107 : decode cX6_tells 107 = .ok (.invokevirtual 280, 3) := dk_182 1 24 (dk_at dksX6_tells_4 16 rfl rfl)
theorem dX6_tells_110 : decode cX6_tells 110 = .ok (.iastore, 1) := dk_79 (dk_at dksX6_tells_4 19 rfl rfl)
theorem dX6_tells_111 : decode cX6_tells 111 = .ok (.aload_n 0, 1) := dk_42 (dk_at dksX6_tells_4 20 rfl rfl)
theorem dX6_tells_112 : decode cX6_tells 112 = .ok (.getfield 34, 3) := dk_180 0 34 (dk_at dksX6_tells_4 21 rfl rfl)
theorem dX6_tells_115 : decode cX6_tells 115 = .ok (.iconst 5, 1) := dk_8 (dk_at dksX6_tells_5 0 rfl rfl)
theorem dX6_tells_116 : decode cX6_tells 116 = .ok (.aload_n 0, 1) := dk_42 (dk_at dksX6_tells_5 1 rfl rfl)
theorem dX6_tells_117 : decode cX6_tells 117 = .ok (.iload_n 2, 1) := dk_28 (dk_at dksX6_tells_5 2 rfl rfl)
theorem dX6_tells_118 : decode cX6_tells 118 = .ok (.invokevirtual 283, 3) := dk_182 1 27 (dk_at dksX6_tells_5 3 rfl rfl)
theorem dX6_tells_121 : decode cX6_tells 121 = .ok (.iastore, 1) := dk_79 (dk_at dksX6_tells_5 6 rfl rfl)
theorem dX6_tells_122 : decode cX6_tells 122 = .ok (.aload_n 0, 1) := dk_42 (dk_at dksX6_tells_5 7 rfl rfl)
theorem dX6_tells_123 : decode cX6_tells 123 = .ok (.getfield 34, 3) := dk_180 0 34 (dk_at dksX6_tells_5 8 rfl rfl)
theorem dX6_tells_126 : decode cX6_tells 126 = .ok (.bipush 6, 2) := dk_16 6 (dk_at dksX6_tells_5 11 rfl rfl)
theorem dX6_tells_128 : decode cX6_tells 128 = .ok (.aload_n 0, 1) := dk_42 (dk_at dksX6_tells_5 13 rfl rfl)
theorem dX6_tells_129 : decode cX6_tells 129 = .ok (.iload_n 2, 1) := dk_28 (dk_at dksX6_tells_5 14 rfl rfl)
theorem dX6_tells_130 : decode cX6_tells 130 = .ok (.iconst 2, 1) := dk_5 (dk_at dksX6_tells_5 15 rfl rfl)
theorem dX6_tells_131 : decode cX6_tells 131 = .ok (.invokevirtual 248, 3) := dk_182 0 248 (dk_at dksX6_tells_5 16 rfl rfl)
theorem dX6_tells_134 : decode cX6_tells 134 = .ok (.ifCond .ne 7, 3) := dk_154 0 7 (dk_at dksX6_tells_5 19 rfl rfl)
theorem dX6_tells_137 : decode cX6_tells 137 = .ok (.iconst 1, 1) := dk_4 (dk_at dksX6_tells_5 22 rfl rfl)
theorem dX6_tells_138 : decode cX6_tells 138 = .ok (.goto 4, 3) := dk_167 0 4 (dk_at dksX6_tells_6 0 rfl rfl)
theorem dX6_tells_141 : decode cX6_tells 141 = .ok (.iconst 0, 1) := dk_3 (dk_at dksX6_tells_6 3 rfl rfl)
theorem dX6_tells_142 : decode cX6_tells 142 = .ok (.iastore, 1) := dk_79 (dk_at dksX6_tells_6 4 rfl rfl)
theorem dX6_tells_143 : decode cX6_tells 143 = .ok (.aload_n 0, 1) := dk_42 (dk_at dksX6_tells_6 5 rfl rfl)
theorem dX6_tells_144 : decode cX6_tells 144 = .ok (.getfield 34, 3) := dk_180 0 34 (dk_at dksX6_tells_6 6 rfl rfl)
theorem dX6_tells_147 : decode cX6_tells 147 = .ok (.bipush 7, 2) := dk_16 7 (dk_at dksX6_tells_6 9 rfl rfl)
theorem dX6_tells_149 : decode cX6_tells 149 = .ok (.aload_n 0, 1) := dk_42 (dk_at dksX6_tells_6 11 rfl rfl)
theorem dX6_tells_150 : decode cX6_tells 150 = .ok (.iload_n 1, 1) := dk_27 (dk_at dksX6_tells_6 12 rfl rfl)
theorem dX6_tells_151 : decode cX6_tells 151 = .ok (.invokevirtual 277, 3) := dk_182 1 21 (dk_at dksX6_tells_6 13 rfl rfl)
theorem dX6_tells_154 : decode cX6_tells 154 = .ok (.iconst 1, 1) := dk_4 (dk_at dksX6_tells_6 16 rfl rfl)
theorem dX6_tells_155 : decode cX6_tells 155 = .ok (.if_icmp .ne 7, 3) := dk_160 0 7 (dk_at dksX6_tells_6 17 rfl rfl)
theorem dX6_tells_158 : decode cX6_tells 158 = .ok (.iconst 1, 1) := dk_4 (dk_at dksX6_tells_6 20 rfl rfl)
theorem dX6_tells_159 : decode cX6_tells 159 = .ok (.goto 4, 3) := dk_167 0 4 (dk_at dksX6_tells_6 21 rfl rfl)
theorem dX6_tells_162 : decode cX6_tells 162 = .ok (.iconst 0, 1) := dk_3 (dk_at dksX6_tells_7 0 rfl rfl)
theorem dX6_tells_163 : decode cX6_tells 163 = .ok (.iastore, 1) := dk_79 (dk_at dksX6_tells_7 1 rfl rfl)
theorem dX6_tells_164 : decode cX6_tells 164 = .ok (.aload_n 0, 1) := dk_42 (dk_at dksX6_tells_7 2 rfl rfl)
theorem dX6_tells_165 : decode cX6_tells 165 = .ok (.getfield 34, 3) := dk_180 0 34 (dk_at dksX6_tells_7 3 rfl rfl)
theorem dX6_tells_168 : decode cX6_tells 168 = .ok (.bipush 8, 2) := dk_16 8 (dk_at dksX6_tells_7 6 rfl rfl)
theorem dX6_tells_170 : decode cX6_tells 170 = .ok (.aload_n 0, 1) := dk_42 (dk_at dksX6_tells_7 8 rfl rfl)
theorem dX6_tells_171 : decode cX6_tells 171 = .ok (.iload_n 1, 1) := dk_27 (dk_at dksX6_tells_7 9 rfl rfl)
theorem dX6_tells_172 : decode cX6_tells 172 = .ok (.iconst 1, 1) := dk_4 (dk_at dksX6_tells_7 10 rfl rfl)
theorem dX6_tells_173 : decode cX6_tells 173 = .ok (.invokevirtual 271, 3) := dk_182 1 15 (dk_at dksX6_tells_7 11 rfl rfl)
theorem dX6_tells_176 : decode cX6_tells 176 = .ok (.iastore, 1) := dk_79 (dk_at dksX6_tells_7 14 rfl rfl)
theorem dX6_tells_177 : decode cX6_tells 177 = .ok (.aload_n 0, 1) := dk_42 (dk_at dksX6_tells_7 15 rfl rfl)
theorem dX6_tells_178 : decode cX6_tells 178 = .ok (.getfield 34, 3) := dk_180 0 34 (dk_at dksX6_tells_7 16 rfl rfl)
theorem dX6_tells_181 : decode cX6_tells 181 = .ok (.bipush 9, 2) := dk_16 9 (dk_at dksX6_tells_7 19 rfl rfl)
theorem dX6_tells_183 : decode cX6_tells 183 = .ok (.aload_n 0, 1) := dk_42 (dk_at dksX6_tells_7 21 rfl rfl)
theorem dX6_tells_184 : decode cX6_tells 184 = .ok (.getfield 7, 3) := dk_180 0 7 (dk_at dksX6_tells_8 0 rfl rfl)
theorem dX6_tells_187 : decode cX6_tells 187 = .ok (.iconst 3, 1) := dk_6 (dk_at dksX6_tells_8 3 rfl rfl)
theorem dX6_tells_188 : decode cX6_tells 188 = .ok (.iaload, 1) := dk_46 (dk_at dksX6_tells_8 4 rfl rfl)
theorem dX6_tells_189 : decode cX6_tells 189 = .ok (.aload_n 0, 1) := dk_42 (dk_at dksX6_tells_8 5 rfl rfl)
theorem dX6_tells_190 : decode cX6_tells 190 = .ok (.iload_n 1, 1) := dk_27 (dk_at dksX6_tells_8 6 rfl rfl)
theorem dX6_tells_191 : decode cX6_tells 191 = .ok (.iconst 0, 1) := dk_3 (dk_at dksX6_tells_8 7 rfl rfl)
theorem dX6_tells_192 : decode cX6_tells 192 = .ok (.invokevirtual 271, 3) := dk_182 1 15 (dk_at dksX6_tells_8 8 rfl rfl)
theorem dX6_tells_195 : decode cX6_tells 195 = .ok (.isub, 1) := dk_100 (dk_at dksX6_tells_8 11 rfl rfl)
theorem dX6_tells_196 : decode cX6_tells 196 = .ok (.iastore, 1) := dk_79 (dk_at dksX6_tells_8 12 rfl rfl)
theorem dX6_tells_197 : decode cX6_tells 197 = .ok (.aload_n 0, 1) := dk_42 (dk_at dksX6_tells_8 13 rfl rfl)
theorem dX6_tells_198 : decode cX6_tells 198 = .ok (.getfield 34, 3) := dk_180 0 34 (dk_at dksX6_tells_8 14 rfl rfl)
theorem dX6_tells_201 : decode cX6_tells 201 = .ok (.bipush 10, 2) := dk_16 10 (dk_at dksX6_tells_8 17 rfl rfl)
theorem dX6_tells_203 : decode cX6_tells 203 = .ok (.iload_n 2, 1) := dk_28 (dk_at dksX6_tells_8 19 rfl rfl)
theorem dX6_tells_204 : decode cX6_tells 204 = .ok (.iastore, 1) := dk_79 (dk_at dksX6_tells_8 20 rfl rfl)
theorem dX6_tells_205 : decode cX6_tells 205 = .ok (.aload_n 0, 1) := dk_42 (dk_at dksX6_tells_8 21 rfl rfl)
theorem dX6_tells_206 : decode cX6_tells 206 = .ok (.iconst 0, 1) := dk_3 (dk_at dksX6_tells_8 22 rfl rfl)
theorem dX6_tells_207 : decode cX6_tells 207 = .ok (.putfield 285, 3) := dk_181 1 29 (dk_at dksX6_tells_9 0 rfl rfl)
theorem dX6_tells_210 : decode cX6_tells 210 = .ok (.iconst 0, 1) := dk_3 (dk_at dksX6_tells_9 3 rfl rfl)
theorem dX6_tells_211 : decode cX6_tells 211 = .ok (.istore 5, 2) := dk_54 5 (dk_at dksX6_tells_9 4 rfl rfl)
theorem dX6_tells_213 : decode cX6_tells 213 = .ok (.iload 5, 2) := dk_21 5 (dk_at dksX6_tells_9 6 rfl rfl)
theorem dX6_tells_215 : decode cX6_tells 215 = .ok (.aload_n 0, 1) := dk_42 (dk_at dksX6_tells_9 8 rfl rfl)
theorem dX6_tells_216 : decode cX6_tells 216 = .ok (.getfield 7, 3) := dk_180 0 7 (dk_at dksX6_tells_9 9 rfl rfl)
theorem dX6_tells_219 : decode cX6_tells 219 = .ok (.sipush 1300, 3) := dk_17 5 20 (dk_at dksX6_tells_9 12 rfl rfl)
theorem dX6_tells_222 : decode cX6_tells 222 = .ok (.iload_n 3, 1) := dk_29 (dk_at dksX6_tells_9 15 rfl rfl)
theorem dX6_tells_223 : decode cX6_tells 223 = .ok (.iadd, 1) := dk_96 (dk_at dksX6_tells_9 16 rfl rfl)
theorem dX6_tells_224 : decode cX6_tells 224 = .ok (.iaload, 1) := dk_46 (dk_at dksX6_tells_9 17 rfl rfl)
theorem dX6_tells_225 : decode cX6_tells 225 = .ok (.if_icmp .ge 127, 3) := dk_162 0 127 (dk_at dksX6_tells_9 18 rfl rfl)
theorem dX6_tells_228 : decode cX6_tells 228 = .ok (.bipush 16, 2) := dk_16 16 (dk_at dksX6_tells_9 21 rfl rfl)
theorem dX6_tells_230 : decode cX6_tells 230 = .ok (.iload_n 3, 1) := dk_29 (dk_at dksX6_tells_9 23 rfl rfl)
theorem dX6_tells_231 : decode cX6_tells 231 = .ok (.imul, 1) := dk_104 (dk_at dksX6_tells_10 0 rfl rfl)
theorem dX6_tells_232 : decode cX6_tells 232 = .ok (.iload 5, 2) := dk_21 5 (dk_at dksX6_tells_10 1 rfl rfl)
theorem dX6_tells_234 : decode cX6_tells 234 = .ok (.iadd, 1) := dk_96 (dk_at dksX6_tells_10 3 rfl rfl)
theorem dX6_tells_235 : decode cX6_tells 235 = .ok (.istore 6, 2) := dk_54 6 (dk_at dksX6_tells_10 4 rfl rfl)
theorem dX6_tells_237 : decode cX6_tells 237 = .ok (.aload_n 0, 1) := dk_42 (dk_at dksX6_tells_10 6 rfl rfl)
theorem dX6_tells_238 : decode cX6_tells 238 = .ok (.getfield 7, 3) := dk_180 0 7 (dk_at dksX6_tells_10 7 rfl rfl)
theorem dX6_tells_241 : decode cX6_tells 241 = .ok (.sipush 1460, 3) := dk_17 5 180 (dk_at dksX6_tells_10 10 rfl rfl)
theorem dX6_tells_244 : decode cX6_tells 244 = .ok (.iload 6, 2) := dk_21 6 (dk_at dksX6_tells_10 13 rfl rfl)
theorem dX6_tells_246 : decode cX6_tells 246 = .ok (.iadd, 1) := dk_96 (dk_at dksX6_tells_10 15 rfl rfl)
theorem dX6_tells_247 : decode cX6_tells 247 = .ok (.iaload, 1) := dk_46 (dk_at dksX6_tells_10 16 rfl rfl)
theorem dX6_tells_248 : decode cX6_tells 248 = .ok (.aload_n 0, 1) := dk_42 (dk_at dksX6_tells_10 17 rfl rfl)
theorem dX6_tells_249 : decode cX6_tells 249 = .ok (.getfield 7, 3) := dk_180 0 7 (dk_at dksX6_tells_10 18 rfl rfl)
theorem dX6_tells_252 : decode cX6_tells 252 = .ok (.sipush 1410, 3) := dk_17 5 130 (dk_at dksX6_tells_10 21 rfl rfl)
theorem dX6_tells_255 : decode cX6_tells 255 = .ok (.iload 6, 2) := dk_21 6 (dk_at dksX6_tells_11 0 rfl rfl)
theorem dX6_tells_257 : decode cX6_tells 257 = .ok (.iadd, 1) := dk_96 (dk_at dksX6_tells_11 2 rfl rfl)
theorem dX6_tells_258 : decode cX6_tells 258 = .ok (.iaload, 1) := dk_46 (dk_at dksX6_tells_11 3 rfl rfl)
theorem dX6_tells_259 : decode cX6_tells 259 = .ok (.if_icmp .eq 37, 3) := dk_159 0 37 (dk_at dksX6_tells_11 4 rfl rfl)
theorem dX6_tells_262 : decode cX6_tells 262 = .ok (.aload_n 0, 1) := dk_42 (dk_at dksX6_tells_11 7 rfl rfl)
theorem dX6_tells_263 : decode cX6_tells 263 = .ok (.iload_n 3, 1) := dk_29 (dk_at dksX6_tells_11 8 rfl rfl)
theorem dX6_tells_264 : decode cX6_tells 264 = .ok (.aload_n 0, 1) := dk_42 (dk_at dksX6_tells_11 9 rfl rfl)
theorem dX6_tells_265 : decode cX6_tells 265 = .ok (.getfield 7, 3) := dk_180 0 7 (dk_at dksX6_tells_11 10 rfl rfl)
theorem dX6_tells_268 : decode cX6_tells 268 = .ok (.sipush 1410, 3) := dk_17 5 130 (dk_at dksX6_tells_11 13 rfl rfl)
theorem dX6_tells_271 : decode cX6_tells 271 = .ok (.iload 6, 2) := dk_21 6 (dk_at dksX6_tells_11 16 rfl rfl)
theorem dX6_tells_273 : decode cX6_tells 273 = .ok (.iadd, 1) := dk_96 (dk_at dksX6_tells_11 18 rfl rfl)
theorem dX6_tells_274 : decode cX6_tells 274 = .ok (.iaload, 1) := dk_46 (dk_at dksX6_tells_11 19 rfl rfl)
theorem dX6_tells_275 : decode cX6_tells 275 = .ok (.aload_n 0, 1) := dk_42 (dk_at dksX6_tells_11 20 rfl rfl)
theorem dX6_tells_276 : decode cX6_tells 276 = .ok (.getfield 7, 3) := dk_180 0 7 (dk_at dksX6_tells_11 21 rfl rfl)
theorem dX6_tells_279 : decode cX6_tells 279 = .ok (.sipush 1460, 3) := dk_17 5 180 (dk_at dksX6_tells_12 0 rfl rfl)
theorem dX6_tells_282 : decode cX6_tells 282 = .ok (.iload 6, 2) := dk_21 6 (dk_at dksX6_tells_12 3 rfl rfl)
theorem dX6_tells_284 : decode cX6_tells 284 = .ok (.iadd, 1) := dk_96 (dk_at dksX6_tells_12 5 rfl rfl)
theorem dX6_tells_285 : decode cX6_tells 285 = .ok (.iaload, 1) := dk_46 (dk_at dksX6_tells_12 6 rfl rfl)
theorem dX6_tells_286 : decode cX6_tells 286 = .ok (.invokevirtual 288, 3) := dk_182 1 32 (dk_at dksX6_tells_12 7 rfl rfl)
theorem dX6_tells_289 : decode cX6_tells 289 = .ok (.iconst 1, 1) := dk_4 (dk_at dksX6_tells_12 10 rfl rfl)
theorem dX6_tells_290 : decode cX6_tells 290 = .ok (.if_icmp .eq 6, 3) := dk_159 0 6 (dk_at dksX6_tells_12 11 rfl rfl)
theorem dX6_tells_293 : decode cX6_tells 293 = .ok (.goto 53, 3) := dk_167 0 53 (dk_at dksX6_tells_12 14 rfl rfl)
theorem dX6_tells_296 : decode cX6_tells 296 = .ok (.aload_n 0, 1) := dk_42 (dk_at dksX6_tells_12 17 rfl rfl)
theorem dX6_tells_297 : decode cX6_tells 297 = .ok (.getfield 7, 3) := dk_180 0 7 (dk_at dksX6_tells_12 18 rfl rfl)
theorem dX6_tells_300 : decode cX6_tells 300 = .ok (.sipush 1310, 3) := dk_17 5 30 (dk_at dksX6_tells_12 21 rfl rfl)
theorem dX6_tells_303 : decode cX6_tells 303 = .ok (.iload 6, 2) := dk_21 6 (dk_at dksX6_tells_13 0 rfl rfl)
theorem dX6_tells_305 : decode cX6_tells 305 = .ok (.iadd, 1) := dk_96 (dk_at dksX6_tells_13 2 rfl rfl)
theorem dX6_tells_306 : decode cX6_tells 306 = .ok (.iaload, 1) := dk_46 (dk_at dksX6_tells_13 3 rfl rfl)
theorem dX6_tells_307 : decode cX6_tells 307 = .ok (.iconst 1, 1) := dk_4 (dk_at dksX6_tells_13 4 rfl rfl)
theorem dX6_tells_308 : decode cX6_tells 308 = .ok (.if_icmp .ne 5, 3) := dk_160 0 5 (dk_at dksX6_tells_13 5 rfl rfl)
theorem dX6_tells_311 : decode cX6_tells 311 = .ok (.iconst 0, 1) := dk_3 (dk_at dksX6_tells_13 8 rfl rfl)
theorem dX6_tells_312 : decode cX6_tells 312 = .ok (.ireturn, 1) := dk_172 (dk_at dksX6_tells_13 9 rfl rfl)
theorem dX6_tells_313 : decode cX6_tells 313 = .ok (.aload_n 0, 1) := dk_42 (dk_at dksX6_tells_13 10 rfl rfl)
theorem dX6_tells_314 : decode cX6_tells 314 = .ok (.aload_n 0, 1) := dk_42 (dk_at dksX6_tells_13 11 rfl rfl)
theorem dX6_tells_315 : decode cX6_tells 315 = .ok (.iload_n 3, 1) := dk_29 (dk_at dksX6_tells_13 12 rfl rfl)
theorem dX6_tells_316 : decode cX6_tells 316 = .ok (.aload_n 0, 1) := dk_42 (dk_at dksX6_tells_13 13 rfl rfl)
theorem dX6_tells_317 : decode cX6_tells 317 = .ok (.getfield 7, 3) := dk_180 0 7 (dk_at dksX6_tells_13 14 rfl rfl)
theorem dX6_tells_320 : decode cX6_tells 320 = .ok (.sipush 1360, 3) := dk_17 5 80 (dk_at dksX6_tells_13 17 rfl rfl)
theorem dX6_tells_323 : decode cX6_tells 323 = .ok (.iload 6, 2) := dk_21 6 (dk_at dksX6_tells_13 20 rfl rfl)
theorem dX6_tells_325 : decode cX6_tells 325 = .ok (.iadd, 1) := dk_96 (dk_at dksX6_tells_13 22 rfl rfl)
theorem dX6_tells_326 : decode cX6_tells 326 = .ok (.iaload, 1) := dk_46 (dk_at dksX6_tells_13 23 rfl rfl)
theorem dX6_tells_327 : decode cX6_tells 327 = .ok (.aload_n 0, 1) := dk_42 (dk_at dksX6_tells_14 0 rfl rfl)
theorem dX6_tells_328 : decode cX6_tells 328 = .ok (.getfield 7, 3) := dk_180 0 7 (dk_at dksX6_tells_14 1 rfl rfl)
theorem dX6_tells_331 : decode cX6_tells 331 = .ok (.sipush 1410, 3) := dk_17 5 130 (dk_at dksX6_tells_14 4 rfl rfl)
theorem dX6_tells_334 : decode cX6_tells 334 = .ok (.iload 6, 2) := dk_21 6 (dk_at dksX6_tells_14 7 rfl rfl)
theorem dX6_tells_336 : decode cX6_tells 336 = .ok (.iadd, 1) := dk_96 (dk_at dksX6_tells_14 9 rfl rfl)
theorem dX6_tells_337 : decode cX6_tells 337 = .ok (.iaload, 1) := dk_46 (dk_at dksX6_tells_14 10 rfl rfl)
theorem dX6_tells_338 : decode cX6_tells 338 = .ok (.invokevirtual 288, 3) := dk_182 1 32 (dk_at dksX6_tells_14 11 rfl rfl)
theorem dX6_tells_341 : decode cX6_tells 341 = .ok (.putfield 285, 3) := dk_181 1 29 (dk_at dksX6_tells_14 14 rfl rfl)
theorem dX6_tells_344 : decode cX6_tells 344 = .ok (.iconst 1, 1) := dk_4 (dk_at dksX6_tells_14 17 rfl rfl)
theorem dX6_tells_345 : decode cX6_tells 345 = .ok (.ireturn, 1) := dk_172 (dk_at dksX6_tells_14 18 rfl rfl)
theorem dX6_tells_346 : decode cX6_tells 346 = .ok (.iinc 5 1, 3) := dk_132 5 1 (dk_at dksX6_tells_14 19 rfl rfl)
theorem dX6_tells_349 : decode cX6_tells 349 = .ok (.goto (-136), 3) := dk_167 255 120 (dk_at dksX6_tells_15 0 rfl rfl)
theorem dX6_tells_352 : decode cX6_tells 352 = .ok (.iconst 1, 1) := dk_4 (dk_at dksX6_tells_15 3 rfl rfl)
theorem dX6_tells_353 : decode cX6_tells 353 = .ok (.ireturn, 1) := dk_172 (dk_at dksX6_tells_15 4 rfl rfl)
abbrev cX6_apart : ByteArray := prog_15_method_3_code
def yX6_apart : MethodName := ⟨RX6, "apart", "(II)I"⟩
def dkwX6_apart_0 : List UInt8 := [26, 27, 164, 0, 9, 26, 27, 100, 167, 0, 6, 27, 26, 100, 172]
abbrev dktX6_apart_0 : List UInt8 := dkwX6_apart_0 ++ []
theorem dksX6_apart_0 : cX6_apart.data.toList.drop 0 = dktX6_apart_0 := by decide +kernel
theorem dX6_apart_0 : decode cX6_apart 0 = .ok (.iload_n 0, 1) := dk_26 (dk_at dksX6_apart_0 0 rfl rfl)
theorem dX6_apart_1 : decode cX6_apart 1 = .ok (.iload_n 1, 1) := dk_27 (dk_at dksX6_apart_0 1 rfl rfl)
theorem dX6_apart_2 : decode cX6_apart 2 = .ok (.if_icmp .le 9, 3) := dk_164 0 9 (dk_at dksX6_apart_0 2 rfl rfl)
theorem dX6_apart_5 : decode cX6_apart 5 = .ok (.iload_n 0, 1) := dk_26 (dk_at dksX6_apart_0 5 rfl rfl)
theorem dX6_apart_6 : decode cX6_apart 6 = .ok (.iload_n 1, 1) := dk_27 (dk_at dksX6_apart_0 6 rfl rfl)
theorem dX6_apart_7 : decode cX6_apart 7 = .ok (.isub, 1) := dk_100 (dk_at dksX6_apart_0 7 rfl rfl)
theorem dX6_apart_8 : decode cX6_apart 8 = .ok (.goto 6, 3) := dk_167 0 6 (dk_at dksX6_apart_0 8 rfl rfl)
theorem dX6_apart_11 : decode cX6_apart 11 = .ok (.iload_n 1, 1) := dk_27 (dk_at dksX6_apart_0 11 rfl rfl)
theorem dX6_apart_12 : decode cX6_apart 12 = .ok (.iload_n 0, 1) := dk_26 (dk_at dksX6_apart_0 12 rfl rfl)
theorem dX6_apart_13 : decode cX6_apart 13 = .ok (.isub, 1) := dk_100 (dk_at dksX6_apart_0 13 rfl rfl)
theorem dX6_apart_14 : decode cX6_apart 14 = .ok (.ireturn, 1) := dk_172 (dk_at dksX6_apart_0 14 rfl rfl)
abbrev cX6_wayOf : ByteArray := prog_15_method_49_code
def yX6_wayOf : MethodName := ⟨RX6, "wayOf", "(I)I"⟩
def dkwX6_wayOf_0 : List UInt8 := [42, 27, 5, 182, 1, 15, 42, 27, 4, 182, 1, 15, 164, 0, 7, 4, 167, 0, 4, 2, 172]
abbrev dktX6_wayOf_0 : List UInt8 := dkwX6_wayOf_0 ++ []
theorem dksX6_wayOf_0 : cX6_wayOf.data.toList.drop 0 = dktX6_wayOf_0 := by decide +kernel
theorem dX6_wayOf_0 : decode cX6_wayOf 0 = .ok (.aload_n 0, 1) := dk_42 (dk_at dksX6_wayOf_0 0 rfl rfl)
theorem dX6_wayOf_1 : decode cX6_wayOf 1 = .ok (.iload_n 1, 1) := dk_27 (dk_at dksX6_wayOf_0 1 rfl rfl)
theorem dX6_wayOf_2 : decode cX6_wayOf 2 = .ok (.iconst 2, 1) := dk_5 (dk_at dksX6_wayOf_0 2 rfl rfl)
theorem dX6_wayOf_3 : decode cX6_wayOf 3 = .ok (.invokevirtual 271, 3) := dk_182 1 15 (dk_at dksX6_wayOf_0 3 rfl rfl)
theorem dX6_wayOf_6 : decode cX6_wayOf 6 = .ok (.aload_n 0, 1) := dk_42 (dk_at dksX6_wayOf_0 6 rfl rfl)
theorem dX6_wayOf_7 : decode cX6_wayOf 7 = .ok (.iload_n 1, 1) := dk_27 (dk_at dksX6_wayOf_0 7 rfl rfl)
theorem dX6_wayOf_8 : decode cX6_wayOf 8 = .ok (.iconst 1, 1) := dk_4 (dk_at dksX6_wayOf_0 8 rfl rfl)
theorem dX6_wayOf_9 : decode cX6_wayOf 9 = .ok (.invokevirtual 271, 3) := dk_182 1 15 (dk_at dksX6_wayOf_0 9 rfl rfl)
theorem dX6_wayOf_12 : decode cX6_wayOf 12 = .ok (.if_icmp .le 7, 3) := dk_164 0 7 (dk_at dksX6_wayOf_0 12 rfl rfl)
theorem dX6_wayOf_15 : decode cX6_wayOf 15 = .ok (.iconst 1, 1) := dk_4 (dk_at dksX6_wayOf_0 15 rfl rfl)
theorem dX6_wayOf_16 : decode cX6_wayOf 16 = .ok (.goto 4, 3) := dk_167 0 4 (dk_at dksX6_wayOf_0 16 rfl rfl)
theorem dX6_wayOf_19 : decode cX6_wayOf 19 = .ok (.iconst (-1), 1) := dk_2 (dk_at dksX6_wayOf_0 19 rfl rfl)
theorem dX6_wayOf_20 : decode cX6_wayOf 20 = .ok (.ireturn, 1) := dk_172 (dk_at dksX6_wayOf_0 20 rfl rfl)
abbrev cX6_riding : ByteArray := prog_15_method_50_code
def yX6_riding : MethodName := ⟨RX6, "riding", "(I)I"⟩
def dkwX6_riding_2 : List UInt8 := [167, 255, 215, 28, 172]
abbrev dktX6_riding_2 : List UInt8 := dkwX6_riding_2 ++ []
def dkwX6_riding_1 : List UInt8 := [160, 0, 17, 42, 29, 7, 182, 1, 15, 27, 160, 0, 7, 4, 167, 0, 4, 3, 96, 61, 132, 3, 1]
abbrev dktX6_riding_1 : List UInt8 := dkwX6_riding_1 ++ dktX6_riding_2
def dkwX6_riding_0 : List UInt8 := [3, 61, 3, 62, 29, 42, 180, 0, 7, 5, 46, 162, 0, 37, 28, 42, 29, 6, 182, 1, 15, 5]
abbrev dktX6_riding_0 : List UInt8 := dkwX6_riding_0 ++ dktX6_riding_1
theorem dksX6_riding_0 : cX6_riding.data.toList.drop 0 = dktX6_riding_0 := by decide +kernel
theorem dksX6_riding_1 : cX6_riding.data.toList.drop 22 = dktX6_riding_1 := dk_seg dksX6_riding_0 22 rfl rfl
theorem dksX6_riding_2 : cX6_riding.data.toList.drop 45 = dktX6_riding_2 := dk_seg dksX6_riding_1 23 rfl rfl
theorem dX6_riding_0 : decode cX6_riding 0 = .ok (.iconst 0, 1) := dk_3 (dk_at dksX6_riding_0 0 rfl rfl)
theorem dX6_riding_1 : decode cX6_riding 1 = .ok (.istore_n 2, 1) := dk_61 (dk_at dksX6_riding_0 1 rfl rfl)
theorem dX6_riding_2 : decode cX6_riding 2 = .ok (.iconst 0, 1) := dk_3 (dk_at dksX6_riding_0 2 rfl rfl)
theorem dX6_riding_3 : decode cX6_riding 3 = .ok (.istore_n 3, 1) := dk_62 (dk_at dksX6_riding_0 3 rfl rfl)
theorem dX6_riding_4 : decode cX6_riding 4 = .ok (.iload_n 3, 1) := dk_29 (dk_at dksX6_riding_0 4 rfl rfl)
theorem dX6_riding_5 : decode cX6_riding 5 = .ok (.aload_n 0, 1) := dk_42 (dk_at dksX6_riding_0 5 rfl rfl)
theorem dX6_riding_6 : decode cX6_riding 6 = .ok (.getfield 7, 3) := dk_180 0 7 (dk_at dksX6_riding_0 6 rfl rfl)
theorem dX6_riding_9 : decode cX6_riding 9 = .ok (.iconst 2, 1) := dk_5 (dk_at dksX6_riding_0 9 rfl rfl)
theorem dX6_riding_10 : decode cX6_riding 10 = .ok (.iaload, 1) := dk_46 (dk_at dksX6_riding_0 10 rfl rfl)
theorem dX6_riding_11 : decode cX6_riding 11 = .ok (.if_icmp .ge 37, 3) := dk_162 0 37 (dk_at dksX6_riding_0 11 rfl rfl)
theorem dX6_riding_14 : decode cX6_riding 14 = .ok (.iload_n 2, 1) := dk_28 (dk_at dksX6_riding_0 14 rfl rfl)
theorem dX6_riding_15 : decode cX6_riding 15 = .ok (.aload_n 0, 1) := dk_42 (dk_at dksX6_riding_0 15 rfl rfl)
theorem dX6_riding_16 : decode cX6_riding 16 = .ok (.iload_n 3, 1) := dk_29 (dk_at dksX6_riding_0 16 rfl rfl)
theorem dX6_riding_17 : decode cX6_riding 17 = .ok (.iconst 3, 1) := dk_6 (dk_at dksX6_riding_0 17 rfl rfl)
theorem dX6_riding_18 : decode cX6_riding 18 = .ok (.invokevirtual 271, 3) := dk_182 1 15 (dk_at dksX6_riding_0 18 rfl rfl)
theorem dX6_riding_21 : decode cX6_riding 21 = .ok (.iconst 2, 1) := dk_5 (dk_at dksX6_riding_0 21 rfl rfl)
theorem dX6_riding_22 : decode cX6_riding 22 = .ok (.if_icmp .ne 17, 3) := dk_160 0 17 (dk_at dksX6_riding_1 0 rfl rfl)
theorem dX6_riding_25 : decode cX6_riding 25 = .ok (.aload_n 0, 1) := dk_42 (dk_at dksX6_riding_1 3 rfl rfl)
theorem dX6_riding_26 : decode cX6_riding 26 = .ok (.iload_n 3, 1) := dk_29 (dk_at dksX6_riding_1 4 rfl rfl)
theorem dX6_riding_27 : decode cX6_riding 27 = .ok (.iconst 4, 1) := dk_7 (dk_at dksX6_riding_1 5 rfl rfl)
theorem dX6_riding_28 : decode cX6_riding 28 = .ok (.invokevirtual 271, 3) := dk_182 1 15 (dk_at dksX6_riding_1 6 rfl rfl)
theorem dX6_riding_31 : decode cX6_riding 31 = .ok (.iload_n 1, 1) := dk_27 (dk_at dksX6_riding_1 9 rfl rfl)
theorem dX6_riding_32 : decode cX6_riding 32 = .ok (.if_icmp .ne 7, 3) := dk_160 0 7 (dk_at dksX6_riding_1 10 rfl rfl)
theorem dX6_riding_35 : decode cX6_riding 35 = .ok (.iconst 1, 1) := dk_4 (dk_at dksX6_riding_1 13 rfl rfl)
theorem dX6_riding_36 : decode cX6_riding 36 = .ok (.goto 4, 3) := dk_167 0 4 (dk_at dksX6_riding_1 14 rfl rfl)
theorem dX6_riding_39 : decode cX6_riding 39 = .ok (.iconst 0, 1) := dk_3 (dk_at dksX6_riding_1 17 rfl rfl)
theorem dX6_riding_40 : decode cX6_riding 40 = .ok (.iadd, 1) := dk_96 (dk_at dksX6_riding_1 18 rfl rfl)
theorem dX6_riding_41 : decode cX6_riding 41 = .ok (.istore_n 2, 1) := dk_61 (dk_at dksX6_riding_1 19 rfl rfl)
theorem dX6_riding_42 : decode cX6_riding 42 = .ok (.iinc 3 1, 3) := dk_132 3 1 (dk_at dksX6_riding_1 20 rfl rfl)
theorem dX6_riding_45 : decode cX6_riding 45 = .ok (.goto (-41), 3) := dk_167 255 215 (dk_at dksX6_riding_2 0 rfl rfl)
theorem dX6_riding_48 : decode cX6_riding 48 = .ok (.iload_n 2, 1) := dk_28 (dk_at dksX6_riding_2 3 rfl rfl)
theorem dX6_riding_49 : decode cX6_riding 49 = .ok (.ireturn, 1) := dk_172 (dk_at dksX6_riding_2 4 rfl rfl)
abbrev cX6_given : ByteArray := prog_15_method_51_code
def yX6_given : MethodName := ⟨RX6, "given", "(I)I"⟩
def dkwX6_given_2 : List UInt8 := [167, 255, 215, 28, 172]
abbrev dktX6_given_2 : List UInt8 := dkwX6_given_2 ++ []
def dkwX6_given_1 : List UInt8 := [160, 0, 17, 42, 29, 7, 182, 1, 15, 27, 160, 0, 7, 4, 167, 0, 4, 3, 96, 61, 132, 3, 1]
abbrev dktX6_given_1 : List UInt8 := dkwX6_given_1 ++ dktX6_given_2
def dkwX6_given_0 : List UInt8 := [3, 61, 3, 62, 29, 42, 180, 0, 7, 5, 46, 162, 0, 37, 28, 42, 29, 6, 182, 1, 15, 4]
abbrev dktX6_given_0 : List UInt8 := dkwX6_given_0 ++ dktX6_given_1
theorem dksX6_given_0 : cX6_given.data.toList.drop 0 = dktX6_given_0 := by decide +kernel
theorem dksX6_given_1 : cX6_given.data.toList.drop 22 = dktX6_given_1 := dk_seg dksX6_given_0 22 rfl rfl
theorem dksX6_given_2 : cX6_given.data.toList.drop 45 = dktX6_given_2 := dk_seg dksX6_given_1 23 rfl rfl
theorem dX6_given_0 : decode cX6_given 0 = .ok (.iconst 0, 1) := dk_3 (dk_at dksX6_given_0 0 rfl rfl)
theorem dX6_given_1 : decode cX6_given 1 = .ok (.istore_n 2, 1) := dk_61 (dk_at dksX6_given_0 1 rfl rfl)
theorem dX6_given_2 : decode cX6_given 2 = .ok (.iconst 0, 1) := dk_3 (dk_at dksX6_given_0 2 rfl rfl)
theorem dX6_given_3 : decode cX6_given 3 = .ok (.istore_n 3, 1) := dk_62 (dk_at dksX6_given_0 3 rfl rfl)
theorem dX6_given_4 : decode cX6_given 4 = .ok (.iload_n 3, 1) := dk_29 (dk_at dksX6_given_0 4 rfl rfl)
theorem dX6_given_5 : decode cX6_given 5 = .ok (.aload_n 0, 1) := dk_42 (dk_at dksX6_given_0 5 rfl rfl)
theorem dX6_given_6 : decode cX6_given 6 = .ok (.getfield 7, 3) := dk_180 0 7 (dk_at dksX6_given_0 6 rfl rfl)
theorem dX6_given_9 : decode cX6_given 9 = .ok (.iconst 2, 1) := dk_5 (dk_at dksX6_given_0 9 rfl rfl)
theorem dX6_given_10 : decode cX6_given 10 = .ok (.iaload, 1) := dk_46 (dk_at dksX6_given_0 10 rfl rfl)
theorem dX6_given_11 : decode cX6_given 11 = .ok (.if_icmp .ge 37, 3) := dk_162 0 37 (dk_at dksX6_given_0 11 rfl rfl)
theorem dX6_given_14 : decode cX6_given 14 = .ok (.iload_n 2, 1) := dk_28 (dk_at dksX6_given_0 14 rfl rfl)
theorem dX6_given_15 : decode cX6_given 15 = .ok (.aload_n 0, 1) := dk_42 (dk_at dksX6_given_0 15 rfl rfl)
theorem dX6_given_16 : decode cX6_given 16 = .ok (.iload_n 3, 1) := dk_29 (dk_at dksX6_given_0 16 rfl rfl)
theorem dX6_given_17 : decode cX6_given 17 = .ok (.iconst 3, 1) := dk_6 (dk_at dksX6_given_0 17 rfl rfl)
theorem dX6_given_18 : decode cX6_given 18 = .ok (.invokevirtual 271, 3) := dk_182 1 15 (dk_at dksX6_given_0 18 rfl rfl)
theorem dX6_given_21 : decode cX6_given 21 = .ok (.iconst 1, 1) := dk_4 (dk_at dksX6_given_0 21 rfl rfl)
theorem dX6_given_22 : decode cX6_given 22 = .ok (.if_icmp .ne 17, 3) := dk_160 0 17 (dk_at dksX6_given_1 0 rfl rfl)
theorem dX6_given_25 : decode cX6_given 25 = .ok (.aload_n 0, 1) := dk_42 (dk_at dksX6_given_1 3 rfl rfl)
theorem dX6_given_26 : decode cX6_given 26 = .ok (.iload_n 3, 1) := dk_29 (dk_at dksX6_given_1 4 rfl rfl)
theorem dX6_given_27 : decode cX6_given 27 = .ok (.iconst 4, 1) := dk_7 (dk_at dksX6_given_1 5 rfl rfl)
theorem dX6_given_28 : decode cX6_given 28 = .ok (.invokevirtual 271, 3) := dk_182 1 15 (dk_at dksX6_given_1 6 rfl rfl)
theorem dX6_given_31 : decode cX6_given 31 = .ok (.iload_n 1, 1) := dk_27 (dk_at dksX6_given_1 9 rfl rfl)
theorem dX6_given_32 : decode cX6_given 32 = .ok (.if_icmp .ne 7, 3) := dk_160 0 7 (dk_at dksX6_given_1 10 rfl rfl)
theorem dX6_given_35 : decode cX6_given 35 = .ok (.iconst 1, 1) := dk_4 (dk_at dksX6_given_1 13 rfl rfl)
theorem dX6_given_36 : decode cX6_given 36 = .ok (.goto 4, 3) := dk_167 0 4 (dk_at dksX6_given_1 14 rfl rfl)
theorem dX6_given_39 : decode cX6_given 39 = .ok (.iconst 0, 1) := dk_3 (dk_at dksX6_given_1 17 rfl rfl)
theorem dX6_given_40 : decode cX6_given 40 = .ok (.iadd, 1) := dk_96 (dk_at dksX6_given_1 18 rfl rfl)
theorem dX6_given_41 : decode cX6_given 41 = .ok (.istore_n 2, 1) := dk_61 (dk_at dksX6_given_1 19 rfl rfl)
theorem dX6_given_42 : decode cX6_given 42 = .ok (.iinc 3 1, 3) := dk_132 3 1 (dk_at dksX6_given_1 20 rfl rfl)
theorem dX6_given_45 : decode cX6_given 45 = .ok (.goto (-41), 3) := dk_167 255 215 (dk_at dksX6_given_2 0 rfl rfl)
theorem dX6_given_48 : decode cX6_given 48 = .ok (.iload_n 2, 1) := dk_28 (dk_at dksX6_given_2 3 rfl rfl)
theorem dX6_given_49 : decode cX6_given 49 = .ok (.ireturn, 1) := dk_172 (dk_at dksX6_given_2 4 rfl rfl)
abbrev cX6_comesTo : ByteArray := prog_15_method_44_code
def yX6_comesTo : MethodName := ⟨RX6, "comesTo", "(III)I"⟩
def dkwX6_comesTo_8 : List UInt8 := [46, 172]
abbrev dktX6_comesTo_8 : List UInt8 := dkwX6_comesTo_8 ++ []
def dkwX6_comesTo_7 : List UInt8 := [100, 46, 42, 180, 0, 31, 21, 4, 46, 184, 0, 252, 79, 132, 5, 1, 167, 255, 79, 42, 180, 0, 31, 3]
abbrev dktX6_comesTo_7 : List UInt8 := dkwX6_comesTo_7 ++ dktX6_comesTo_8
def dkwX6_comesTo_6 : List UInt8 := [79, 167, 0, 36, 132, 4, 255, 42, 180, 0, 31, 21, 4, 4, 100, 21, 6, 42, 180, 0, 31, 21, 4, 4]
abbrev dktX6_comesTo_6 : List UInt8 := dkwX6_comesTo_6 ++ dktX6_comesTo_7
def dkwX6_comesTo_5 : List UInt8 := [16, 20, 160, 0, 26, 42, 180, 0, 31, 21, 4, 4, 100, 4, 42, 180, 0, 31, 21, 4, 4, 100, 46, 100]
abbrev dktX6_comesTo_5 : List UInt8 := dkwX6_comesTo_5 ++ dktX6_comesTo_6
def dkwX6_comesTo_4 : List UInt8 := [16, 16, 160, 0, 20, 42, 180, 0, 31, 21, 4, 4, 100, 92, 46, 21, 7, 108, 79, 167, 0, 66, 21, 6]
abbrev dktX6_comesTo_4 : List UInt8 := dkwX6_comesTo_4 ++ dktX6_comesTo_5
def dkwX6_comesTo_3 : List UInt8 := [154, 0, 8, 21, 7, 167, 0, 10, 42, 180, 0, 34, 21, 6, 46, 79, 132, 4, 1, 167, 0, 90, 21, 6]
abbrev dktX6_comesTo_3 : List UInt8 := dkwX6_comesTo_3 ++ dktX6_comesTo_4
def dkwX6_comesTo_2 : List UInt8 := [21, 5, 104, 96, 4, 96, 46, 54, 7, 21, 6, 16, 13, 162, 0, 33, 42, 180, 0, 31, 21, 4, 21, 6]
abbrev dktX6_comesTo_2 : List UInt8 := dkwX6_comesTo_2 ++ dktX6_comesTo_3
def dkwX6_comesTo_1 : List UInt8 := [96, 5, 21, 5, 104, 96, 46, 54, 6, 42, 180, 0, 7, 17, 5, 230, 17, 3, 52, 27, 104, 96, 5]
abbrev dktX6_comesTo_1 : List UInt8 := dkwX6_comesTo_1 ++ dktX6_comesTo_2
def dkwX6_comesTo_0 : List UInt8 := [3, 54, 4, 28, 54, 5, 21, 5, 29, 162, 0, 177, 42, 180, 0, 7, 17, 5, 230, 17, 3, 52, 27, 104]
abbrev dktX6_comesTo_0 : List UInt8 := dkwX6_comesTo_0 ++ dktX6_comesTo_1
theorem dksX6_comesTo_0 : cX6_comesTo.data.toList.drop 0 = dktX6_comesTo_0 := by decide +kernel
theorem dksX6_comesTo_1 : cX6_comesTo.data.toList.drop 24 = dktX6_comesTo_1 := dk_seg dksX6_comesTo_0 24 rfl rfl
theorem dksX6_comesTo_2 : cX6_comesTo.data.toList.drop 47 = dktX6_comesTo_2 := dk_seg dksX6_comesTo_1 23 rfl rfl
theorem dksX6_comesTo_3 : cX6_comesTo.data.toList.drop 71 = dktX6_comesTo_3 := dk_seg dksX6_comesTo_2 24 rfl rfl
theorem dksX6_comesTo_4 : cX6_comesTo.data.toList.drop 95 = dktX6_comesTo_4 := dk_seg dksX6_comesTo_3 24 rfl rfl
theorem dksX6_comesTo_5 : cX6_comesTo.data.toList.drop 119 = dktX6_comesTo_5 := dk_seg dksX6_comesTo_4 24 rfl rfl
theorem dksX6_comesTo_6 : cX6_comesTo.data.toList.drop 143 = dktX6_comesTo_6 := dk_seg dksX6_comesTo_5 24 rfl rfl
theorem dksX6_comesTo_7 : cX6_comesTo.data.toList.drop 167 = dktX6_comesTo_7 := dk_seg dksX6_comesTo_6 24 rfl rfl
theorem dksX6_comesTo_8 : cX6_comesTo.data.toList.drop 191 = dktX6_comesTo_8 := dk_seg dksX6_comesTo_7 24 rfl rfl
theorem dX6_comesTo_0 : decode cX6_comesTo 0 = .ok (.iconst 0, 1) := dk_3 (dk_at dksX6_comesTo_0 0 rfl rfl)
theorem dX6_comesTo_1 : decode cX6_comesTo 1 = .ok (.istore 4, 2) := dk_54 4 (dk_at dksX6_comesTo_0 1 rfl rfl)
theorem dX6_comesTo_3 : decode cX6_comesTo 3 = .ok (.iload_n 2, 1) := dk_28 (dk_at dksX6_comesTo_0 3 rfl rfl)
theorem dX6_comesTo_4 : decode cX6_comesTo 4 = .ok (.istore 5, 2) := dk_54 5 (dk_at dksX6_comesTo_0 4 rfl rfl)
theorem dX6_comesTo_6 : decode cX6_comesTo 6 = .ok (.iload 5, 2) := dk_21 5 (dk_at dksX6_comesTo_0 6 rfl rfl)
theorem dX6_comesTo_8 : decode cX6_comesTo 8 = .ok (.iload_n 3, 1) := dk_29 (dk_at dksX6_comesTo_0 8 rfl rfl)
theorem dX6_comesTo_9 : decode cX6_comesTo 9 = .ok (.if_icmp .ge 177, 3) := dk_162 0 177 (dk_at dksX6_comesTo_0 9 rfl rfl)
theorem dX6_comesTo_12 : decode cX6_comesTo 12 = .ok (.aload_n 0, 1) := dk_42 (dk_at dksX6_comesTo_0 12 rfl rfl)
theorem dX6_comesTo_13 : decode cX6_comesTo 13 = .ok (.getfield 7, 3) := dk_180 0 7 (dk_at dksX6_comesTo_0 13 rfl rfl)
theorem dX6_comesTo_16 : decode cX6_comesTo 16 = .ok (.sipush 1510, 3) := dk_17 5 230 (dk_at dksX6_comesTo_0 16 rfl rfl)
theorem dX6_comesTo_19 : decode cX6_comesTo 19 = .ok (.sipush 820, 3) := dk_17 3 52 (dk_at dksX6_comesTo_0 19 rfl rfl)
theorem dX6_comesTo_22 : decode cX6_comesTo 22 = .ok (.iload_n 1, 1) := dk_27 (dk_at dksX6_comesTo_0 22 rfl rfl)
theorem dX6_comesTo_23 : decode cX6_comesTo 23 = .ok (.imul, 1) := dk_104 (dk_at dksX6_comesTo_0 23 rfl rfl)
theorem dX6_comesTo_24 : decode cX6_comesTo 24 = .ok (.iadd, 1) := dk_96 (dk_at dksX6_comesTo_1 0 rfl rfl)
theorem dX6_comesTo_25 : decode cX6_comesTo 25 = .ok (.iconst 2, 1) := dk_5 (dk_at dksX6_comesTo_1 1 rfl rfl)
theorem dX6_comesTo_26 : decode cX6_comesTo 26 = .ok (.iload 5, 2) := dk_21 5 (dk_at dksX6_comesTo_1 2 rfl rfl)
theorem dX6_comesTo_28 : decode cX6_comesTo 28 = .ok (.imul, 1) := dk_104 (dk_at dksX6_comesTo_1 4 rfl rfl)
theorem dX6_comesTo_29 : decode cX6_comesTo 29 = .ok (.iadd, 1) := dk_96 (dk_at dksX6_comesTo_1 5 rfl rfl)
theorem dX6_comesTo_30 : decode cX6_comesTo 30 = .ok (.iaload, 1) := dk_46 (dk_at dksX6_comesTo_1 6 rfl rfl)
theorem dX6_comesTo_31 : decode cX6_comesTo 31 = .ok (.istore 6, 2) := dk_54 6 (dk_at dksX6_comesTo_1 7 rfl rfl)
theorem dX6_comesTo_33 : decode cX6_comesTo 33 = .ok (.aload_n 0, 1) := dk_42 (dk_at dksX6_comesTo_1 9 rfl rfl)
theorem dX6_comesTo_34 : decode cX6_comesTo 34 = .ok (.getfield 7, 3) := dk_180 0 7 (dk_at dksX6_comesTo_1 10 rfl rfl)
theorem dX6_comesTo_37 : decode cX6_comesTo 37 = .ok (.sipush 1510, 3) := dk_17 5 230 (dk_at dksX6_comesTo_1 13 rfl rfl)
theorem dX6_comesTo_40 : decode cX6_comesTo 40 = .ok (.sipush 820, 3) := dk_17 3 52 (dk_at dksX6_comesTo_1 16 rfl rfl)
theorem dX6_comesTo_43 : decode cX6_comesTo 43 = .ok (.iload_n 1, 1) := dk_27 (dk_at dksX6_comesTo_1 19 rfl rfl)
theorem dX6_comesTo_44 : decode cX6_comesTo 44 = .ok (.imul, 1) := dk_104 (dk_at dksX6_comesTo_1 20 rfl rfl)
theorem dX6_comesTo_45 : decode cX6_comesTo 45 = .ok (.iadd, 1) := dk_96 (dk_at dksX6_comesTo_1 21 rfl rfl)
theorem dX6_comesTo_46 : decode cX6_comesTo 46 = .ok (.iconst 2, 1) := dk_5 (dk_at dksX6_comesTo_1 22 rfl rfl)
theorem dX6_comesTo_47 : decode cX6_comesTo 47 = .ok (.iload 5, 2) := dk_21 5 (dk_at dksX6_comesTo_2 0 rfl rfl)
theorem dX6_comesTo_49 : decode cX6_comesTo 49 = .ok (.imul, 1) := dk_104 (dk_at dksX6_comesTo_2 2 rfl rfl)
theorem dX6_comesTo_50 : decode cX6_comesTo 50 = .ok (.iadd, 1) := dk_96 (dk_at dksX6_comesTo_2 3 rfl rfl)
theorem dX6_comesTo_51 : decode cX6_comesTo 51 = .ok (.iconst 1, 1) := dk_4 (dk_at dksX6_comesTo_2 4 rfl rfl)
theorem dX6_comesTo_52 : decode cX6_comesTo 52 = .ok (.iadd, 1) := dk_96 (dk_at dksX6_comesTo_2 5 rfl rfl)
theorem dX6_comesTo_53 : decode cX6_comesTo 53 = .ok (.iaload, 1) := dk_46 (dk_at dksX6_comesTo_2 6 rfl rfl)
theorem dX6_comesTo_54 : decode cX6_comesTo 54 = .ok (.istore 7, 2) := dk_54 7 (dk_at dksX6_comesTo_2 7 rfl rfl)
theorem dX6_comesTo_56 : decode cX6_comesTo 56 = .ok (.iload 6, 2) := dk_21 6 (dk_at dksX6_comesTo_2 9 rfl rfl)
theorem dX6_comesTo_58 : decode cX6_comesTo 58 = .ok (.bipush 13, 2) := dk_16 13 (dk_at dksX6_comesTo_2 11 rfl rfl)
theorem dX6_comesTo_60 : decode cX6_comesTo 60 = .ok (.if_icmp .ge 33, 3) := dk_162 0 33 (dk_at dksX6_comesTo_2 13 rfl rfl)
theorem dX6_comesTo_63 : decode cX6_comesTo 63 = .ok (.aload_n 0, 1) := dk_42 (dk_at dksX6_comesTo_2 16 rfl rfl)
theorem dX6_comesTo_64 : decode cX6_comesTo 64 = .ok (.getfield 31, 3) := dk_180 0 31 (dk_at dksX6_comesTo_2 17 rfl rfl)
theorem dX6_comesTo_67 : decode cX6_comesTo 67 = .ok (.iload 4, 2) := dk_21 4 (dk_at dksX6_comesTo_2 20 rfl rfl)
theorem dX6_comesTo_69 : decode cX6_comesTo 69 = .ok (.iload 6, 2) := dk_21 6 (dk_at dksX6_comesTo_2 22 rfl rfl)
theorem dX6_comesTo_71 : decode cX6_comesTo 71 = .ok (.ifCond .ne 8, 3) := dk_154 0 8 (dk_at dksX6_comesTo_3 0 rfl rfl)
theorem dX6_comesTo_74 : decode cX6_comesTo 74 = .ok (.iload 7, 2) := dk_21 7 (dk_at dksX6_comesTo_3 3 rfl rfl)
theorem dX6_comesTo_76 : decode cX6_comesTo 76 = .ok (.goto 10, 3) := dk_167 0 10 (dk_at dksX6_comesTo_3 5 rfl rfl)
theorem dX6_comesTo_79 : decode cX6_comesTo 79 = .ok (.aload_n 0, 1) := dk_42 (dk_at dksX6_comesTo_3 8 rfl rfl)
theorem dX6_comesTo_80 : decode cX6_comesTo 80 = .ok (.getfield 34, 3) := dk_180 0 34 (dk_at dksX6_comesTo_3 9 rfl rfl)
theorem dX6_comesTo_83 : decode cX6_comesTo 83 = .ok (.iload 6, 2) := dk_21 6 (dk_at dksX6_comesTo_3 12 rfl rfl)
theorem dX6_comesTo_85 : decode cX6_comesTo 85 = .ok (.iaload, 1) := dk_46 (dk_at dksX6_comesTo_3 14 rfl rfl)
theorem dX6_comesTo_86 : decode cX6_comesTo 86 = .ok (.iastore, 1) := dk_79 (dk_at dksX6_comesTo_3 15 rfl rfl)
theorem dX6_comesTo_87 : decode cX6_comesTo 87 = .ok (.iinc 4 1, 3) := dk_132 4 1 (dk_at dksX6_comesTo_3 16 rfl rfl)
theorem dX6_comesTo_90 : decode cX6_comesTo 90 = .ok (.goto 90, 3) := dk_167 0 90 (dk_at dksX6_comesTo_3 19 rfl rfl)
theorem dX6_comesTo_93 : decode cX6_comesTo 93 = .ok (.iload 6, 2) := dk_21 6 (dk_at dksX6_comesTo_3 22 rfl rfl)
theorem dX6_comesTo_95 : decode cX6_comesTo 95 = .ok (.bipush 16, 2) := dk_16 16 (dk_at dksX6_comesTo_4 0 rfl rfl)
theorem dX6_comesTo_97 : decode cX6_comesTo 97 = .ok (.if_icmp .ne 20, 3) := dk_160 0 20 (dk_at dksX6_comesTo_4 2 rfl rfl)
theorem dX6_comesTo_100 : decode cX6_comesTo 100 = .ok (.aload_n 0, 1) := dk_42 (dk_at dksX6_comesTo_4 5 rfl rfl)
theorem dX6_comesTo_101 : decode cX6_comesTo 101 = .ok (.getfield 31, 3) := dk_180 0 31 (dk_at dksX6_comesTo_4 6 rfl rfl)
theorem dX6_comesTo_104 : decode cX6_comesTo 104 = .ok (.iload 4, 2) := dk_21 4 (dk_at dksX6_comesTo_4 9 rfl rfl)
theorem dX6_comesTo_106 : decode cX6_comesTo 106 = .ok (.iconst 1, 1) := dk_4 (dk_at dksX6_comesTo_4 11 rfl rfl)
theorem dX6_comesTo_107 : decode cX6_comesTo 107 = .ok (.isub, 1) := dk_100 (dk_at dksX6_comesTo_4 12 rfl rfl)
theorem dX6_comesTo_108 : decode cX6_comesTo 108 = .ok (.dup2, 1) := dk_92 (dk_at dksX6_comesTo_4 13 rfl rfl)
theorem dX6_comesTo_109 : decode cX6_comesTo 109 = .ok (.iaload, 1) := dk_46 (dk_at dksX6_comesTo_4 14 rfl rfl)
theorem dX6_comesTo_110 : decode cX6_comesTo 110 = .ok (.iload 7, 2) := dk_21 7 (dk_at dksX6_comesTo_4 15 rfl rfl)
theorem dX6_comesTo_112 : decode cX6_comesTo 112 = .ok (.idiv, 1) := dk_108 (dk_at dksX6_comesTo_4 17 rfl rfl)
theorem dX6_comesTo_113 : decode cX6_comesTo 113 = .ok (.iastore, 1) := dk_79 (dk_at dksX6_comesTo_4 18 rfl rfl)
theorem dX6_comesTo_114 : decode cX6_comesTo 114 = .ok (.goto 66, 3) := dk_167 0 66 (dk_at dksX6_comesTo_4 19 rfl rfl)
theorem dX6_comesTo_117 : decode cX6_comesTo 117 = .ok (.iload 6, 2) := dk_21 6 (dk_at dksX6_comesTo_4 22 rfl rfl)
theorem dX6_comesTo_119 : decode cX6_comesTo 119 = .ok (.bipush 20, 2) := dk_16 20 (dk_at dksX6_comesTo_5 0 rfl rfl)
theorem dX6_comesTo_121 : decode cX6_comesTo 121 = .ok (.if_icmp .ne 26, 3) := dk_160 0 26 (dk_at dksX6_comesTo_5 2 rfl rfl)
theorem dX6_comesTo_124 : decode cX6_comesTo 124 = .ok (.aload_n 0, 1) := dk_42 (dk_at dksX6_comesTo_5 5 rfl rfl)
theorem dX6_comesTo_125 : decode cX6_comesTo 125 = .ok (.getfield 31, 3) := dk_180 0 31 (dk_at dksX6_comesTo_5 6 rfl rfl)
theorem dX6_comesTo_128 : decode cX6_comesTo 128 = .ok (.iload 4, 2) := dk_21 4 (dk_at dksX6_comesTo_5 9 rfl rfl)
theorem dX6_comesTo_130 : decode cX6_comesTo 130 = .ok (.iconst 1, 1) := dk_4 (dk_at dksX6_comesTo_5 11 rfl rfl)
theorem dX6_comesTo_131 : decode cX6_comesTo 131 = .ok (.isub, 1) := dk_100 (dk_at dksX6_comesTo_5 12 rfl rfl)
theorem dX6_comesTo_132 : decode cX6_comesTo 132 = .ok (.iconst 1, 1) := dk_4 (dk_at dksX6_comesTo_5 13 rfl rfl)
theorem dX6_comesTo_133 : decode cX6_comesTo 133 = .ok (.aload_n 0, 1) := dk_42 (dk_at dksX6_comesTo_5 14 rfl rfl)
theorem dX6_comesTo_134 : decode cX6_comesTo 134 = .ok (.getfield 31, 3) := dk_180 0 31 (dk_at dksX6_comesTo_5 15 rfl rfl)
theorem dX6_comesTo_137 : decode cX6_comesTo 137 = .ok (.iload 4, 2) := dk_21 4 (dk_at dksX6_comesTo_5 18 rfl rfl)
theorem dX6_comesTo_139 : decode cX6_comesTo 139 = .ok (.iconst 1, 1) := dk_4 (dk_at dksX6_comesTo_5 20 rfl rfl)
theorem dX6_comesTo_140 : decode cX6_comesTo 140 = .ok (.isub, 1) := dk_100 (dk_at dksX6_comesTo_5 21 rfl rfl)
theorem dX6_comesTo_141 : decode cX6_comesTo 141 = .ok (.iaload, 1) := dk_46 (dk_at dksX6_comesTo_5 22 rfl rfl)
theorem dX6_comesTo_142 : decode cX6_comesTo 142 = .ok (.isub, 1) := dk_100 (dk_at dksX6_comesTo_5 23 rfl rfl)
theorem dX6_comesTo_143 : decode cX6_comesTo 143 = .ok (.iastore, 1) := dk_79 (dk_at dksX6_comesTo_6 0 rfl rfl)
theorem dX6_comesTo_144 : decode cX6_comesTo 144 = .ok (.goto 36, 3) := dk_167 0 36 (dk_at dksX6_comesTo_6 1 rfl rfl)
theorem dX6_comesTo_147 : decode cX6_comesTo 147 = .ok (.iinc 4 (-1), 3) := dk_132 4 255 (dk_at dksX6_comesTo_6 4 rfl rfl)
theorem dX6_comesTo_150 : decode cX6_comesTo 150 = .ok (.aload_n 0, 1) := dk_42 (dk_at dksX6_comesTo_6 7 rfl rfl)
theorem dX6_comesTo_151 : decode cX6_comesTo 151 = .ok (.getfield 31, 3) := dk_180 0 31 (dk_at dksX6_comesTo_6 8 rfl rfl)
theorem dX6_comesTo_154 : decode cX6_comesTo 154 = .ok (.iload 4, 2) := dk_21 4 (dk_at dksX6_comesTo_6 11 rfl rfl)
theorem dX6_comesTo_156 : decode cX6_comesTo 156 = .ok (.iconst 1, 1) := dk_4 (dk_at dksX6_comesTo_6 13 rfl rfl)
theorem dX6_comesTo_157 : decode cX6_comesTo 157 = .ok (.isub, 1) := dk_100 (dk_at dksX6_comesTo_6 14 rfl rfl)
theorem dX6_comesTo_158 : decode cX6_comesTo 158 = .ok (.iload 6, 2) := dk_21 6 (dk_at dksX6_comesTo_6 15 rfl rfl)
theorem dX6_comesTo_160 : decode cX6_comesTo 160 = .ok (.aload_n 0, 1) := dk_42 (dk_at dksX6_comesTo_6 17 rfl rfl)
theorem dX6_comesTo_161 : decode cX6_comesTo 161 = .ok (.getfield 31, 3) := dk_180 0 31 (dk_at dksX6_comesTo_6 18 rfl rfl)
theorem dX6_comesTo_164 : decode cX6_comesTo 164 = .ok (.iload 4, 2) := dk_21 4 (dk_at dksX6_comesTo_6 21 rfl rfl)
theorem dX6_comesTo_166 : decode cX6_comesTo 166 = .ok (.iconst 1, 1) := dk_4 (dk_at dksX6_comesTo_6 23 rfl rfl)
theorem dX6_comesTo_167 : decode cX6_comesTo 167 = .ok (.isub, 1) := dk_100 (dk_at dksX6_comesTo_7 0 rfl rfl)
theorem dX6_comesTo_168 : decode cX6_comesTo 168 = .ok (.iaload, 1) := dk_46 (dk_at dksX6_comesTo_7 1 rfl rfl)
theorem dX6_comesTo_169 : decode cX6_comesTo 169 = .ok (.aload_n 0, 1) := dk_42 (dk_at dksX6_comesTo_7 2 rfl rfl)
theorem dX6_comesTo_170 : decode cX6_comesTo 170 = .ok (.getfield 31, 3) := dk_180 0 31 (dk_at dksX6_comesTo_7 3 rfl rfl)
theorem dX6_comesTo_173 : decode cX6_comesTo 173 = .ok (.iload 4, 2) := dk_21 4 (dk_at dksX6_comesTo_7 6 rfl rfl)
theorem dX6_comesTo_175 : decode cX6_comesTo 175 = .ok (.iaload, 1) := dk_46 (dk_at dksX6_comesTo_7 8 rfl rfl)
theorem dX6_comesTo_176 : decode cX6_comesTo 176 = .ok (.invokestatic 252, 3) := dk_184 0 252 (dk_at dksX6_comesTo_7 9 rfl rfl)
theorem dX6_comesTo_179 : decode cX6_comesTo 179 = .ok (.iastore, 1) := dk_79 (dk_at dksX6_comesTo_7 12 rfl rfl)
theorem dX6_comesTo_180 : decode cX6_comesTo 180 = .ok (.iinc 5 1, 3) := dk_132 5 1 (dk_at dksX6_comesTo_7 13 rfl rfl)
theorem dX6_comesTo_183 : decode cX6_comesTo 183 = .ok (.goto (-177), 3) := dk_167 255 79 (dk_at dksX6_comesTo_7 16 rfl rfl)
theorem dX6_comesTo_186 : decode cX6_comesTo 186 = .ok (.aload_n 0, 1) := dk_42 (dk_at dksX6_comesTo_7 19 rfl rfl)
theorem dX6_comesTo_187 : decode cX6_comesTo 187 = .ok (.getfield 31, 3) := dk_180 0 31 (dk_at dksX6_comesTo_7 20 rfl rfl)
theorem dX6_comesTo_190 : decode cX6_comesTo 190 = .ok (.iconst 0, 1) := dk_3 (dk_at dksX6_comesTo_7 23 rfl rfl)
theorem dX6_comesTo_191 : decode cX6_comesTo 191 = .ok (.iaload, 1) := dk_46 (dk_at dksX6_comesTo_8 0 rfl rfl)
theorem dX6_comesTo_192 : decode cX6_comesTo 192 = .ok (.ireturn, 1) := dk_172 (dk_at dksX6_comesTo_8 1 rfl rfl)
abbrev cX6_both : ByteArray := prog_15_method_43_code
def yX6_both : MethodName := ⟨RX6, "both", "(III)I"⟩
def dkwX6_both_4 : List UInt8 := [172, 27, 28, 128, 172]
abbrev dktX6_both_4 : List UInt8 := dkwX6_both_4 ++ []
def dkwX6_both_3 : List UInt8 := [28, 160, 0, 7, 4, 167, 0, 4, 3, 172, 27, 28, 164, 0, 7, 4, 167, 0, 4, 3, 172, 27, 28, 126]
abbrev dktX6_both_3 : List UInt8 := dkwX6_both_3 ++ dktX6_both_4
def dkwX6_both_2 : List UInt8 := [27, 28, 96, 172, 27, 28, 100, 172, 27, 28, 104, 172, 27, 28, 162, 0, 7, 4, 167, 0, 4, 3, 172, 27]
abbrev dktX6_both_2 : List UInt8 := dkwX6_both_2 ++ dktX6_both_3
def dkwX6_both_1 : List UInt8 := [170, 0, 0, 0, 0, 0, 100, 0, 0, 0, 13, 0, 0, 0, 21, 0, 0, 0, 51, 0, 0, 0, 55, 0, 0, 0, 59, 0, 0, 0, 100, 0, 0, 0, 63, 0, 0, 0, 74, 0, 0, 0, 85, 0, 0, 0, 100, 0, 0, 0, 96]
abbrev dktX6_both_1 : List UInt8 := dkwX6_both_1 ++ dktX6_both_2
def dkwX6_both_0 : List UInt8 := [26]
abbrev dktX6_both_0 : List UInt8 := dkwX6_both_0 ++ dktX6_both_1
theorem dksX6_both_0 : cX6_both.data.toList.drop 0 = dktX6_both_0 := by decide +kernel
theorem dksX6_both_1 : cX6_both.data.toList.drop 1 = dktX6_both_1 := dk_seg dksX6_both_0 1 rfl rfl
theorem dksX6_both_2 : cX6_both.data.toList.drop 52 = dktX6_both_2 := dk_seg dksX6_both_1 51 rfl rfl
theorem dksX6_both_3 : cX6_both.data.toList.drop 76 = dktX6_both_3 := dk_seg dksX6_both_2 24 rfl rfl
theorem dksX6_both_4 : cX6_both.data.toList.drop 100 = dktX6_both_4 := dk_seg dksX6_both_3 24 rfl rfl
theorem dX6_both_0 : decode cX6_both 0 = .ok (.iload_n 0, 1) := dk_26 (dk_at dksX6_both_0 0 rfl rfl)
theorem dX6_both_1 : decode cX6_both 1 = .ok (.tableswitch 100 13 21 #[51, 55, 59, 100, 63, 74, 85, 100, 96], 51) := by decide +kernel
theorem dX6_both_52 : decode cX6_both 52 = .ok (.iload_n 1, 1) := dk_27 (dk_at dksX6_both_2 0 rfl rfl)
theorem dX6_both_53 : decode cX6_both 53 = .ok (.iload_n 2, 1) := dk_28 (dk_at dksX6_both_2 1 rfl rfl)
theorem dX6_both_54 : decode cX6_both 54 = .ok (.iadd, 1) := dk_96 (dk_at dksX6_both_2 2 rfl rfl)
theorem dX6_both_55 : decode cX6_both 55 = .ok (.ireturn, 1) := dk_172 (dk_at dksX6_both_2 3 rfl rfl)
theorem dX6_both_56 : decode cX6_both 56 = .ok (.iload_n 1, 1) := dk_27 (dk_at dksX6_both_2 4 rfl rfl)
theorem dX6_both_57 : decode cX6_both 57 = .ok (.iload_n 2, 1) := dk_28 (dk_at dksX6_both_2 5 rfl rfl)
theorem dX6_both_58 : decode cX6_both 58 = .ok (.isub, 1) := dk_100 (dk_at dksX6_both_2 6 rfl rfl)
theorem dX6_both_59 : decode cX6_both 59 = .ok (.ireturn, 1) := dk_172 (dk_at dksX6_both_2 7 rfl rfl)
theorem dX6_both_60 : decode cX6_both 60 = .ok (.iload_n 1, 1) := dk_27 (dk_at dksX6_both_2 8 rfl rfl)
theorem dX6_both_61 : decode cX6_both 61 = .ok (.iload_n 2, 1) := dk_28 (dk_at dksX6_both_2 9 rfl rfl)
theorem dX6_both_62 : decode cX6_both 62 = .ok (.imul, 1) := dk_104 (dk_at dksX6_both_2 10 rfl rfl)
theorem dX6_both_63 : decode cX6_both 63 = .ok (.ireturn, 1) := dk_172 (dk_at dksX6_both_2 11 rfl rfl)
theorem dX6_both_64 : decode cX6_both 64 = .ok (.iload_n 1, 1) := dk_27 (dk_at dksX6_both_2 12 rfl rfl)
theorem dX6_both_65 : decode cX6_both 65 = .ok (.iload_n 2, 1) := dk_28 (dk_at dksX6_both_2 13 rfl rfl)
theorem dX6_both_66 : decode cX6_both 66 = .ok (.if_icmp .ge 7, 3) := dk_162 0 7 (dk_at dksX6_both_2 14 rfl rfl)
theorem dX6_both_69 : decode cX6_both 69 = .ok (.iconst 1, 1) := dk_4 (dk_at dksX6_both_2 17 rfl rfl)
theorem dX6_both_70 : decode cX6_both 70 = .ok (.goto 4, 3) := dk_167 0 4 (dk_at dksX6_both_2 18 rfl rfl)
theorem dX6_both_73 : decode cX6_both 73 = .ok (.iconst 0, 1) := dk_3 (dk_at dksX6_both_2 21 rfl rfl)
theorem dX6_both_74 : decode cX6_both 74 = .ok (.ireturn, 1) := dk_172 (dk_at dksX6_both_2 22 rfl rfl)
theorem dX6_both_75 : decode cX6_both 75 = .ok (.iload_n 1, 1) := dk_27 (dk_at dksX6_both_2 23 rfl rfl)
theorem dX6_both_76 : decode cX6_both 76 = .ok (.iload_n 2, 1) := dk_28 (dk_at dksX6_both_3 0 rfl rfl)
theorem dX6_both_77 : decode cX6_both 77 = .ok (.if_icmp .ne 7, 3) := dk_160 0 7 (dk_at dksX6_both_3 1 rfl rfl)
theorem dX6_both_80 : decode cX6_both 80 = .ok (.iconst 1, 1) := dk_4 (dk_at dksX6_both_3 4 rfl rfl)
theorem dX6_both_81 : decode cX6_both 81 = .ok (.goto 4, 3) := dk_167 0 4 (dk_at dksX6_both_3 5 rfl rfl)
theorem dX6_both_84 : decode cX6_both 84 = .ok (.iconst 0, 1) := dk_3 (dk_at dksX6_both_3 8 rfl rfl)
theorem dX6_both_85 : decode cX6_both 85 = .ok (.ireturn, 1) := dk_172 (dk_at dksX6_both_3 9 rfl rfl)
theorem dX6_both_86 : decode cX6_both 86 = .ok (.iload_n 1, 1) := dk_27 (dk_at dksX6_both_3 10 rfl rfl)
theorem dX6_both_87 : decode cX6_both 87 = .ok (.iload_n 2, 1) := dk_28 (dk_at dksX6_both_3 11 rfl rfl)
theorem dX6_both_88 : decode cX6_both 88 = .ok (.if_icmp .le 7, 3) := dk_164 0 7 (dk_at dksX6_both_3 12 rfl rfl)
theorem dX6_both_91 : decode cX6_both 91 = .ok (.iconst 1, 1) := dk_4 (dk_at dksX6_both_3 15 rfl rfl)
theorem dX6_both_92 : decode cX6_both 92 = .ok (.goto 4, 3) := dk_167 0 4 (dk_at dksX6_both_3 16 rfl rfl)
theorem dX6_both_95 : decode cX6_both 95 = .ok (.iconst 0, 1) := dk_3 (dk_at dksX6_both_3 19 rfl rfl)
theorem dX6_both_96 : decode cX6_both 96 = .ok (.ireturn, 1) := dk_172 (dk_at dksX6_both_3 20 rfl rfl)
theorem dX6_both_97 : decode cX6_both 97 = .ok (.iload_n 1, 1) := dk_27 (dk_at dksX6_both_3 21 rfl rfl)
theorem dX6_both_98 : decode cX6_both 98 = .ok (.iload_n 2, 1) := dk_28 (dk_at dksX6_both_3 22 rfl rfl)
theorem dX6_both_99 : decode cX6_both 99 = .ok (.iand, 1) := dk_126 (dk_at dksX6_both_3 23 rfl rfl)
theorem dX6_both_100 : decode cX6_both 100 = .ok (.ireturn, 1) := dk_172 (dk_at dksX6_both_4 0 rfl rfl)
theorem dX6_both_101 : decode cX6_both 101 = .ok (.iload_n 1, 1) := dk_27 (dk_at dksX6_both_4 1 rfl rfl)
theorem dX6_both_102 : decode cX6_both 102 = .ok (.iload_n 2, 1) := dk_28 (dk_at dksX6_both_4 2 rfl rfl)
theorem dX6_both_103 : decode cX6_both 103 = .ok (.ior, 1) := dk_128 (dk_at dksX6_both_4 3 rfl rfl)
theorem dX6_both_104 : decode cX6_both 104 = .ok (.ireturn, 1) := dk_172 (dk_at dksX6_both_4 4 rfl rfl)
abbrev cX6_seconds : ByteArray := prog_15_method_65_code
def yX6_seconds : MethodName := ⟨RX6, "seconds", "(I)I"⟩
def dkwX6_seconds_2 : List UInt8 := [167, 255, 244, 42, 182, 1, 79, 28, 100, 172]
abbrev dktX6_seconds_2 : List UInt8 := dkwX6_seconds_2 ++ []
def dkwX6_seconds_1 : List UInt8 := [164, 0, 5, 2, 172, 42, 182, 1, 79, 61, 3, 62, 29, 27, 162, 0, 13, 42, 182, 1, 82, 132, 3, 1]
abbrev dktX6_seconds_1 : List UInt8 := dkwX6_seconds_1 ++ dktX6_seconds_2
def dkwX6_seconds_0 : List UInt8 := [27, 4, 17, 2, 88, 184, 0, 66, 153, 0, 17, 42, 180, 0, 7, 6, 46, 27, 96, 17, 78, 31]
abbrev dktX6_seconds_0 : List UInt8 := dkwX6_seconds_0 ++ dktX6_seconds_1
theorem dksX6_seconds_0 : cX6_seconds.data.toList.drop 0 = dktX6_seconds_0 := by decide +kernel
theorem dksX6_seconds_1 : cX6_seconds.data.toList.drop 22 = dktX6_seconds_1 := dk_seg dksX6_seconds_0 22 rfl rfl
theorem dksX6_seconds_2 : cX6_seconds.data.toList.drop 46 = dktX6_seconds_2 := dk_seg dksX6_seconds_1 24 rfl rfl
theorem dX6_seconds_0 : decode cX6_seconds 0 = .ok (.iload_n 1, 1) := dk_27 (dk_at dksX6_seconds_0 0 rfl rfl)
theorem dX6_seconds_1 : decode cX6_seconds 1 = .ok (.iconst 1, 1) := dk_4 (dk_at dksX6_seconds_0 1 rfl rfl)
theorem dX6_seconds_2 : decode cX6_seconds 2 = .ok (.sipush 600, 3) := dk_17 2 88 (dk_at dksX6_seconds_0 2 rfl rfl)
theorem dX6_seconds_5 : decode cX6_seconds 5 = .ok (.invokestatic 66, 3) := dk_184 0 66 (dk_at dksX6_seconds_0 5 rfl rfl)
theorem dX6_seconds_8 : decode cX6_seconds 8 = .ok (.ifCond .eq 17, 3) := dk_153 0 17 (dk_at dksX6_seconds_0 8 rfl rfl)
theorem dX6_seconds_11 : decode cX6_seconds 11 = .ok (.aload_n 0, 1) := dk_42 (dk_at dksX6_seconds_0 11 rfl rfl)
theorem dX6_seconds_12 : decode cX6_seconds 12 = .ok (.getfield 7, 3) := dk_180 0 7 (dk_at dksX6_seconds_0 12 rfl rfl)
theorem dX6_seconds_15 : decode cX6_seconds 15 = .ok (.iconst 3, 1) := dk_6 (dk_at dksX6_seconds_0 15 rfl rfl)
theorem dX6_seconds_16 : decode cX6_seconds 16 = .ok (.iaload, 1) := dk_46 (dk_at dksX6_seconds_0 16 rfl rfl)
theorem dX6_seconds_17 : decode cX6_seconds 17 = .ok (.iload_n 1, 1) := dk_27 (dk_at dksX6_seconds_0 17 rfl rfl)
theorem dX6_seconds_18 : decode cX6_seconds 18 = .ok (.iadd, 1) := dk_96 (dk_at dksX6_seconds_0 18 rfl rfl)
theorem dX6_seconds_19 : decode cX6_seconds 19 = .ok (.sipush 19999, 3) := dk_17 78 31 (dk_at dksX6_seconds_0 19 rfl rfl)
theorem dX6_seconds_22 : decode cX6_seconds 22 = .ok (.if_icmp .le 5, 3) := dk_164 0 5 (dk_at dksX6_seconds_1 0 rfl rfl)
theorem dX6_seconds_25 : decode cX6_seconds 25 = .ok (.iconst (-1), 1) := dk_2 (dk_at dksX6_seconds_1 3 rfl rfl)
theorem dX6_seconds_26 : decode cX6_seconds 26 = .ok (.ireturn, 1) := dk_172 (dk_at dksX6_seconds_1 4 rfl rfl)
theorem dX6_seconds_27 : decode cX6_seconds 27 = .ok (.aload_n 0, 1) := dk_42 (dk_at dksX6_seconds_1 5 rfl rfl)
theorem dX6_seconds_28 : decode cX6_seconds 28 = .ok (.invokevirtual 335, 3) := dk_182 1 79 (dk_at dksX6_seconds_1 6 rfl rfl)
theorem dX6_seconds_31 : decode cX6_seconds 31 = .ok (.istore_n 2, 1) := dk_61 (dk_at dksX6_seconds_1 9 rfl rfl)
theorem dX6_seconds_32 : decode cX6_seconds 32 = .ok (.iconst 0, 1) := dk_3 (dk_at dksX6_seconds_1 10 rfl rfl)
theorem dX6_seconds_33 : decode cX6_seconds 33 = .ok (.istore_n 3, 1) := dk_62 (dk_at dksX6_seconds_1 11 rfl rfl)
theorem dX6_seconds_34 : decode cX6_seconds 34 = .ok (.iload_n 3, 1) := dk_29 (dk_at dksX6_seconds_1 12 rfl rfl)
theorem dX6_seconds_35 : decode cX6_seconds 35 = .ok (.iload_n 1, 1) := dk_27 (dk_at dksX6_seconds_1 13 rfl rfl)
theorem dX6_seconds_36 : decode cX6_seconds 36 = .ok (.if_icmp .ge 13, 3) := dk_162 0 13 (dk_at dksX6_seconds_1 14 rfl rfl)
theorem dX6_seconds_39 : decode cX6_seconds 39 = .ok (.aload_n 0, 1) := dk_42 (dk_at dksX6_seconds_1 17 rfl rfl)
theorem dX6_seconds_40 : decode cX6_seconds 40 = .ok (.invokevirtual 338, 3) := dk_182 1 82 (dk_at dksX6_seconds_1 18 rfl rfl)
theorem dX6_seconds_43 : decode cX6_seconds 43 = .ok (.iinc 3 1, 3) := dk_132 3 1 (dk_at dksX6_seconds_1 21 rfl rfl)
theorem dX6_seconds_46 : decode cX6_seconds 46 = .ok (.goto (-12), 3) := dk_167 255 244 (dk_at dksX6_seconds_2 0 rfl rfl)
theorem dX6_seconds_49 : decode cX6_seconds 49 = .ok (.aload_n 0, 1) := dk_42 (dk_at dksX6_seconds_2 3 rfl rfl)
theorem dX6_seconds_50 : decode cX6_seconds 50 = .ok (.invokevirtual 335, 3) := dk_182 1 79 (dk_at dksX6_seconds_2 4 rfl rfl)
theorem dX6_seconds_53 : decode cX6_seconds 53 = .ok (.iload_n 2, 1) := dk_28 (dk_at dksX6_seconds_2 7 rfl rfl)
theorem dX6_seconds_54 : decode cX6_seconds 54 = .ok (.isub, 1) := dk_100 (dk_at dksX6_seconds_2 8 rfl rfl)
theorem dX6_seconds_55 : decode cX6_seconds 55 = .ok (.ireturn, 1) := dk_172 (dk_at dksX6_seconds_2 9 rfl rfl)
abbrev cX6_there : ByteArray := prog_15_method_64_code
def yX6_there : MethodName := ⟨RX6, "there", "()I"⟩
def dkwX6_there_1 : List UInt8 := [160, 0, 7, 4, 167, 0, 4, 3, 96, 60, 132, 2, 1, 167, 255, 225, 27, 172]
abbrev dktX6_there_1 : List UInt8 := dkwX6_there_1 ++ []
def dkwX6_there_0 : List UInt8 := [3, 60, 3, 61, 28, 42, 180, 0, 7, 5, 46, 162, 0, 27, 27, 42, 28, 6, 182, 1, 15, 6]
abbrev dktX6_there_0 : List UInt8 := dkwX6_there_0 ++ dktX6_there_1
theorem dksX6_there_0 : cX6_there.data.toList.drop 0 = dktX6_there_0 := by decide +kernel
theorem dksX6_there_1 : cX6_there.data.toList.drop 22 = dktX6_there_1 := dk_seg dksX6_there_0 22 rfl rfl
theorem dX6_there_0 : decode cX6_there 0 = .ok (.iconst 0, 1) := dk_3 (dk_at dksX6_there_0 0 rfl rfl)
theorem dX6_there_1 : decode cX6_there 1 = .ok (.istore_n 1, 1) := dk_60 (dk_at dksX6_there_0 1 rfl rfl)
theorem dX6_there_2 : decode cX6_there 2 = .ok (.iconst 0, 1) := dk_3 (dk_at dksX6_there_0 2 rfl rfl)
theorem dX6_there_3 : decode cX6_there 3 = .ok (.istore_n 2, 1) := dk_61 (dk_at dksX6_there_0 3 rfl rfl)
theorem dX6_there_4 : decode cX6_there 4 = .ok (.iload_n 2, 1) := dk_28 (dk_at dksX6_there_0 4 rfl rfl)
theorem dX6_there_5 : decode cX6_there 5 = .ok (.aload_n 0, 1) := dk_42 (dk_at dksX6_there_0 5 rfl rfl)
theorem dX6_there_6 : decode cX6_there 6 = .ok (.getfield 7, 3) := dk_180 0 7 (dk_at dksX6_there_0 6 rfl rfl)
theorem dX6_there_9 : decode cX6_there 9 = .ok (.iconst 2, 1) := dk_5 (dk_at dksX6_there_0 9 rfl rfl)
theorem dX6_there_10 : decode cX6_there 10 = .ok (.iaload, 1) := dk_46 (dk_at dksX6_there_0 10 rfl rfl)
theorem dX6_there_11 : decode cX6_there 11 = .ok (.if_icmp .ge 27, 3) := dk_162 0 27 (dk_at dksX6_there_0 11 rfl rfl)
theorem dX6_there_14 : decode cX6_there 14 = .ok (.iload_n 1, 1) := dk_27 (dk_at dksX6_there_0 14 rfl rfl)
theorem dX6_there_15 : decode cX6_there 15 = .ok (.aload_n 0, 1) := dk_42 (dk_at dksX6_there_0 15 rfl rfl)
theorem dX6_there_16 : decode cX6_there 16 = .ok (.iload_n 2, 1) := dk_28 (dk_at dksX6_there_0 16 rfl rfl)
theorem dX6_there_17 : decode cX6_there 17 = .ok (.iconst 3, 1) := dk_6 (dk_at dksX6_there_0 17 rfl rfl)
theorem dX6_there_18 : decode cX6_there 18 = .ok (.invokevirtual 271, 3) := dk_182 1 15 (dk_at dksX6_there_0 18 rfl rfl)
theorem dX6_there_21 : decode cX6_there 21 = .ok (.iconst 3, 1) := dk_6 (dk_at dksX6_there_0 21 rfl rfl)
theorem dX6_there_22 : decode cX6_there 22 = .ok (.if_icmp .ne 7, 3) := dk_160 0 7 (dk_at dksX6_there_1 0 rfl rfl)
theorem dX6_there_25 : decode cX6_there 25 = .ok (.iconst 1, 1) := dk_4 (dk_at dksX6_there_1 3 rfl rfl)
theorem dX6_there_26 : decode cX6_there 26 = .ok (.goto 4, 3) := dk_167 0 4 (dk_at dksX6_there_1 4 rfl rfl)
theorem dX6_there_29 : decode cX6_there 29 = .ok (.iconst 0, 1) := dk_3 (dk_at dksX6_there_1 7 rfl rfl)
theorem dX6_there_30 : decode cX6_there 30 = .ok (.iadd, 1) := dk_96 (dk_at dksX6_there_1 8 rfl rfl)
theorem dX6_there_31 : decode cX6_there 31 = .ok (.istore_n 1, 1) := dk_60 (dk_at dksX6_there_1 9 rfl rfl)
theorem dX6_there_32 : decode cX6_there 32 = .ok (.iinc 2 1, 3) := dk_132 2 1 (dk_at dksX6_there_1 10 rfl rfl)
theorem dX6_there_35 : decode cX6_there 35 = .ok (.goto (-31), 3) := dk_167 255 225 (dk_at dksX6_there_1 13 rfl rfl)
theorem dX6_there_38 : decode cX6_there 38 = .ok (.iload_n 1, 1) := dk_27 (dk_at dksX6_there_1 16 rfl rfl)
theorem dX6_there_39 : decode cX6_there 39 = .ok (.ireturn, 1) := dk_172 (dk_at dksX6_there_1 17 rfl rfl)
abbrev cX6_aSecond : ByteArray := prog_15_method_63_code
def yX6_aSecond : MethodName := ⟨RX6, "aSecond", "()V"⟩
def dkwX6_aSecond_5 : List UInt8 := [180, 0, 7, 6, 92, 46, 4, 96, 79, 177]
abbrev dktX6_aSecond_5 : List UInt8 := dkwX6_aSecond_5 ++ []
def dkwX6_aSecond_4 : List UInt8 := [3, 60, 27, 42, 180, 0, 7, 4, 46, 162, 0, 14, 42, 27, 182, 1, 76, 132, 1, 1, 167, 255, 238, 42]
abbrev dktX6_aSecond_4 : List UInt8 := dkwX6_aSecond_4 ++ dktX6_aSecond_5
def dkwX6_aSecond_3 : List UInt8 := [160, 0, 18, 42, 27, 7, 182, 1, 15, 2, 160, 0, 8, 42, 27, 182, 1, 73, 132, 1, 1, 167, 255, 218]
abbrev dktX6_aSecond_3 : List UInt8 := dkwX6_aSecond_3 ++ dktX6_aSecond_4
def dkwX6_aSecond_2 : List UInt8 := [167, 255, 212, 3, 60, 27, 42, 180, 0, 7, 5, 46, 162, 0, 34, 42, 27, 6, 182, 1, 15, 4]
abbrev dktX6_aSecond_2 : List UInt8 := dkwX6_aSecond_2 ++ dktX6_aSecond_3
def dkwX6_aSecond_1 : List UInt8 := [182, 1, 15, 42, 180, 0, 7, 6, 46, 160, 0, 10, 42, 27, 6, 4, 182, 1, 6, 132, 1, 1]
abbrev dktX6_aSecond_1 : List UInt8 := dkwX6_aSecond_1 ++ dktX6_aSecond_2
def dkwX6_aSecond_0 : List UInt8 := [3, 60, 27, 42, 180, 0, 7, 5, 46, 162, 0, 40, 42, 27, 6, 182, 1, 15, 154, 0, 25, 42, 27, 3]
abbrev dktX6_aSecond_0 : List UInt8 := dkwX6_aSecond_0 ++ dktX6_aSecond_1
theorem dksX6_aSecond_0 : cX6_aSecond.data.toList.drop 0 = dktX6_aSecond_0 := by decide +kernel
theorem dksX6_aSecond_1 : cX6_aSecond.data.toList.drop 24 = dktX6_aSecond_1 := dk_seg dksX6_aSecond_0 24 rfl rfl
theorem dksX6_aSecond_2 : cX6_aSecond.data.toList.drop 46 = dktX6_aSecond_2 := dk_seg dksX6_aSecond_1 22 rfl rfl
theorem dksX6_aSecond_3 : cX6_aSecond.data.toList.drop 68 = dktX6_aSecond_3 := dk_seg dksX6_aSecond_2 22 rfl rfl
theorem dksX6_aSecond_4 : cX6_aSecond.data.toList.drop 92 = dktX6_aSecond_4 := dk_seg dksX6_aSecond_3 24 rfl rfl
theorem dksX6_aSecond_5 : cX6_aSecond.data.toList.drop 116 = dktX6_aSecond_5 := dk_seg dksX6_aSecond_4 24 rfl rfl
theorem dX6_aSecond_0 : decode cX6_aSecond 0 = .ok (.iconst 0, 1) := dk_3 (dk_at dksX6_aSecond_0 0 rfl rfl)
theorem dX6_aSecond_1 : decode cX6_aSecond 1 = .ok (.istore_n 1, 1) := dk_60 (dk_at dksX6_aSecond_0 1 rfl rfl)
theorem dX6_aSecond_2 : decode cX6_aSecond 2 = .ok (.iload_n 1, 1) := dk_27 (dk_at dksX6_aSecond_0 2 rfl rfl)
theorem dX6_aSecond_3 : decode cX6_aSecond 3 = .ok (.aload_n 0, 1) := dk_42 (dk_at dksX6_aSecond_0 3 rfl rfl)
theorem dX6_aSecond_4 : decode cX6_aSecond 4 = .ok (.getfield 7, 3) := dk_180 0 7 (dk_at dksX6_aSecond_0 4 rfl rfl)
theorem dX6_aSecond_7 : decode cX6_aSecond 7 = .ok (.iconst 2, 1) := dk_5 (dk_at dksX6_aSecond_0 7 rfl rfl)
theorem dX6_aSecond_8 : decode cX6_aSecond 8 = .ok (.iaload, 1) := dk_46 (dk_at dksX6_aSecond_0 8 rfl rfl)
theorem dX6_aSecond_9 : decode cX6_aSecond 9 = .ok (.if_icmp .ge 40, 3) := dk_162 0 40 (dk_at dksX6_aSecond_0 9 rfl rfl)
theorem dX6_aSecond_12 : decode cX6_aSecond 12 = .ok (.aload_n 0, 1) := dk_42 (dk_at dksX6_aSecond_0 12 rfl rfl)
theorem dX6_aSecond_13 : decode cX6_aSecond 13 = .ok (.iload_n 1, 1) := dk_27 (dk_at dksX6_aSecond_0 13 rfl rfl)
theorem dX6_aSecond_14 : decode cX6_aSecond 14 = .ok (.iconst 3, 1) := dk_6 (dk_at dksX6_aSecond_0 14 rfl rfl)
theorem dX6_aSecond_15 : decode cX6_aSecond 15 = .ok (.invokevirtual 271, 3) := dk_182 1 15 (dk_at dksX6_aSecond_0 15 rfl rfl)
theorem dX6_aSecond_18 : decode cX6_aSecond 18 = .ok (.ifCond .ne 25, 3) := dk_154 0 25 (dk_at dksX6_aSecond_0 18 rfl rfl)
theorem dX6_aSecond_21 : decode cX6_aSecond 21 = .ok (.aload_n 0, 1) := dk_42 (dk_at dksX6_aSecond_0 21 rfl rfl)
theorem dX6_aSecond_22 : decode cX6_aSecond 22 = .ok (.iload_n 1, 1) := dk_27 (dk_at dksX6_aSecond_0 22 rfl rfl)
theorem dX6_aSecond_23 : decode cX6_aSecond 23 = .ok (.iconst 0, 1) := dk_3 (dk_at dksX6_aSecond_0 23 rfl rfl)
theorem dX6_aSecond_24 : decode cX6_aSecond 24 = .ok (.invokevirtual 271, 3) := dk_182 1 15 (dk_at dksX6_aSecond_1 0 rfl rfl)
theorem dX6_aSecond_27 : decode cX6_aSecond 27 = .ok (.aload_n 0, 1) := dk_42 (dk_at dksX6_aSecond_1 3 rfl rfl)
theorem dX6_aSecond_28 : decode cX6_aSecond 28 = .ok (.getfield 7, 3) := dk_180 0 7 (dk_at dksX6_aSecond_1 4 rfl rfl)
theorem dX6_aSecond_31 : decode cX6_aSecond 31 = .ok (.iconst 3, 1) := dk_6 (dk_at dksX6_aSecond_1 7 rfl rfl)
theorem dX6_aSecond_32 : decode cX6_aSecond 32 = .ok (.iaload, 1) := dk_46 (dk_at dksX6_aSecond_1 8 rfl rfl)
theorem dX6_aSecond_33 : decode cX6_aSecond 33 = .ok (.if_icmp .ne 10, 3) := dk_160 0 10 (dk_at dksX6_aSecond_1 9 rfl rfl)
theorem dX6_aSecond_36 : decode cX6_aSecond 36 = .ok (.aload_n 0, 1) := dk_42 (dk_at dksX6_aSecond_1 12 rfl rfl)
theorem dX6_aSecond_37 : decode cX6_aSecond 37 = .ok (.iload_n 1, 1) := dk_27 (dk_at dksX6_aSecond_1 13 rfl rfl)
theorem dX6_aSecond_38 : decode cX6_aSecond 38 = .ok (.iconst 3, 1) := dk_6 (dk_at dksX6_aSecond_1 14 rfl rfl)
theorem dX6_aSecond_39 : decode cX6_aSecond 39 = .ok (.iconst 1, 1) := dk_4 (dk_at dksX6_aSecond_1 15 rfl rfl)
theorem dX6_aSecond_40 : decode cX6_aSecond 40 = .ok (.invokevirtual 262, 3) := dk_182 1 6 (dk_at dksX6_aSecond_1 16 rfl rfl)
theorem dX6_aSecond_43 : decode cX6_aSecond 43 = .ok (.iinc 1 1, 3) := dk_132 1 1 (dk_at dksX6_aSecond_1 19 rfl rfl)
theorem dX6_aSecond_46 : decode cX6_aSecond 46 = .ok (.goto (-44), 3) := dk_167 255 212 (dk_at dksX6_aSecond_2 0 rfl rfl)
theorem dX6_aSecond_49 : decode cX6_aSecond 49 = .ok (.iconst 0, 1) := dk_3 (dk_at dksX6_aSecond_2 3 rfl rfl)
theorem dX6_aSecond_50 : decode cX6_aSecond 50 = .ok (.istore_n 1, 1) := dk_60 (dk_at dksX6_aSecond_2 4 rfl rfl)
theorem dX6_aSecond_51 : decode cX6_aSecond 51 = .ok (.iload_n 1, 1) := dk_27 (dk_at dksX6_aSecond_2 5 rfl rfl)
theorem dX6_aSecond_52 : decode cX6_aSecond 52 = .ok (.aload_n 0, 1) := dk_42 (dk_at dksX6_aSecond_2 6 rfl rfl)
theorem dX6_aSecond_53 : decode cX6_aSecond 53 = .ok (.getfield 7, 3) := dk_180 0 7 (dk_at dksX6_aSecond_2 7 rfl rfl)
theorem dX6_aSecond_56 : decode cX6_aSecond 56 = .ok (.iconst 2, 1) := dk_5 (dk_at dksX6_aSecond_2 10 rfl rfl)
theorem dX6_aSecond_57 : decode cX6_aSecond 57 = .ok (.iaload, 1) := dk_46 (dk_at dksX6_aSecond_2 11 rfl rfl)
theorem dX6_aSecond_58 : decode cX6_aSecond 58 = .ok (.if_icmp .ge 34, 3) := dk_162 0 34 (dk_at dksX6_aSecond_2 12 rfl rfl)
theorem dX6_aSecond_61 : decode cX6_aSecond 61 = .ok (.aload_n 0, 1) := dk_42 (dk_at dksX6_aSecond_2 15 rfl rfl)
theorem dX6_aSecond_62 : decode cX6_aSecond 62 = .ok (.iload_n 1, 1) := dk_27 (dk_at dksX6_aSecond_2 16 rfl rfl)
theorem dX6_aSecond_63 : decode cX6_aSecond 63 = .ok (.iconst 3, 1) := dk_6 (dk_at dksX6_aSecond_2 17 rfl rfl)
theorem dX6_aSecond_64 : decode cX6_aSecond 64 = .ok (.invokevirtual 271, 3) := dk_182 1 15 (dk_at dksX6_aSecond_2 18 rfl rfl)
theorem dX6_aSecond_67 : decode cX6_aSecond 67 = .ok (.iconst 1, 1) := dk_4 (dk_at dksX6_aSecond_2 21 rfl rfl)
theorem dX6_aSecond_68 : decode cX6_aSecond 68 = .ok (.if_icmp .ne 18, 3) := dk_160 0 18 (dk_at dksX6_aSecond_3 0 rfl rfl)
theorem dX6_aSecond_71 : decode cX6_aSecond 71 = .ok (.aload_n 0, 1) := dk_42 (dk_at dksX6_aSecond_3 3 rfl rfl)
theorem dX6_aSecond_72 : decode cX6_aSecond 72 = .ok (.iload_n 1, 1) := dk_27 (dk_at dksX6_aSecond_3 4 rfl rfl)
theorem dX6_aSecond_73 : decode cX6_aSecond 73 = .ok (.iconst 4, 1) := dk_7 (dk_at dksX6_aSecond_3 5 rfl rfl)
theorem dX6_aSecond_74 : decode cX6_aSecond 74 = .ok (.invokevirtual 271, 3) := dk_182 1 15 (dk_at dksX6_aSecond_3 6 rfl rfl)
theorem dX6_aSecond_77 : decode cX6_aSecond 77 = .ok (.iconst (-1), 1) := dk_2 (dk_at dksX6_aSecond_3 9 rfl rfl)
theorem dX6_aSecond_78 : decode cX6_aSecond 78 = .ok (.if_icmp .ne 8, 3) := dk_160 0 8 (dk_at dksX6_aSecond_3 10 rfl rfl)
theorem dX6_aSecond_81 : decode cX6_aSecond 81 = .ok (.aload_n 0, 1) := dk_42 (dk_at dksX6_aSecond_3 13 rfl rfl)
theorem dX6_aSecond_82 : decode cX6_aSecond 82 = .ok (.iload_n 1, 1) := dk_27 (dk_at dksX6_aSecond_3 14 rfl rfl)
theorem dX6_aSecond_83 : decode cX6_aSecond 83 = .ok (.invokevirtual 329, 3) := dk_182 1 73 (dk_at dksX6_aSecond_3 15 rfl rfl)
theorem dX6_aSecond_86 : decode cX6_aSecond 86 = .ok (.iinc 1 1, 3) := dk_132 1 1 (dk_at dksX6_aSecond_3 18 rfl rfl)
theorem dX6_aSecond_89 : decode cX6_aSecond 89 = .ok (.goto (-38), 3) := dk_167 255 218 (dk_at dksX6_aSecond_3 21 rfl rfl)
theorem dX6_aSecond_92 : decode cX6_aSecond 92 = .ok (.iconst 0, 1) := dk_3 (dk_at dksX6_aSecond_4 0 rfl rfl)
theorem dX6_aSecond_93 : decode cX6_aSecond 93 = .ok (.istore_n 1, 1) := dk_60 (dk_at dksX6_aSecond_4 1 rfl rfl)
theorem dX6_aSecond_94 : decode cX6_aSecond 94 = .ok (.iload_n 1, 1) := dk_27 (dk_at dksX6_aSecond_4 2 rfl rfl)
theorem dX6_aSecond_95 : decode cX6_aSecond 95 = .ok (.aload_n 0, 1) := dk_42 (dk_at dksX6_aSecond_4 3 rfl rfl)
theorem dX6_aSecond_96 : decode cX6_aSecond 96 = .ok (.getfield 7, 3) := dk_180 0 7 (dk_at dksX6_aSecond_4 4 rfl rfl)
theorem dX6_aSecond_99 : decode cX6_aSecond 99 = .ok (.iconst 1, 1) := dk_4 (dk_at dksX6_aSecond_4 7 rfl rfl)
theorem dX6_aSecond_100 : decode cX6_aSecond 100 = .ok (.iaload, 1) := dk_46 (dk_at dksX6_aSecond_4 8 rfl rfl)
theorem dX6_aSecond_101 : decode cX6_aSecond 101 = .ok (.if_icmp .ge 14, 3) := dk_162 0 14 (dk_at dksX6_aSecond_4 9 rfl rfl)
theorem dX6_aSecond_104 : decode cX6_aSecond 104 = .ok (.aload_n 0, 1) := dk_42 (dk_at dksX6_aSecond_4 12 rfl rfl)
theorem dX6_aSecond_105 : decode cX6_aSecond 105 = .ok (.iload_n 1, 1) := dk_27 (dk_at dksX6_aSecond_4 13 rfl rfl)
theorem dX6_aSecond_106 : decode cX6_aSecond 106 = .ok (.invokevirtual 332, 3) := dk_182 1 76 (dk_at dksX6_aSecond_4 14 rfl rfl)
theorem dX6_aSecond_109 : decode cX6_aSecond 109 = .ok (.iinc 1 1, 3) := dk_132 1 1 (dk_at dksX6_aSecond_4 17 rfl rfl)
theorem dX6_aSecond_112 : decode cX6_aSecond 112 = .ok (.goto (-18), 3) := dk_167 255 238 (dk_at dksX6_aSecond_4 20 rfl rfl)
theorem dX6_aSecond_115 : decode cX6_aSecond 115 = .ok (.aload_n 0, 1) := dk_42 (dk_at dksX6_aSecond_4 23 rfl rfl)
theorem dX6_aSecond_116 : decode cX6_aSecond 116 = .ok (.getfield 7, 3) := dk_180 0 7 (dk_at dksX6_aSecond_5 0 rfl rfl)
theorem dX6_aSecond_119 : decode cX6_aSecond 119 = .ok (.iconst 3, 1) := dk_6 (dk_at dksX6_aSecond_5 3 rfl rfl)
theorem dX6_aSecond_120 : decode cX6_aSecond 120 = .ok (.dup2, 1) := dk_92 (dk_at dksX6_aSecond_5 4 rfl rfl)
theorem dX6_aSecond_121 : decode cX6_aSecond 121 = .ok (.iaload, 1) := dk_46 (dk_at dksX6_aSecond_5 5 rfl rfl)
theorem dX6_aSecond_122 : decode cX6_aSecond 122 = .ok (.iconst 1, 1) := dk_4 (dk_at dksX6_aSecond_5 6 rfl rfl)
theorem dX6_aSecond_123 : decode cX6_aSecond 123 = .ok (.iadd, 1) := dk_96 (dk_at dksX6_aSecond_5 7 rfl rfl)
theorem dX6_aSecond_124 : decode cX6_aSecond 124 = .ok (.iastore, 1) := dk_79 (dk_at dksX6_aSecond_5 8 rfl rfl)
theorem dX6_aSecond_125 : decode cX6_aSecond 125 = .ok (.return_, 1) := dk_177 (dk_at dksX6_aSecond_5 9 rfl rfl)
abbrev cX6_givesCall : ByteArray := prog_15_method_54_code
def yX6_givesCall : MethodName := ⟨RX6, "givesCall", "(I)V"⟩
def dkwX6_givesCall_5 : List UInt8 := [61, 42, 180, 1, 29, 62, 132, 4, 1, 167, 255, 158, 42, 27, 7, 28, 182, 1, 6, 177]
abbrev dktX6_givesCall_5 : List UInt8 := dkwX6_givesCall_5 ++ []
def dkwX6_givesCall_4 : List UInt8 := [154, 0, 6, 167, 0, 27, 28, 2, 159, 0, 14, 42, 180, 1, 29, 29, 161, 0, 6, 167, 0, 11, 21, 4]
abbrev dktX6_givesCall_4 : List UInt8 := dkwX6_givesCall_4 ++ dktX6_givesCall_5
def dkwX6_givesCall_3 : List UInt8 := [182, 1, 15, 182, 1, 46, 153, 0, 46, 42, 27, 21, 4, 42, 180, 0, 7, 7, 46, 182, 1, 38]
abbrev dktX6_givesCall_3 : List UInt8 := dkwX6_givesCall_3 ++ dktX6_givesCall_4
def dkwX6_givesCall_2 : List UInt8 := [159, 0, 76, 42, 21, 4, 42, 27, 4, 182, 1, 15, 182, 1, 46, 153, 0, 61, 42, 21, 4, 42, 27, 5]
abbrev dktX6_givesCall_2 : List UInt8 := dkwX6_givesCall_2 ++ dktX6_givesCall_3
def dkwX6_givesCall_1 : List UInt8 := [3, 54, 4, 21, 4, 42, 180, 0, 7, 4, 46, 162, 0, 93, 42, 21, 4, 7, 182, 0, 248, 4]
abbrev dktX6_givesCall_1 : List UInt8 := dkwX6_givesCall_1 ++ dktX6_givesCall_2
def dkwX6_givesCall_0 : List UInt8 := [42, 180, 1, 42, 153, 0, 16, 42, 27, 7, 42, 180, 0, 45, 27, 46, 182, 1, 6, 177, 2, 61, 3, 62]
abbrev dktX6_givesCall_0 : List UInt8 := dkwX6_givesCall_0 ++ dktX6_givesCall_1
theorem dksX6_givesCall_0 : cX6_givesCall.data.toList.drop 0 = dktX6_givesCall_0 := by decide +kernel
theorem dksX6_givesCall_1 : cX6_givesCall.data.toList.drop 24 = dktX6_givesCall_1 := dk_seg dksX6_givesCall_0 24 rfl rfl
theorem dksX6_givesCall_2 : cX6_givesCall.data.toList.drop 46 = dktX6_givesCall_2 := dk_seg dksX6_givesCall_1 22 rfl rfl
theorem dksX6_givesCall_3 : cX6_givesCall.data.toList.drop 70 = dktX6_givesCall_3 := dk_seg dksX6_givesCall_2 24 rfl rfl
theorem dksX6_givesCall_4 : cX6_givesCall.data.toList.drop 92 = dktX6_givesCall_4 := dk_seg dksX6_givesCall_3 22 rfl rfl
theorem dksX6_givesCall_5 : cX6_givesCall.data.toList.drop 116 = dktX6_givesCall_5 := dk_seg dksX6_givesCall_4 24 rfl rfl
theorem dX6_givesCall_0 : decode cX6_givesCall 0 = .ok (.aload_n 0, 1) := dk_42 (dk_at dksX6_givesCall_0 0 rfl rfl)
theorem dX6_givesCall_1 : decode cX6_givesCall 1 = .ok (.getfield 298, 3) := dk_180 1 42 (dk_at dksX6_givesCall_0 1 rfl rfl)
theorem dX6_givesCall_4 : decode cX6_givesCall 4 = .ok (.ifCond .eq 16, 3) := dk_153 0 16 (dk_at dksX6_givesCall_0 4 rfl rfl)
theorem dX6_givesCall_7 : decode cX6_givesCall 7 = .ok (.aload_n 0, 1) := dk_42 (dk_at dksX6_givesCall_0 7 rfl rfl)
theorem dX6_givesCall_8 : decode cX6_givesCall 8 = .ok (.iload_n 1, 1) := dk_27 (dk_at dksX6_givesCall_0 8 rfl rfl)
theorem dX6_givesCall_9 : decode cX6_givesCall 9 = .ok (.iconst 4, 1) := dk_7 (dk_at dksX6_givesCall_0 9 rfl rfl)
theorem dX6_givesCall_10 : decode cX6_givesCall 10 = .ok (.aload_n 0, 1) := dk_42 (dk_at dksX6_givesCall_0 10 rfl rfl)
theorem dX6_givesCall_11 : decode cX6_givesCall 11 = .ok (.getfield 45, 3) := dk_180 0 45 (dk_at dksX6_givesCall_0 11 rfl rfl)
theorem dX6_givesCall_14 : decode cX6_givesCall 14 = .ok (.iload_n 1, 1) := dk_27 (dk_at dksX6_givesCall_0 14 rfl rfl)
theorem dX6_givesCall_15 : decode cX6_givesCall 15 = .ok (.iaload, 1) := dk_46 (dk_at dksX6_givesCall_0 15 rfl rfl)
theorem dX6_givesCall_16 : decode cX6_givesCall 16 = .ok (.invokevirtual 262, 3) := dk_182 1 6 (dk_at dksX6_givesCall_0 16 rfl rfl)
theorem dX6_givesCall_19 : decode cX6_givesCall 19 = .ok (.return_, 1) := dk_177 (dk_at dksX6_givesCall_0 19 rfl rfl)
theorem dX6_givesCall_20 : decode cX6_givesCall 20 = .ok (.iconst (-1), 1) := dk_2 (dk_at dksX6_givesCall_0 20 rfl rfl)
theorem dX6_givesCall_21 : decode cX6_givesCall 21 = .ok (.istore_n 2, 1) := dk_61 (dk_at dksX6_givesCall_0 21 rfl rfl)
theorem dX6_givesCall_22 : decode cX6_givesCall 22 = .ok (.iconst 0, 1) := dk_3 (dk_at dksX6_givesCall_0 22 rfl rfl)
theorem dX6_givesCall_23 : decode cX6_givesCall 23 = .ok (.istore_n 3, 1) := dk_62 (dk_at dksX6_givesCall_0 23 rfl rfl)
theorem dX6_givesCall_24 : decode cX6_givesCall 24 = .ok (.iconst 0, 1) := dk_3 (dk_at dksX6_givesCall_1 0 rfl rfl)
theorem dX6_givesCall_25 : decode cX6_givesCall 25 = .ok (.istore 4, 2) := dk_54 4 (dk_at dksX6_givesCall_1 1 rfl rfl)
theorem dX6_givesCall_27 : decode cX6_givesCall 27 = .ok (.iload 4, 2) := dk_21 4 (dk_at dksX6_givesCall_1 3 rfl rfl)
theorem dX6_givesCall_29 : decode cX6_givesCall 29 = .ok (.aload_n 0, 1) := dk_42 (dk_at dksX6_givesCall_1 5 rfl rfl)
theorem dX6_givesCall_30 : decode cX6_givesCall 30 = .ok (.getfield 7, 3) := dk_180 0 7 (dk_at dksX6_givesCall_1 6 rfl rfl)
theorem dX6_givesCall_33 : decode cX6_givesCall 33 = .ok (.iconst 1, 1) := dk_4 (dk_at dksX6_givesCall_1 9 rfl rfl)
theorem dX6_givesCall_34 : decode cX6_givesCall 34 = .ok (.iaload, 1) := dk_46 (dk_at dksX6_givesCall_1 10 rfl rfl)
theorem dX6_givesCall_35 : decode cX6_givesCall 35 = .ok (.if_icmp .ge 93, 3) := dk_162 0 93 (dk_at dksX6_givesCall_1 11 rfl rfl)
theorem dX6_givesCall_38 : decode cX6_givesCall 38 = .ok (.aload_n 0, 1) := dk_42 (dk_at dksX6_givesCall_1 14 rfl rfl)
theorem dX6_givesCall_39 : decode cX6_givesCall 39 = .ok (.iload 4, 2) := dk_21 4 (dk_at dksX6_givesCall_1 15 rfl rfl)
theorem dX6_givesCall_41 : decode cX6_givesCall 41 = .ok (.iconst 4, 1) := dk_7 (dk_at dksX6_givesCall_1 17 rfl rfl)
theorem dX6_givesCall_42 : decode cX6_givesCall 42 = .ok (.invokevirtual 248, 3) := dk_182 0 248 (dk_at dksX6_givesCall_1 18 rfl rfl)
theorem dX6_givesCall_45 : decode cX6_givesCall 45 = .ok (.iconst 1, 1) := dk_4 (dk_at dksX6_givesCall_1 21 rfl rfl)
theorem dX6_givesCall_46 : decode cX6_givesCall 46 = .ok (.if_icmp .eq 76, 3) := dk_159 0 76 (dk_at dksX6_givesCall_2 0 rfl rfl)
theorem dX6_givesCall_49 : decode cX6_givesCall 49 = .ok (.aload_n 0, 1) := dk_42 (dk_at dksX6_givesCall_2 3 rfl rfl)
theorem dX6_givesCall_50 : decode cX6_givesCall 50 = .ok (.iload 4, 2) := dk_21 4 (dk_at dksX6_givesCall_2 4 rfl rfl)
theorem dX6_givesCall_52 : decode cX6_givesCall 52 = .ok (.aload_n 0, 1) := dk_42 (dk_at dksX6_givesCall_2 6 rfl rfl)
theorem dX6_givesCall_53 : decode cX6_givesCall 53 = .ok (.iload_n 1, 1) := dk_27 (dk_at dksX6_givesCall_2 7 rfl rfl)
theorem dX6_givesCall_54 : decode cX6_givesCall 54 = .ok (.iconst 1, 1) := dk_4 (dk_at dksX6_givesCall_2 8 rfl rfl)
theorem dX6_givesCall_55 : decode cX6_givesCall 55 = .ok (.invokevirtual 271, 3) := dk_182 1 15 (dk_at dksX6_givesCall_2 9 rfl rfl)
theorem dX6_givesCall_58 : decode cX6_givesCall 58 = .ok (.invokevirtual 302, 3) := dk_182 1 46 (dk_at dksX6_givesCall_2 12 rfl rfl)
theorem dX6_givesCall_61 : decode cX6_givesCall 61 = .ok (.ifCond .eq 61, 3) := dk_153 0 61 (dk_at dksX6_givesCall_2 15 rfl rfl)
theorem dX6_givesCall_64 : decode cX6_givesCall 64 = .ok (.aload_n 0, 1) := dk_42 (dk_at dksX6_givesCall_2 18 rfl rfl)
theorem dX6_givesCall_65 : decode cX6_givesCall 65 = .ok (.iload 4, 2) := dk_21 4 (dk_at dksX6_givesCall_2 19 rfl rfl)
theorem dX6_givesCall_67 : decode cX6_givesCall 67 = .ok (.aload_n 0, 1) := dk_42 (dk_at dksX6_givesCall_2 21 rfl rfl)
theorem dX6_givesCall_68 : decode cX6_givesCall 68 = .ok (.iload_n 1, 1) := dk_27 (dk_at dksX6_givesCall_2 22 rfl rfl)
theorem dX6_givesCall_69 : decode cX6_givesCall 69 = .ok (.iconst 2, 1) := dk_5 (dk_at dksX6_givesCall_2 23 rfl rfl)
theorem dX6_givesCall_70 : decode cX6_givesCall 70 = .ok (.invokevirtual 271, 3) := dk_182 1 15 (dk_at dksX6_givesCall_3 0 rfl rfl)
theorem dX6_givesCall_73 : decode cX6_givesCall 73 = .ok (.invokevirtual 302, 3) := dk_182 1 46 (dk_at dksX6_givesCall_3 3 rfl rfl)
theorem dX6_givesCall_76 : decode cX6_givesCall 76 = .ok (.ifCond .eq 46, 3) := dk_153 0 46 (dk_at dksX6_givesCall_3 6 rfl rfl)
theorem dX6_givesCall_79 : decode cX6_givesCall 79 = .ok (.aload_n 0, 1) := dk_42 (dk_at dksX6_givesCall_3 9 rfl rfl)
theorem dX6_givesCall_80 : decode cX6_givesCall 80 = .ok (.iload_n 1, 1) := dk_27 (dk_at dksX6_givesCall_3 10 rfl rfl)
theorem dX6_givesCall_81 : decode cX6_givesCall 81 = .ok (.iload 4, 2) := dk_21 4 (dk_at dksX6_givesCall_3 11 rfl rfl)
theorem dX6_givesCall_83 : decode cX6_givesCall 83 = .ok (.aload_n 0, 1) := dk_42 (dk_at dksX6_givesCall_3 13 rfl rfl)
theorem dX6_givesCall_84 : decode cX6_givesCall 84 = .ok (.getfield 7, 3) := dk_180 0 7 (dk_at dksX6_givesCall_3 14 rfl rfl)
theorem dX6_givesCall_87 : decode cX6_givesCall 87 = .ok (.iconst 4, 1) := dk_7 (dk_at dksX6_givesCall_3 17 rfl rfl)
theorem dX6_givesCall_88 : decode cX6_givesCall 88 = .ok (.iaload, 1) := dk_46 (dk_at dksX6_givesCall_3 18 rfl rfl)
theorem dX6_givesCall_89 : decode cX6_givesCall 89 = .ok (.invokevirtual 294, 3) := dk_182 1 38 (dk_at dksX6_givesCall_3 19 rfl rfl)
theorem dX6_givesCall_92 : decode cX6_givesCall 92 = .ok (.ifCond .ne 6, 3) := dk_154 0 6 (dk_at dksX6_givesCall_4 0 rfl rfl)
theorem dX6_givesCall_95 : decode cX6_givesCall 95 = .ok (.goto 27, 3) := dk_167 0 27 (dk_at dksX6_givesCall_4 3 rfl rfl)
theorem dX6_givesCall_98 : decode cX6_givesCall 98 = .ok (.iload_n 2, 1) := dk_28 (dk_at dksX6_givesCall_4 6 rfl rfl)
theorem dX6_givesCall_99 : decode cX6_givesCall 99 = .ok (.iconst (-1), 1) := dk_2 (dk_at dksX6_givesCall_4 7 rfl rfl)
theorem dX6_givesCall_100 : decode cX6_givesCall 100 = .ok (.if_icmp .eq 14, 3) := dk_159 0 14 (dk_at dksX6_givesCall_4 8 rfl rfl)
theorem dX6_givesCall_103 : decode cX6_givesCall 103 = .ok (.aload_n 0, 1) := dk_42 (dk_at dksX6_givesCall_4 11 rfl rfl)
theorem dX6_givesCall_104 : decode cX6_givesCall 104 = .ok (.getfield 285, 3) := dk_180 1 29 (dk_at dksX6_givesCall_4 12 rfl rfl)
theorem dX6_givesCall_107 : decode cX6_givesCall 107 = .ok (.iload_n 3, 1) := dk_29 (dk_at dksX6_givesCall_4 15 rfl rfl)
theorem dX6_givesCall_108 : decode cX6_givesCall 108 = .ok (.if_icmp .lt 6, 3) := dk_161 0 6 (dk_at dksX6_givesCall_4 16 rfl rfl)
theorem dX6_givesCall_111 : decode cX6_givesCall 111 = .ok (.goto 11, 3) := dk_167 0 11 (dk_at dksX6_givesCall_4 19 rfl rfl)
theorem dX6_givesCall_114 : decode cX6_givesCall 114 = .ok (.iload 4, 2) := dk_21 4 (dk_at dksX6_givesCall_4 22 rfl rfl)
theorem dX6_givesCall_116 : decode cX6_givesCall 116 = .ok (.istore_n 2, 1) := dk_61 (dk_at dksX6_givesCall_5 0 rfl rfl)
theorem dX6_givesCall_117 : decode cX6_givesCall 117 = .ok (.aload_n 0, 1) := dk_42 (dk_at dksX6_givesCall_5 1 rfl rfl)
theorem dX6_givesCall_118 : decode cX6_givesCall 118 = .ok (.getfield 285, 3) := dk_180 1 29 (dk_at dksX6_givesCall_5 2 rfl rfl)
theorem dX6_givesCall_121 : decode cX6_givesCall 121 = .ok (.istore_n 3, 1) := dk_62 (dk_at dksX6_givesCall_5 5 rfl rfl)
theorem dX6_givesCall_122 : decode cX6_givesCall 122 = .ok (.iinc 4 1, 3) := dk_132 4 1 (dk_at dksX6_givesCall_5 6 rfl rfl)
theorem dX6_givesCall_125 : decode cX6_givesCall 125 = .ok (.goto (-98), 3) := dk_167 255 158 (dk_at dksX6_givesCall_5 9 rfl rfl)
theorem dX6_givesCall_128 : decode cX6_givesCall 128 = .ok (.aload_n 0, 1) := dk_42 (dk_at dksX6_givesCall_5 12 rfl rfl)
theorem dX6_givesCall_129 : decode cX6_givesCall 129 = .ok (.iload_n 1, 1) := dk_27 (dk_at dksX6_givesCall_5 13 rfl rfl)
theorem dX6_givesCall_130 : decode cX6_givesCall 130 = .ok (.iconst 4, 1) := dk_7 (dk_at dksX6_givesCall_5 14 rfl rfl)
theorem dX6_givesCall_131 : decode cX6_givesCall 131 = .ok (.iload_n 2, 1) := dk_28 (dk_at dksX6_givesCall_5 15 rfl rfl)
theorem dX6_givesCall_132 : decode cX6_givesCall 132 = .ok (.invokevirtual 262, 3) := dk_182 1 6 (dk_at dksX6_givesCall_5 16 rfl rfl)
theorem dX6_givesCall_135 : decode cX6_givesCall 135 = .ok (.return_, 1) := dk_177 (dk_at dksX6_givesCall_5 19 rfl rfl)
abbrev cX6_serves : ByteArray := prog_15_method_11_code
def yX6_serves : MethodName := ⟨RX6, "serves", "(II)Z"⟩
def dkwX6_serves_0 : List UInt8 := [42, 180, 0, 7, 16, 100, 16, 80, 27, 104, 96, 28, 96, 46, 4, 160, 0, 7, 4, 167, 0, 4, 3, 172]
abbrev dktX6_serves_0 : List UInt8 := dkwX6_serves_0 ++ []
theorem dksX6_serves_0 : cX6_serves.data.toList.drop 0 = dktX6_serves_0 := by decide +kernel
theorem dX6_serves_0 : decode cX6_serves 0 = .ok (.aload_n 0, 1) := dk_42 (dk_at dksX6_serves_0 0 rfl rfl)
theorem dX6_serves_1 : decode cX6_serves 1 = .ok (.getfield 7, 3) := dk_180 0 7 (dk_at dksX6_serves_0 1 rfl rfl)
theorem dX6_serves_4 : decode cX6_serves 4 = .ok (.bipush 100, 2) := dk_16 100 (dk_at dksX6_serves_0 4 rfl rfl)
theorem dX6_serves_6 : decode cX6_serves 6 = .ok (.bipush 80, 2) := dk_16 80 (dk_at dksX6_serves_0 6 rfl rfl)
theorem dX6_serves_8 : decode cX6_serves 8 = .ok (.iload_n 1, 1) := dk_27 (dk_at dksX6_serves_0 8 rfl rfl)
theorem dX6_serves_9 : decode cX6_serves 9 = .ok (.imul, 1) := dk_104 (dk_at dksX6_serves_0 9 rfl rfl)
theorem dX6_serves_10 : decode cX6_serves 10 = .ok (.iadd, 1) := dk_96 (dk_at dksX6_serves_0 10 rfl rfl)
theorem dX6_serves_11 : decode cX6_serves 11 = .ok (.iload_n 2, 1) := dk_28 (dk_at dksX6_serves_0 11 rfl rfl)
theorem dX6_serves_12 : decode cX6_serves 12 = .ok (.iadd, 1) := dk_96 (dk_at dksX6_serves_0 12 rfl rfl)
theorem dX6_serves_13 : decode cX6_serves 13 = .ok (.iaload, 1) := dk_46 (dk_at dksX6_serves_0 13 rfl rfl)
theorem dX6_serves_14 : decode cX6_serves 14 = .ok (.iconst 1, 1) := dk_4 (dk_at dksX6_serves_0 14 rfl rfl)
theorem dX6_serves_15 : decode cX6_serves 15 = .ok (.if_icmp .ne 7, 3) := dk_160 0 7 (dk_at dksX6_serves_0 15 rfl rfl)
theorem dX6_serves_18 : decode cX6_serves 18 = .ok (.iconst 1, 1) := dk_4 (dk_at dksX6_serves_0 18 rfl rfl)
theorem dX6_serves_19 : decode cX6_serves 19 = .ok (.goto 4, 3) := dk_167 0 4 (dk_at dksX6_serves_0 19 rfl rfl)
theorem dX6_serves_22 : decode cX6_serves 22 = .ok (.iconst 0, 1) := dk_3 (dk_at dksX6_serves_0 22 rfl rfl)
theorem dX6_serves_23 : decode cX6_serves 23 = .ok (.ireturn, 1) := dk_172 (dk_at dksX6_serves_0 23 rfl rfl)
abbrev cX6_aCarsSecond : ByteArray := prog_15_method_62_code
def yX6_aCarsSecond : MethodName := ⟨RX6, "aCarsSecond", "(I)V"⟩
def dkwX6_aCarsSecond_3 : List UInt8 := [182, 0, 241, 42, 27, 182, 1, 70, 177]
abbrev dktX6_aCarsSecond_3 : List UInt8 := dkwX6_aCarsSecond_3 ++ []
def dkwX6_aCarsSecond_2 : List UInt8 := [182, 0, 248, 4, 160, 0, 22, 42, 27, 3, 42, 27, 3, 182, 0, 248, 42, 27, 4, 182, 0, 248, 96]
abbrev dktX6_aCarsSecond_2 : List UInt8 := dkwX6_aCarsSecond_2 ++ dktX6_aCarsSecond_3
def dkwX6_aCarsSecond_1 : List UInt8 := [27, 6, 182, 0, 248, 4, 100, 182, 0, 241, 42, 27, 6, 182, 0, 248, 158, 0, 4, 177, 42, 27, 5]
abbrev dktX6_aCarsSecond_1 : List UInt8 := dkwX6_aCarsSecond_1 ++ dktX6_aCarsSecond_2
def dkwX6_aCarsSecond_0 : List UInt8 := [42, 27, 7, 182, 0, 248, 4, 160, 0, 4, 177, 42, 27, 5, 182, 0, 248, 153, 0, 56, 42, 27, 6, 42]
abbrev dktX6_aCarsSecond_0 : List UInt8 := dkwX6_aCarsSecond_0 ++ dktX6_aCarsSecond_1
theorem dksX6_aCarsSecond_0 : cX6_aCarsSecond.data.toList.drop 0 = dktX6_aCarsSecond_0 := by decide +kernel
theorem dksX6_aCarsSecond_1 : cX6_aCarsSecond.data.toList.drop 24 = dktX6_aCarsSecond_1 := dk_seg dksX6_aCarsSecond_0 24 rfl rfl
theorem dksX6_aCarsSecond_2 : cX6_aCarsSecond.data.toList.drop 47 = dktX6_aCarsSecond_2 := dk_seg dksX6_aCarsSecond_1 23 rfl rfl
theorem dksX6_aCarsSecond_3 : cX6_aCarsSecond.data.toList.drop 70 = dktX6_aCarsSecond_3 := dk_seg dksX6_aCarsSecond_2 23 rfl rfl
theorem dX6_aCarsSecond_0 : decode cX6_aCarsSecond 0 = .ok (.aload_n 0, 1) := dk_42 (dk_at dksX6_aCarsSecond_0 0 rfl rfl)
theorem dX6_aCarsSecond_1 : decode cX6_aCarsSecond 1 = .ok (.iload_n 1, 1) := dk_27 (dk_at dksX6_aCarsSecond_0 1 rfl rfl)
theorem dX6_aCarsSecond_2 : decode cX6_aCarsSecond 2 = .ok (.iconst 4, 1) := dk_7 (dk_at dksX6_aCarsSecond_0 2 rfl rfl)
theorem dX6_aCarsSecond_3 : decode cX6_aCarsSecond 3 = .ok (.invokevirtual 248, 3) := dk_182 0 248 (dk_at dksX6_aCarsSecond_0 3 rfl rfl)
theorem dX6_aCarsSecond_6 : decode cX6_aCarsSecond 6 = .ok (.iconst 1, 1) := dk_4 (dk_at dksX6_aCarsSecond_0 6 rfl rfl)
theorem dX6_aCarsSecond_7 : decode cX6_aCarsSecond 7 = .ok (.if_icmp .ne 4, 3) := dk_160 0 4 (dk_at dksX6_aCarsSecond_0 7 rfl rfl)
theorem dX6_aCarsSecond_10 : decode cX6_aCarsSecond 10 = .ok (.return_, 1) := dk_177 (dk_at dksX6_aCarsSecond_0 10 rfl rfl)
theorem dX6_aCarsSecond_11 : decode cX6_aCarsSecond 11 = .ok (.aload_n 0, 1) := dk_42 (dk_at dksX6_aCarsSecond_0 11 rfl rfl)
theorem dX6_aCarsSecond_12 : decode cX6_aCarsSecond 12 = .ok (.iload_n 1, 1) := dk_27 (dk_at dksX6_aCarsSecond_0 12 rfl rfl)
theorem dX6_aCarsSecond_13 : decode cX6_aCarsSecond 13 = .ok (.iconst 2, 1) := dk_5 (dk_at dksX6_aCarsSecond_0 13 rfl rfl)
theorem dX6_aCarsSecond_14 : decode cX6_aCarsSecond 14 = .ok (.invokevirtual 248, 3) := dk_182 0 248 (dk_at dksX6_aCarsSecond_0 14 rfl rfl)
theorem dX6_aCarsSecond_17 : decode cX6_aCarsSecond 17 = .ok (.ifCond .eq 56, 3) := dk_153 0 56 (dk_at dksX6_aCarsSecond_0 17 rfl rfl)
theorem dX6_aCarsSecond_20 : decode cX6_aCarsSecond 20 = .ok (.aload_n 0, 1) := dk_42 (dk_at dksX6_aCarsSecond_0 20 rfl rfl)
theorem dX6_aCarsSecond_21 : decode cX6_aCarsSecond 21 = .ok (.iload_n 1, 1) := dk_27 (dk_at dksX6_aCarsSecond_0 21 rfl rfl)
theorem dX6_aCarsSecond_22 : decode cX6_aCarsSecond 22 = .ok (.iconst 3, 1) := dk_6 (dk_at dksX6_aCarsSecond_0 22 rfl rfl)
theorem dX6_aCarsSecond_23 : decode cX6_aCarsSecond 23 = .ok (.aload_n 0, 1) := dk_42 (dk_at dksX6_aCarsSecond_0 23 rfl rfl)
theorem dX6_aCarsSecond_24 : decode cX6_aCarsSecond 24 = .ok (.iload_n 1, 1) := dk_27 (dk_at dksX6_aCarsSecond_1 0 rfl rfl)
theorem dX6_aCarsSecond_25 : decode cX6_aCarsSecond 25 = .ok (.iconst 3, 1) := dk_6 (dk_at dksX6_aCarsSecond_1 1 rfl rfl)
theorem dX6_aCarsSecond_26 : decode cX6_aCarsSecond 26 = .ok (.invokevirtual 248, 3) := dk_182 0 248 (dk_at dksX6_aCarsSecond_1 2 rfl rfl)
theorem dX6_aCarsSecond_29 : decode cX6_aCarsSecond 29 = .ok (.iconst 1, 1) := dk_4 (dk_at dksX6_aCarsSecond_1 5 rfl rfl)
theorem dX6_aCarsSecond_30 : decode cX6_aCarsSecond 30 = .ok (.isub, 1) := dk_100 (dk_at dksX6_aCarsSecond_1 6 rfl rfl)
theorem dX6_aCarsSecond_31 : decode cX6_aCarsSecond 31 = .ok (.invokevirtual 241, 3) := dk_182 0 241 (dk_at dksX6_aCarsSecond_1 7 rfl rfl)
theorem dX6_aCarsSecond_34 : decode cX6_aCarsSecond 34 = .ok (.aload_n 0, 1) := dk_42 (dk_at dksX6_aCarsSecond_1 10 rfl rfl)
theorem dX6_aCarsSecond_35 : decode cX6_aCarsSecond 35 = .ok (.iload_n 1, 1) := dk_27 (dk_at dksX6_aCarsSecond_1 11 rfl rfl)
theorem dX6_aCarsSecond_36 : decode cX6_aCarsSecond 36 = .ok (.iconst 3, 1) := dk_6 (dk_at dksX6_aCarsSecond_1 12 rfl rfl)
theorem dX6_aCarsSecond_37 : decode cX6_aCarsSecond 37 = .ok (.invokevirtual 248, 3) := dk_182 0 248 (dk_at dksX6_aCarsSecond_1 13 rfl rfl)
theorem dX6_aCarsSecond_40 : decode cX6_aCarsSecond 40 = .ok (.ifCond .le 4, 3) := dk_158 0 4 (dk_at dksX6_aCarsSecond_1 16 rfl rfl)
theorem dX6_aCarsSecond_43 : decode cX6_aCarsSecond 43 = .ok (.return_, 1) := dk_177 (dk_at dksX6_aCarsSecond_1 19 rfl rfl)
theorem dX6_aCarsSecond_44 : decode cX6_aCarsSecond 44 = .ok (.aload_n 0, 1) := dk_42 (dk_at dksX6_aCarsSecond_1 20 rfl rfl)
theorem dX6_aCarsSecond_45 : decode cX6_aCarsSecond 45 = .ok (.iload_n 1, 1) := dk_27 (dk_at dksX6_aCarsSecond_1 21 rfl rfl)
theorem dX6_aCarsSecond_46 : decode cX6_aCarsSecond 46 = .ok (.iconst 2, 1) := dk_5 (dk_at dksX6_aCarsSecond_1 22 rfl rfl)
theorem dX6_aCarsSecond_47 : decode cX6_aCarsSecond 47 = .ok (.invokevirtual 248, 3) := dk_182 0 248 (dk_at dksX6_aCarsSecond_2 0 rfl rfl)
theorem dX6_aCarsSecond_50 : decode cX6_aCarsSecond 50 = .ok (.iconst 1, 1) := dk_4 (dk_at dksX6_aCarsSecond_2 3 rfl rfl)
theorem dX6_aCarsSecond_51 : decode cX6_aCarsSecond 51 = .ok (.if_icmp .ne 22, 3) := dk_160 0 22 (dk_at dksX6_aCarsSecond_2 4 rfl rfl)
theorem dX6_aCarsSecond_54 : decode cX6_aCarsSecond 54 = .ok (.aload_n 0, 1) := dk_42 (dk_at dksX6_aCarsSecond_2 7 rfl rfl)
theorem dX6_aCarsSecond_55 : decode cX6_aCarsSecond 55 = .ok (.iload_n 1, 1) := dk_27 (dk_at dksX6_aCarsSecond_2 8 rfl rfl)
theorem dX6_aCarsSecond_56 : decode cX6_aCarsSecond 56 = .ok (.iconst 0, 1) := dk_3 (dk_at dksX6_aCarsSecond_2 9 rfl rfl)
theorem dX6_aCarsSecond_57 : decode cX6_aCarsSecond 57 = .ok (.aload_n 0, 1) := dk_42 (dk_at dksX6_aCarsSecond_2 10 rfl rfl)
theorem dX6_aCarsSecond_58 : decode cX6_aCarsSecond 58 = .ok (.iload_n 1, 1) := dk_27 (dk_at dksX6_aCarsSecond_2 11 rfl rfl)
theorem dX6_aCarsSecond_59 : decode cX6_aCarsSecond 59 = .ok (.iconst 0, 1) := dk_3 (dk_at dksX6_aCarsSecond_2 12 rfl rfl)
theorem dX6_aCarsSecond_60 : decode cX6_aCarsSecond 60 = .ok (.invokevirtual 248, 3) := dk_182 0 248 (dk_at dksX6_aCarsSecond_2 13 rfl rfl)
theorem dX6_aCarsSecond_63 : decode cX6_aCarsSecond 63 = .ok (.aload_n 0, 1) := dk_42 (dk_at dksX6_aCarsSecond_2 16 rfl rfl)
theorem dX6_aCarsSecond_64 : decode cX6_aCarsSecond 64 = .ok (.iload_n 1, 1) := dk_27 (dk_at dksX6_aCarsSecond_2 17 rfl rfl)
theorem dX6_aCarsSecond_65 : decode cX6_aCarsSecond 65 = .ok (.iconst 1, 1) := dk_4 (dk_at dksX6_aCarsSecond_2 18 rfl rfl)
theorem dX6_aCarsSecond_66 : decode cX6_aCarsSecond 66 = .ok (.invokevirtual 248, 3) := dk_182 0 248 (dk_at dksX6_aCarsSecond_2 19 rfl rfl)
theorem dX6_aCarsSecond_69 : decode cX6_aCarsSecond 69 = .ok (.iadd, 1) := dk_96 (dk_at dksX6_aCarsSecond_2 22 rfl rfl)
theorem dX6_aCarsSecond_70 : decode cX6_aCarsSecond 70 = .ok (.invokevirtual 241, 3) := dk_182 0 241 (dk_at dksX6_aCarsSecond_3 0 rfl rfl)
theorem dX6_aCarsSecond_73 : decode cX6_aCarsSecond 73 = .ok (.aload_n 0, 1) := dk_42 (dk_at dksX6_aCarsSecond_3 3 rfl rfl)
theorem dX6_aCarsSecond_74 : decode cX6_aCarsSecond 74 = .ok (.iload_n 1, 1) := dk_27 (dk_at dksX6_aCarsSecond_3 4 rfl rfl)
theorem dX6_aCarsSecond_75 : decode cX6_aCarsSecond 75 = .ok (.invokevirtual 326, 3) := dk_182 1 70 (dk_at dksX6_aCarsSecond_3 5 rfl rfl)
theorem dX6_aCarsSecond_78 : decode cX6_aCarsSecond 78 = .ok (.return_, 1) := dk_177 (dk_at dksX6_aCarsSecond_3 8 rfl rfl)
abbrev cX6_looks : ByteArray := prog_15_method_61_code
def yX6_looks : MethodName := ⟨RX6, "looks", "(I)V"⟩
def dkwX6_looks_7 : List UInt8 := [182, 0, 248, 153, 0, 13, 42, 27, 16, 7, 182, 0, 248, 167, 0, 4, 3, 182, 0, 241, 177]
abbrev dktX6_looks_7 : List UInt8 := dkwX6_looks_7 ++ []
def dkwX6_looks_6 : List UInt8 := [27, 16, 8, 182, 0, 248, 28, 42, 27, 16, 9, 182, 0, 248, 104, 96, 167, 0, 23, 42, 27, 4]
abbrev dktX6_looks_6 : List UInt8 := dkwX6_looks_6 ++ dktX6_looks_7
def dkwX6_looks_5 : List UInt8 := [4, 182, 0, 248, 153, 0, 7, 4, 167, 0, 4, 3, 182, 0, 241, 42, 27, 6, 21, 5, 153, 0, 23, 42]
abbrev dktX6_looks_5 : List UInt8 := dkwX6_looks_5 ++ dktX6_looks_6
def dkwX6_looks_4 : List UInt8 := [153, 0, 7, 4, 167, 0, 4, 3, 54, 5, 42, 27, 5, 21, 5, 153, 0, 7, 5, 167, 0, 17, 42, 27]
abbrev dktX6_looks_4 : List UInt8 := dkwX6_looks_4 ++ dktX6_looks_5
def dkwX6_looks_3 : List UInt8 := [4, 160, 0, 7, 4, 167, 0, 4, 3, 54, 4, 42, 180, 0, 7, 29, 3, 79, 28, 157, 0, 8, 21, 4]
abbrev dktX6_looks_3 : List UInt8 := dkwX6_looks_3 ++ dktX6_looks_4
def dkwX6_looks_2 : List UInt8 := [96, 61, 17, 1, 164, 16, 80, 27, 104, 96, 42, 27, 3, 182, 0, 248, 96, 62, 42, 180, 0, 7, 29, 46]
abbrev dktX6_looks_2 : List UInt8 := dkwX6_looks_2 ++ dktX6_looks_3
def dkwX6_looks_1 : List UInt8 := [182, 1, 55, 2, 160, 0, 14, 42, 27, 4, 42, 27, 182, 1, 64, 182, 0, 241, 28, 42, 27, 182, 1, 67]
abbrev dktX6_looks_1 : List UInt8 := dkwX6_looks_1 ++ dktX6_looks_2
def dkwX6_looks_0 : List UInt8 := [42, 27, 182, 1, 61, 61, 42, 27, 4, 182, 0, 248, 153, 0, 18, 42, 27, 42, 27, 4, 182, 0, 248]
abbrev dktX6_looks_0 : List UInt8 := dkwX6_looks_0 ++ dktX6_looks_1
theorem dksX6_looks_0 : cX6_looks.data.toList.drop 0 = dktX6_looks_0 := by decide +kernel
theorem dksX6_looks_1 : cX6_looks.data.toList.drop 23 = dktX6_looks_1 := dk_seg dksX6_looks_0 23 rfl rfl
theorem dksX6_looks_2 : cX6_looks.data.toList.drop 47 = dktX6_looks_2 := dk_seg dksX6_looks_1 24 rfl rfl
theorem dksX6_looks_3 : cX6_looks.data.toList.drop 71 = dktX6_looks_3 := dk_seg dksX6_looks_2 24 rfl rfl
theorem dksX6_looks_4 : cX6_looks.data.toList.drop 95 = dktX6_looks_4 := dk_seg dksX6_looks_3 24 rfl rfl
theorem dksX6_looks_5 : cX6_looks.data.toList.drop 119 = dktX6_looks_5 := dk_seg dksX6_looks_4 24 rfl rfl
theorem dksX6_looks_6 : cX6_looks.data.toList.drop 143 = dktX6_looks_6 := dk_seg dksX6_looks_5 24 rfl rfl
theorem dksX6_looks_7 : cX6_looks.data.toList.drop 165 = dktX6_looks_7 := dk_seg dksX6_looks_6 22 rfl rfl
theorem dX6_looks_0 : decode cX6_looks 0 = .ok (.aload_n 0, 1) := dk_42 (dk_at dksX6_looks_0 0 rfl rfl)
theorem dX6_looks_1 : decode cX6_looks 1 = .ok (.iload_n 1, 1) := dk_27 (dk_at dksX6_looks_0 1 rfl rfl)
theorem dX6_looks_2 : decode cX6_looks 2 = .ok (.invokevirtual 317, 3) := dk_182 1 61 (dk_at dksX6_looks_0 2 rfl rfl)
theorem dX6_looks_5 : decode cX6_looks 5 = .ok (.istore_n 2, 1) := dk_61 (dk_at dksX6_looks_0 5 rfl rfl)
theorem dX6_looks_6 : decode cX6_looks 6 = .ok (.aload_n 0, 1) := dk_42 (dk_at dksX6_looks_0 6 rfl rfl)
theorem dX6_looks_7 : decode cX6_looks 7 = .ok (.iload_n 1, 1) := dk_27 (dk_at dksX6_looks_0 7 rfl rfl)
theorem dX6_looks_8 : decode cX6_looks 8 = .ok (.iconst 1, 1) := dk_4 (dk_at dksX6_looks_0 8 rfl rfl)
theorem dX6_looks_9 : decode cX6_looks 9 = .ok (.invokevirtual 248, 3) := dk_182 0 248 (dk_at dksX6_looks_0 9 rfl rfl)
theorem dX6_looks_12 : decode cX6_looks 12 = .ok (.ifCond .eq 18, 3) := dk_153 0 18 (dk_at dksX6_looks_0 12 rfl rfl)
theorem dX6_looks_15 : decode cX6_looks 15 = .ok (.aload_n 0, 1) := dk_42 (dk_at dksX6_looks_0 15 rfl rfl)
theorem dX6_looks_16 : decode cX6_looks 16 = .ok (.iload_n 1, 1) := dk_27 (dk_at dksX6_looks_0 16 rfl rfl)
theorem dX6_looks_17 : decode cX6_looks 17 = .ok (.aload_n 0, 1) := dk_42 (dk_at dksX6_looks_0 17 rfl rfl)
theorem dX6_looks_18 : decode cX6_looks 18 = .ok (.iload_n 1, 1) := dk_27 (dk_at dksX6_looks_0 18 rfl rfl)
theorem dX6_looks_19 : decode cX6_looks 19 = .ok (.iconst 1, 1) := dk_4 (dk_at dksX6_looks_0 19 rfl rfl)
theorem dX6_looks_20 : decode cX6_looks 20 = .ok (.invokevirtual 248, 3) := dk_182 0 248 (dk_at dksX6_looks_0 20 rfl rfl)
theorem dX6_looks_23 : decode cX6_looks 23 = .ok (.invokevirtual 311, 3) := dk_182 1 55 (dk_at dksX6_looks_1 0 rfl rfl)
theorem dX6_looks_26 : decode cX6_looks 26 = .ok (.iconst (-1), 1) := dk_2 (dk_at dksX6_looks_1 3 rfl rfl)
theorem dX6_looks_27 : decode cX6_looks 27 = .ok (.if_icmp .ne 14, 3) := dk_160 0 14 (dk_at dksX6_looks_1 4 rfl rfl)
theorem dX6_looks_30 : decode cX6_looks 30 = .ok (.aload_n 0, 1) := dk_42 (dk_at dksX6_looks_1 7 rfl rfl)
theorem dX6_looks_31 : decode cX6_looks 31 = .ok (.iload_n 1, 1) := dk_27 (dk_at dksX6_looks_1 8 rfl rfl)
theorem dX6_looks_32 : decode cX6_looks 32 = .ok (.iconst 1, 1) := dk_4 (dk_at dksX6_looks_1 9 rfl rfl)
theorem dX6_looks_33 : decode cX6_looks 33 = .ok (.aload_n 0, 1) := dk_42 (dk_at dksX6_looks_1 10 rfl rfl)
theorem dX6_looks_34 : decode cX6_looks 34 = .ok (.iload_n 1, 1) := dk_27 (dk_at dksX6_looks_1 11 rfl rfl)
theorem dX6_looks_35 : decode cX6_looks 35 = .ok (.invokevirtual 320, 3) := dk_182 1 64 (dk_at dksX6_looks_1 12 rfl rfl)
theorem dX6_looks_38 : decode cX6_looks 38 = .ok (.invokevirtual 241, 3) := dk_182 0 241 (dk_at dksX6_looks_1 15 rfl rfl)
theorem dX6_looks_41 : decode cX6_looks 41 = .ok (.iload_n 2, 1) := dk_28 (dk_at dksX6_looks_1 18 rfl rfl)
theorem dX6_looks_42 : decode cX6_looks 42 = .ok (.aload_n 0, 1) := dk_42 (dk_at dksX6_looks_1 19 rfl rfl)
theorem dX6_looks_43 : decode cX6_looks 43 = .ok (.iload_n 1, 1) := dk_27 (dk_at dksX6_looks_1 20 rfl rfl)
theorem dX6_looks_44 : decode cX6_looks 44 = .ok (.invokevirtual 323, 3) := dk_182 1 67 (dk_at dksX6_looks_1 21 rfl rfl)
theorem dX6_looks_47 : decode cX6_looks 47 = .ok (.iadd, 1) := dk_96 (dk_at dksX6_looks_2 0 rfl rfl)
theorem dX6_looks_48 : decode cX6_looks 48 = .ok (.istore_n 2, 1) := dk_61 (dk_at dksX6_looks_2 1 rfl rfl)
theorem dX6_looks_49 : decode cX6_looks 49 = .ok (.sipush 420, 3) := dk_17 1 164 (dk_at dksX6_looks_2 2 rfl rfl)
theorem dX6_looks_52 : decode cX6_looks 52 = .ok (.bipush 80, 2) := dk_16 80 (dk_at dksX6_looks_2 5 rfl rfl)
theorem dX6_looks_54 : decode cX6_looks 54 = .ok (.iload_n 1, 1) := dk_27 (dk_at dksX6_looks_2 7 rfl rfl)
theorem dX6_looks_55 : decode cX6_looks 55 = .ok (.imul, 1) := dk_104 (dk_at dksX6_looks_2 8 rfl rfl)
theorem dX6_looks_56 : decode cX6_looks 56 = .ok (.iadd, 1) := dk_96 (dk_at dksX6_looks_2 9 rfl rfl)
theorem dX6_looks_57 : decode cX6_looks 57 = .ok (.aload_n 0, 1) := dk_42 (dk_at dksX6_looks_2 10 rfl rfl)
theorem dX6_looks_58 : decode cX6_looks 58 = .ok (.iload_n 1, 1) := dk_27 (dk_at dksX6_looks_2 11 rfl rfl)
theorem dX6_looks_59 : decode cX6_looks 59 = .ok (.iconst 0, 1) := dk_3 (dk_at dksX6_looks_2 12 rfl rfl)
theorem dX6_looks_60 : decode cX6_looks 60 = .ok (.invokevirtual 248, 3) := dk_182 0 248 (dk_at dksX6_looks_2 13 rfl rfl)
theorem dX6_looks_63 : decode cX6_looks 63 = .ok (.iadd, 1) := dk_96 (dk_at dksX6_looks_2 16 rfl rfl)
theorem dX6_looks_64 : decode cX6_looks 64 = .ok (.istore_n 3, 1) := dk_62 (dk_at dksX6_looks_2 17 rfl rfl)
theorem dX6_looks_65 : decode cX6_looks 65 = .ok (.aload_n 0, 1) := dk_42 (dk_at dksX6_looks_2 18 rfl rfl)
theorem dX6_looks_66 : decode cX6_looks 66 = .ok (.getfield 7, 3) := dk_180 0 7 (dk_at dksX6_looks_2 19 rfl rfl)
theorem dX6_looks_69 : decode cX6_looks 69 = .ok (.iload_n 3, 1) := dk_29 (dk_at dksX6_looks_2 22 rfl rfl)
theorem dX6_looks_70 : decode cX6_looks 70 = .ok (.iaload, 1) := dk_46 (dk_at dksX6_looks_2 23 rfl rfl)
theorem dX6_looks_71 : decode cX6_looks 71 = .ok (.iconst 1, 1) := dk_4 (dk_at dksX6_looks_3 0 rfl rfl)
theorem dX6_looks_72 : decode cX6_looks 72 = .ok (.if_icmp .ne 7, 3) := dk_160 0 7 (dk_at dksX6_looks_3 1 rfl rfl)
theorem dX6_looks_75 : decode cX6_looks 75 = .ok (.iconst 1, 1) := dk_4 (dk_at dksX6_looks_3 4 rfl rfl)
theorem dX6_looks_76 : decode cX6_looks 76 = .ok (.goto 4, 3) := dk_167 0 4 (dk_at dksX6_looks_3 5 rfl rfl)
theorem dX6_looks_79 : decode cX6_looks 79 = .ok (.iconst 0, 1) := dk_3 (dk_at dksX6_looks_3 8 rfl rfl)
theorem dX6_looks_80 : decode cX6_looks 80 = .ok (.istore 4, 2) := dk_54 4 (dk_at dksX6_looks_3 9 rfl rfl)
theorem dX6_looks_82 : decode cX6_looks 82 = .ok (.aload_n 0, 1) := dk_42 (dk_at dksX6_looks_3 11 rfl rfl)
theorem dX6_looks_83 : decode cX6_looks 83 = .ok (.getfield 7, 3) := dk_180 0 7 (dk_at dksX6_looks_3 12 rfl rfl)
theorem dX6_looks_86 : decode cX6_looks 86 = .ok (.iload_n 3, 1) := dk_29 (dk_at dksX6_looks_3 15 rfl rfl)
theorem dX6_looks_87 : decode cX6_looks 87 = .ok (.iconst 0, 1) := dk_3 (dk_at dksX6_looks_3 16 rfl rfl)
theorem dX6_looks_88 : decode cX6_looks 88 = .ok (.iastore, 1) := dk_79 (dk_at dksX6_looks_3 17 rfl rfl)
theorem dX6_looks_89 : decode cX6_looks 89 = .ok (.iload_n 2, 1) := dk_28 (dk_at dksX6_looks_3 18 rfl rfl)
theorem dX6_looks_90 : decode cX6_looks 90 = .ok (.ifCond .gt 8, 3) := dk_157 0 8 (dk_at dksX6_looks_3 19 rfl rfl)
theorem dX6_looks_93 : decode cX6_looks 93 = .ok (.iload 4, 2) := dk_21 4 (dk_at dksX6_looks_3 22 rfl rfl)
theorem dX6_looks_95 : decode cX6_looks 95 = .ok (.ifCond .eq 7, 3) := dk_153 0 7 (dk_at dksX6_looks_4 0 rfl rfl)
theorem dX6_looks_98 : decode cX6_looks 98 = .ok (.iconst 1, 1) := dk_4 (dk_at dksX6_looks_4 3 rfl rfl)
theorem dX6_looks_99 : decode cX6_looks 99 = .ok (.goto 4, 3) := dk_167 0 4 (dk_at dksX6_looks_4 4 rfl rfl)
theorem dX6_looks_102 : decode cX6_looks 102 = .ok (.iconst 0, 1) := dk_3 (dk_at dksX6_looks_4 7 rfl rfl)
theorem dX6_looks_103 : decode cX6_looks 103 = .ok (.istore 5, 2) := dk_54 5 (dk_at dksX6_looks_4 8 rfl rfl)
theorem dX6_looks_105 : decode cX6_looks 105 = .ok (.aload_n 0, 1) := dk_42 (dk_at dksX6_looks_4 10 rfl rfl)
theorem dX6_looks_106 : decode cX6_looks 106 = .ok (.iload_n 1, 1) := dk_27 (dk_at dksX6_looks_4 11 rfl rfl)
theorem dX6_looks_107 : decode cX6_looks 107 = .ok (.iconst 2, 1) := dk_5 (dk_at dksX6_looks_4 12 rfl rfl)
theorem dX6_looks_108 : decode cX6_looks 108 = .ok (.iload 5, 2) := dk_21 5 (dk_at dksX6_looks_4 13 rfl rfl)
theorem dX6_looks_110 : decode cX6_looks 110 = .ok (.ifCond .eq 7, 3) := dk_153 0 7 (dk_at dksX6_looks_4 15 rfl rfl)
theorem dX6_looks_113 : decode cX6_looks 113 = .ok (.iconst 2, 1) := dk_5 (dk_at dksX6_looks_4 18 rfl rfl)
theorem dX6_looks_114 : decode cX6_looks 114 = .ok (.goto 17, 3) := dk_167 0 17 (dk_at dksX6_looks_4 19 rfl rfl)
theorem dX6_looks_117 : decode cX6_looks 117 = .ok (.aload_n 0, 1) := dk_42 (dk_at dksX6_looks_4 22 rfl rfl)
theorem dX6_looks_118 : decode cX6_looks 118 = .ok (.iload_n 1, 1) := dk_27 (dk_at dksX6_looks_4 23 rfl rfl)
theorem dX6_looks_119 : decode cX6_looks 119 = .ok (.iconst 1, 1) := dk_4 (dk_at dksX6_looks_5 0 rfl rfl)
theorem dX6_looks_120 : decode cX6_looks 120 = .ok (.invokevirtual 248, 3) := dk_182 0 248 (dk_at dksX6_looks_5 1 rfl rfl)
theorem dX6_looks_123 : decode cX6_looks 123 = .ok (.ifCond .eq 7, 3) := dk_153 0 7 (dk_at dksX6_looks_5 4 rfl rfl)
theorem dX6_looks_126 : decode cX6_looks 126 = .ok (.iconst 1, 1) := dk_4 (dk_at dksX6_looks_5 7 rfl rfl)
theorem dX6_looks_127 : decode cX6_looks 127 = .ok (.goto 4, 3) := dk_167 0 4 (dk_at dksX6_looks_5 8 rfl rfl)
theorem dX6_looks_130 : decode cX6_looks 130 = .ok (.iconst 0, 1) := dk_3 (dk_at dksX6_looks_5 11 rfl rfl)
theorem dX6_looks_131 : decode cX6_looks 131 = .ok (.invokevirtual 241, 3) := dk_182 0 241 (dk_at dksX6_looks_5 12 rfl rfl)
theorem dX6_looks_134 : decode cX6_looks 134 = .ok (.aload_n 0, 1) := dk_42 (dk_at dksX6_looks_5 15 rfl rfl)
theorem dX6_looks_135 : decode cX6_looks 135 = .ok (.iload_n 1, 1) := dk_27 (dk_at dksX6_looks_5 16 rfl rfl)
theorem dX6_looks_136 : decode cX6_looks 136 = .ok (.iconst 3, 1) := dk_6 (dk_at dksX6_looks_5 17 rfl rfl)
theorem dX6_looks_137 : decode cX6_looks 137 = .ok (.iload 5, 2) := dk_21 5 (dk_at dksX6_looks_5 18 rfl rfl)
theorem dX6_looks_139 : decode cX6_looks 139 = .ok (.ifCond .eq 23, 3) := dk_153 0 23 (dk_at dksX6_looks_5 20 rfl rfl)
theorem dX6_looks_142 : decode cX6_looks 142 = .ok (.aload_n 0, 1) := dk_42 (dk_at dksX6_looks_5 23 rfl rfl)
theorem dX6_looks_143 : decode cX6_looks 143 = .ok (.iload_n 1, 1) := dk_27 (dk_at dksX6_looks_6 0 rfl rfl)
theorem dX6_looks_144 : decode cX6_looks 144 = .ok (.bipush 8, 2) := dk_16 8 (dk_at dksX6_looks_6 1 rfl rfl)
theorem dX6_looks_146 : decode cX6_looks 146 = .ok (.invokevirtual 248, 3) := dk_182 0 248 (dk_at dksX6_looks_6 3 rfl rfl)
theorem dX6_looks_149 : decode cX6_looks 149 = .ok (.iload_n 2, 1) := dk_28 (dk_at dksX6_looks_6 6 rfl rfl)
theorem dX6_looks_150 : decode cX6_looks 150 = .ok (.aload_n 0, 1) := dk_42 (dk_at dksX6_looks_6 7 rfl rfl)
theorem dX6_looks_151 : decode cX6_looks 151 = .ok (.iload_n 1, 1) := dk_27 (dk_at dksX6_looks_6 8 rfl rfl)
theorem dX6_looks_152 : decode cX6_looks 152 = .ok (.bipush 9, 2) := dk_16 9 (dk_at dksX6_looks_6 9 rfl rfl)
theorem dX6_looks_154 : decode cX6_looks 154 = .ok (.invokevirtual 248, 3) := dk_182 0 248 (dk_at dksX6_looks_6 11 rfl rfl)
theorem dX6_looks_157 : decode cX6_looks 157 = .ok (.imul, 1) := dk_104 (dk_at dksX6_looks_6 14 rfl rfl)
theorem dX6_looks_158 : decode cX6_looks 158 = .ok (.iadd, 1) := dk_96 (dk_at dksX6_looks_6 15 rfl rfl)
theorem dX6_looks_159 : decode cX6_looks 159 = .ok (.goto 23, 3) := dk_167 0 23 (dk_at dksX6_looks_6 16 rfl rfl)
theorem dX6_looks_162 : decode cX6_looks 162 = .ok (.aload_n 0, 1) := dk_42 (dk_at dksX6_looks_6 19 rfl rfl)
theorem dX6_looks_163 : decode cX6_looks 163 = .ok (.iload_n 1, 1) := dk_27 (dk_at dksX6_looks_6 20 rfl rfl)
theorem dX6_looks_164 : decode cX6_looks 164 = .ok (.iconst 1, 1) := dk_4 (dk_at dksX6_looks_6 21 rfl rfl)
theorem dX6_looks_165 : decode cX6_looks 165 = .ok (.invokevirtual 248, 3) := dk_182 0 248 (dk_at dksX6_looks_7 0 rfl rfl)
theorem dX6_looks_168 : decode cX6_looks 168 = .ok (.ifCond .eq 13, 3) := dk_153 0 13 (dk_at dksX6_looks_7 3 rfl rfl)
theorem dX6_looks_171 : decode cX6_looks 171 = .ok (.aload_n 0, 1) := dk_42 (dk_at dksX6_looks_7 6 rfl rfl)
theorem dX6_looks_172 : decode cX6_looks 172 = .ok (.iload_n 1, 1) := dk_27 (dk_at dksX6_looks_7 7 rfl rfl)
theorem dX6_looks_173 : decode cX6_looks 173 = .ok (.bipush 7, 2) := dk_16 7 (dk_at dksX6_looks_7 8 rfl rfl)
theorem dX6_looks_175 : decode cX6_looks 175 = .ok (.invokevirtual 248, 3) := dk_182 0 248 (dk_at dksX6_looks_7 10 rfl rfl)
theorem dX6_looks_178 : decode cX6_looks 178 = .ok (.goto 4, 3) := dk_167 0 4 (dk_at dksX6_looks_7 13 rfl rfl)
theorem dX6_looks_181 : decode cX6_looks 181 = .ok (.iconst 0, 1) := dk_3 (dk_at dksX6_looks_7 16 rfl rfl)
theorem dX6_looks_182 : decode cX6_looks 182 = .ok (.invokevirtual 241, 3) := dk_182 0 241 (dk_at dksX6_looks_7 17 rfl rfl)
theorem dX6_looks_185 : decode cX6_looks 185 = .ok (.return_, 1) := dk_177 (dk_at dksX6_looks_7 20 rfl rfl)
abbrev cX6_goOut : ByteArray := prog_15_method_59_code
def yX6_goOut : MethodName := ⟨RX6, "goOut", "(I)I"⟩
def dkwX6_goOut_3 : List UInt8 := [182, 1, 6, 132, 2, 1, 132, 3, 1, 167, 255, 182, 28, 172]
abbrev dktX6_goOut_3 : List UInt8 := dkwX6_goOut_3 ++ []
def dkwX6_goOut_2 : List UInt8 := [159, 0, 6, 167, 0, 26, 42, 29, 6, 6, 182, 1, 6, 42, 29, 16, 6, 42, 180, 0, 7, 6, 46]
abbrev dktX6_goOut_2 : List UInt8 := dkwX6_goOut_2 ++ dktX6_goOut_3
def dkwX6_goOut_1 : List UInt8 := [42, 29, 7, 182, 1, 15, 27, 160, 0, 44, 42, 29, 5, 182, 1, 15, 42, 27, 3, 182, 0, 248]
abbrev dktX6_goOut_1 : List UInt8 := dkwX6_goOut_1 ++ dktX6_goOut_2
def dkwX6_goOut_0 : List UInt8 := [3, 61, 3, 62, 29, 42, 180, 0, 7, 5, 46, 162, 0, 70, 42, 29, 6, 182, 1, 15, 5, 160, 0, 54]
abbrev dktX6_goOut_0 : List UInt8 := dkwX6_goOut_0 ++ dktX6_goOut_1
theorem dksX6_goOut_0 : cX6_goOut.data.toList.drop 0 = dktX6_goOut_0 := by decide +kernel
theorem dksX6_goOut_1 : cX6_goOut.data.toList.drop 24 = dktX6_goOut_1 := dk_seg dksX6_goOut_0 24 rfl rfl
theorem dksX6_goOut_2 : cX6_goOut.data.toList.drop 46 = dktX6_goOut_2 := dk_seg dksX6_goOut_1 22 rfl rfl
theorem dksX6_goOut_3 : cX6_goOut.data.toList.drop 69 = dktX6_goOut_3 := dk_seg dksX6_goOut_2 23 rfl rfl
theorem dX6_goOut_0 : decode cX6_goOut 0 = .ok (.iconst 0, 1) := dk_3 (dk_at dksX6_goOut_0 0 rfl rfl)
theorem dX6_goOut_1 : decode cX6_goOut 1 = .ok (.istore_n 2, 1) := dk_61 (dk_at dksX6_goOut_0 1 rfl rfl)
theorem dX6_goOut_2 : decode cX6_goOut 2 = .ok (.iconst 0, 1) := dk_3 (dk_at dksX6_goOut_0 2 rfl rfl)
theorem dX6_goOut_3 : decode cX6_goOut 3 = .ok (.istore_n 3, 1) := dk_62 (dk_at dksX6_goOut_0 3 rfl rfl)
theorem dX6_goOut_4 : decode cX6_goOut 4 = .ok (.iload_n 3, 1) := dk_29 (dk_at dksX6_goOut_0 4 rfl rfl)
theorem dX6_goOut_5 : decode cX6_goOut 5 = .ok (.aload_n 0, 1) := dk_42 (dk_at dksX6_goOut_0 5 rfl rfl)
theorem dX6_goOut_6 : decode cX6_goOut 6 = .ok (.getfield 7, 3) := dk_180 0 7 (dk_at dksX6_goOut_0 6 rfl rfl)
theorem dX6_goOut_9 : decode cX6_goOut 9 = .ok (.iconst 2, 1) := dk_5 (dk_at dksX6_goOut_0 9 rfl rfl)
theorem dX6_goOut_10 : decode cX6_goOut 10 = .ok (.iaload, 1) := dk_46 (dk_at dksX6_goOut_0 10 rfl rfl)
theorem dX6_goOut_11 : decode cX6_goOut 11 = .ok (.if_icmp .ge 70, 3) := dk_162 0 70 (dk_at dksX6_goOut_0 11 rfl rfl)
theorem dX6_goOut_14 : decode cX6_goOut 14 = .ok (.aload_n 0, 1) := dk_42 (dk_at dksX6_goOut_0 14 rfl rfl)
theorem dX6_goOut_15 : decode cX6_goOut 15 = .ok (.iload_n 3, 1) := dk_29 (dk_at dksX6_goOut_0 15 rfl rfl)
theorem dX6_goOut_16 : decode cX6_goOut 16 = .ok (.iconst 3, 1) := dk_6 (dk_at dksX6_goOut_0 16 rfl rfl)
theorem dX6_goOut_17 : decode cX6_goOut 17 = .ok (.invokevirtual 271, 3) := dk_182 1 15 (dk_at dksX6_goOut_0 17 rfl rfl)
theorem dX6_goOut_20 : decode cX6_goOut 20 = .ok (.iconst 2, 1) := dk_5 (dk_at dksX6_goOut_0 20 rfl rfl)
theorem dX6_goOut_21 : decode cX6_goOut 21 = .ok (.if_icmp .ne 54, 3) := dk_160 0 54 (dk_at dksX6_goOut_0 21 rfl rfl)
theorem dX6_goOut_24 : decode cX6_goOut 24 = .ok (.aload_n 0, 1) := dk_42 (dk_at dksX6_goOut_1 0 rfl rfl)
theorem dX6_goOut_25 : decode cX6_goOut 25 = .ok (.iload_n 3, 1) := dk_29 (dk_at dksX6_goOut_1 1 rfl rfl)
theorem dX6_goOut_26 : decode cX6_goOut 26 = .ok (.iconst 4, 1) := dk_7 (dk_at dksX6_goOut_1 2 rfl rfl)
theorem dX6_goOut_27 : decode cX6_goOut 27 = .ok (.invokevirtual 271, 3) := dk_182 1 15 (dk_at dksX6_goOut_1 3 rfl rfl)
theorem dX6_goOut_30 : decode cX6_goOut 30 = .ok (.iload_n 1, 1) := dk_27 (dk_at dksX6_goOut_1 6 rfl rfl)
theorem dX6_goOut_31 : decode cX6_goOut 31 = .ok (.if_icmp .ne 44, 3) := dk_160 0 44 (dk_at dksX6_goOut_1 7 rfl rfl)
theorem dX6_goOut_34 : decode cX6_goOut 34 = .ok (.aload_n 0, 1) := dk_42 (dk_at dksX6_goOut_1 10 rfl rfl)
theorem dX6_goOut_35 : decode cX6_goOut 35 = .ok (.iload_n 3, 1) := dk_29 (dk_at dksX6_goOut_1 11 rfl rfl)
theorem dX6_goOut_36 : decode cX6_goOut 36 = .ok (.iconst 2, 1) := dk_5 (dk_at dksX6_goOut_1 12 rfl rfl)
theorem dX6_goOut_37 : decode cX6_goOut 37 = .ok (.invokevirtual 271, 3) := dk_182 1 15 (dk_at dksX6_goOut_1 13 rfl rfl)
theorem dX6_goOut_40 : decode cX6_goOut 40 = .ok (.aload_n 0, 1) := dk_42 (dk_at dksX6_goOut_1 16 rfl rfl)
theorem dX6_goOut_41 : decode cX6_goOut 41 = .ok (.iload_n 1, 1) := dk_27 (dk_at dksX6_goOut_1 17 rfl rfl)
theorem dX6_goOut_42 : decode cX6_goOut 42 = .ok (.iconst 0, 1) := dk_3 (dk_at dksX6_goOut_1 18 rfl rfl)
theorem dX6_goOut_43 : decode cX6_goOut 43 = .ok (.invokevirtual 248, 3) := dk_182 0 248 (dk_at dksX6_goOut_1 19 rfl rfl)
theorem dX6_goOut_46 : decode cX6_goOut 46 = .ok (.if_icmp .eq 6, 3) := dk_159 0 6 (dk_at dksX6_goOut_2 0 rfl rfl)
theorem dX6_goOut_49 : decode cX6_goOut 49 = .ok (.goto 26, 3) := dk_167 0 26 (dk_at dksX6_goOut_2 3 rfl rfl)
theorem dX6_goOut_52 : decode cX6_goOut 52 = .ok (.aload_n 0, 1) := dk_42 (dk_at dksX6_goOut_2 6 rfl rfl)
theorem dX6_goOut_53 : decode cX6_goOut 53 = .ok (.iload_n 3, 1) := dk_29 (dk_at dksX6_goOut_2 7 rfl rfl)
theorem dX6_goOut_54 : decode cX6_goOut 54 = .ok (.iconst 3, 1) := dk_6 (dk_at dksX6_goOut_2 8 rfl rfl)
theorem dX6_goOut_55 : decode cX6_goOut 55 = .ok (.iconst 3, 1) := dk_6 (dk_at dksX6_goOut_2 9 rfl rfl)
theorem dX6_goOut_56 : decode cX6_goOut 56 = .ok (.invokevirtual 262, 3) := dk_182 1 6 (dk_at dksX6_goOut_2 10 rfl rfl)
theorem dX6_goOut_59 : decode cX6_goOut 59 = .ok (.aload_n 0, 1) := dk_42 (dk_at dksX6_goOut_2 13 rfl rfl)
theorem dX6_goOut_60 : decode cX6_goOut 60 = .ok (.iload_n 3, 1) := dk_29 (dk_at dksX6_goOut_2 14 rfl rfl)
theorem dX6_goOut_61 : decode cX6_goOut 61 = .ok (.bipush 6, 2) := dk_16 6 (dk_at dksX6_goOut_2 15 rfl rfl)
theorem dX6_goOut_63 : decode cX6_goOut 63 = .ok (.aload_n 0, 1) := dk_42 (dk_at dksX6_goOut_2 17 rfl rfl)
theorem dX6_goOut_64 : decode cX6_goOut 64 = .ok (.getfield 7, 3) := dk_180 0 7 (dk_at dksX6_goOut_2 18 rfl rfl)
theorem dX6_goOut_67 : decode cX6_goOut 67 = .ok (.iconst 3, 1) := dk_6 (dk_at dksX6_goOut_2 21 rfl rfl)
theorem dX6_goOut_68 : decode cX6_goOut 68 = .ok (.iaload, 1) := dk_46 (dk_at dksX6_goOut_2 22 rfl rfl)
theorem dX6_goOut_69 : decode cX6_goOut 69 = .ok (.invokevirtual 262, 3) := dk_182 1 6 (dk_at dksX6_goOut_3 0 rfl rfl)
theorem dX6_goOut_72 : decode cX6_goOut 72 = .ok (.iinc 2 1, 3) := dk_132 2 1 (dk_at dksX6_goOut_3 3 rfl rfl)
theorem dX6_goOut_75 : decode cX6_goOut 75 = .ok (.iinc 3 1, 3) := dk_132 3 1 (dk_at dksX6_goOut_3 6 rfl rfl)
theorem dX6_goOut_78 : decode cX6_goOut 78 = .ok (.goto (-74), 3) := dk_167 255 182 (dk_at dksX6_goOut_3 9 rfl rfl)
theorem dX6_goOut_81 : decode cX6_goOut 81 = .ok (.iload_n 2, 1) := dk_28 (dk_at dksX6_goOut_3 12 rfl rfl)
theorem dX6_goOut_82 : decode cX6_goOut 82 = .ok (.ireturn, 1) := dk_172 (dk_at dksX6_goOut_3 13 rfl rfl)
abbrev cX6_nearest : ByteArray := prog_15_method_56_code
def yX6_nearest : MethodName := ⟨RX6, "nearest", "(II)I"⟩
def dkwX6_nearest_6 : List UInt8 := [28, 96, 54, 5, 167, 255, 194, 21, 4, 172]
abbrev dktX6_nearest_6 : List UInt8 := dkwX6_nearest_6 ++ []
def dkwX6_nearest_5 : List UInt8 := [180, 0, 7, 17, 1, 164, 16, 80, 27, 104, 96, 21, 5, 96, 46, 4, 160, 0, 6, 21, 6, 172, 21, 5]
abbrev dktX6_nearest_5 : List UInt8 := dkwX6_nearest_5 ++ dktX6_nearest_6
def dkwX6_nearest_4 : List UInt8 := [29, 100, 28, 104, 54, 6, 21, 4, 2, 159, 0, 13, 21, 6, 21, 4, 161, 0, 6, 21, 4, 172, 42]
abbrev dktX6_nearest_4 : List UInt8 := dkwX6_nearest_4 ++ dktX6_nearest_5
def dkwX6_nearest_3 : List UInt8 := [54, 4, 132, 5, 1, 167, 255, 193, 29, 28, 96, 54, 5, 42, 21, 5, 182, 1, 0, 153, 0, 59, 21, 5]
abbrev dktX6_nearest_3 : List UInt8 := dkwX6_nearest_3 ++ dktX6_nearest_4
def dkwX6_nearest_2 : List UInt8 := [104, 54, 7, 21, 7, 158, 0, 20, 21, 4, 2, 159, 0, 10, 21, 7, 21, 4, 162, 0, 7, 21, 7]
abbrev dktX6_nearest_2 : List UInt8 := dkwX6_nearest_2 ++ dktX6_nearest_3
def dkwX6_nearest_1 : List UInt8 := [42, 27, 21, 5, 182, 1, 49, 54, 6, 21, 6, 2, 160, 0, 7, 3, 167, 0, 9, 21, 6, 29, 100, 28]
abbrev dktX6_nearest_1 : List UInt8 := dkwX6_nearest_1 ++ dktX6_nearest_2
def dkwX6_nearest_0 : List UInt8 := [42, 27, 3, 182, 0, 248, 62, 2, 54, 4, 3, 54, 5, 21, 5, 42, 180, 0, 7, 5, 46, 162, 0, 58]
abbrev dktX6_nearest_0 : List UInt8 := dkwX6_nearest_0 ++ dktX6_nearest_1
theorem dksX6_nearest_0 : cX6_nearest.data.toList.drop 0 = dktX6_nearest_0 := by decide +kernel
theorem dksX6_nearest_1 : cX6_nearest.data.toList.drop 24 = dktX6_nearest_1 := dk_seg dksX6_nearest_0 24 rfl rfl
theorem dksX6_nearest_2 : cX6_nearest.data.toList.drop 48 = dktX6_nearest_2 := dk_seg dksX6_nearest_1 24 rfl rfl
theorem dksX6_nearest_3 : cX6_nearest.data.toList.drop 71 = dktX6_nearest_3 := dk_seg dksX6_nearest_2 23 rfl rfl
theorem dksX6_nearest_4 : cX6_nearest.data.toList.drop 95 = dktX6_nearest_4 := dk_seg dksX6_nearest_3 24 rfl rfl
theorem dksX6_nearest_5 : cX6_nearest.data.toList.drop 118 = dktX6_nearest_5 := dk_seg dksX6_nearest_4 23 rfl rfl
theorem dksX6_nearest_6 : cX6_nearest.data.toList.drop 142 = dktX6_nearest_6 := dk_seg dksX6_nearest_5 24 rfl rfl
theorem dX6_nearest_0 : decode cX6_nearest 0 = .ok (.aload_n 0, 1) := dk_42 (dk_at dksX6_nearest_0 0 rfl rfl)
theorem dX6_nearest_1 : decode cX6_nearest 1 = .ok (.iload_n 1, 1) := dk_27 (dk_at dksX6_nearest_0 1 rfl rfl)
theorem dX6_nearest_2 : decode cX6_nearest 2 = .ok (.iconst 0, 1) := dk_3 (dk_at dksX6_nearest_0 2 rfl rfl)
theorem dX6_nearest_3 : decode cX6_nearest 3 = .ok (.invokevirtual 248, 3) := dk_182 0 248 (dk_at dksX6_nearest_0 3 rfl rfl)
theorem dX6_nearest_6 : decode cX6_nearest 6 = .ok (.istore_n 3, 1) := dk_62 (dk_at dksX6_nearest_0 6 rfl rfl)
theorem dX6_nearest_7 : decode cX6_nearest 7 = .ok (.iconst (-1), 1) := dk_2 (dk_at dksX6_nearest_0 7 rfl rfl)
theorem dX6_nearest_8 : decode cX6_nearest 8 = .ok (.istore 4, 2) := dk_54 4 (dk_at dksX6_nearest_0 8 rfl rfl)
theorem dX6_nearest_10 : decode cX6_nearest 10 = .ok (.iconst 0, 1) := dk_3 (dk_at dksX6_nearest_0 10 rfl rfl)
theorem dX6_nearest_11 : decode cX6_nearest 11 = .ok (.istore 5, 2) := dk_54 5 (dk_at dksX6_nearest_0 11 rfl rfl)
theorem dX6_nearest_13 : decode cX6_nearest 13 = .ok (.iload 5, 2) := dk_21 5 (dk_at dksX6_nearest_0 13 rfl rfl)
theorem dX6_nearest_15 : decode cX6_nearest 15 = .ok (.aload_n 0, 1) := dk_42 (dk_at dksX6_nearest_0 15 rfl rfl)
theorem dX6_nearest_16 : decode cX6_nearest 16 = .ok (.getfield 7, 3) := dk_180 0 7 (dk_at dksX6_nearest_0 16 rfl rfl)
theorem dX6_nearest_19 : decode cX6_nearest 19 = .ok (.iconst 2, 1) := dk_5 (dk_at dksX6_nearest_0 19 rfl rfl)
theorem dX6_nearest_20 : decode cX6_nearest 20 = .ok (.iaload, 1) := dk_46 (dk_at dksX6_nearest_0 20 rfl rfl)
theorem dX6_nearest_21 : decode cX6_nearest 21 = .ok (.if_icmp .ge 58, 3) := dk_162 0 58 (dk_at dksX6_nearest_0 21 rfl rfl)
theorem dX6_nearest_24 : decode cX6_nearest 24 = .ok (.aload_n 0, 1) := dk_42 (dk_at dksX6_nearest_1 0 rfl rfl)
theorem dX6_nearest_25 : decode cX6_nearest 25 = .ok (.iload_n 1, 1) := dk_27 (dk_at dksX6_nearest_1 1 rfl rfl)
theorem dX6_nearest_26 : decode cX6_nearest 26 = .ok (.iload 5, 2) := dk_21 5 (dk_at dksX6_nearest_1 2 rfl rfl)
theorem dX6_nearest_28 : decode cX6_nearest 28 = .ok (.invokevirtual 305, 3) := dk_182 1 49 (dk_at dksX6_nearest_1 4 rfl rfl)
theorem dX6_nearest_31 : decode cX6_nearest 31 = .ok (.istore 6, 2) := dk_54 6 (dk_at dksX6_nearest_1 7 rfl rfl)
theorem dX6_nearest_33 : decode cX6_nearest 33 = .ok (.iload 6, 2) := dk_21 6 (dk_at dksX6_nearest_1 9 rfl rfl)
theorem dX6_nearest_35 : decode cX6_nearest 35 = .ok (.iconst (-1), 1) := dk_2 (dk_at dksX6_nearest_1 11 rfl rfl)
theorem dX6_nearest_36 : decode cX6_nearest 36 = .ok (.if_icmp .ne 7, 3) := dk_160 0 7 (dk_at dksX6_nearest_1 12 rfl rfl)
theorem dX6_nearest_39 : decode cX6_nearest 39 = .ok (.iconst 0, 1) := dk_3 (dk_at dksX6_nearest_1 15 rfl rfl)
theorem dX6_nearest_40 : decode cX6_nearest 40 = .ok (.goto 9, 3) := dk_167 0 9 (dk_at dksX6_nearest_1 16 rfl rfl)
theorem dX6_nearest_43 : decode cX6_nearest 43 = .ok (.iload 6, 2) := dk_21 6 (dk_at dksX6_nearest_1 19 rfl rfl)
theorem dX6_nearest_45 : decode cX6_nearest 45 = .ok (.iload_n 3, 1) := dk_29 (dk_at dksX6_nearest_1 21 rfl rfl)
theorem dX6_nearest_46 : decode cX6_nearest 46 = .ok (.isub, 1) := dk_100 (dk_at dksX6_nearest_1 22 rfl rfl)
theorem dX6_nearest_47 : decode cX6_nearest 47 = .ok (.iload_n 2, 1) := dk_28 (dk_at dksX6_nearest_1 23 rfl rfl)
theorem dX6_nearest_48 : decode cX6_nearest 48 = .ok (.imul, 1) := dk_104 (dk_at dksX6_nearest_2 0 rfl rfl)
theorem dX6_nearest_49 : decode cX6_nearest 49 = .ok (.istore 7, 2) := dk_54 7 (dk_at dksX6_nearest_2 1 rfl rfl)
theorem dX6_nearest_51 : decode cX6_nearest 51 = .ok (.iload 7, 2) := dk_21 7 (dk_at dksX6_nearest_2 3 rfl rfl)
theorem dX6_nearest_53 : decode cX6_nearest 53 = .ok (.ifCond .le 20, 3) := dk_158 0 20 (dk_at dksX6_nearest_2 5 rfl rfl)
theorem dX6_nearest_56 : decode cX6_nearest 56 = .ok (.iload 4, 2) := dk_21 4 (dk_at dksX6_nearest_2 8 rfl rfl)
theorem dX6_nearest_58 : decode cX6_nearest 58 = .ok (.iconst (-1), 1) := dk_2 (dk_at dksX6_nearest_2 10 rfl rfl)
theorem dX6_nearest_59 : decode cX6_nearest 59 = .ok (.if_icmp .eq 10, 3) := dk_159 0 10 (dk_at dksX6_nearest_2 11 rfl rfl)
theorem dX6_nearest_62 : decode cX6_nearest 62 = .ok (.iload 7, 2) := dk_21 7 (dk_at dksX6_nearest_2 14 rfl rfl)
theorem dX6_nearest_64 : decode cX6_nearest 64 = .ok (.iload 4, 2) := dk_21 4 (dk_at dksX6_nearest_2 16 rfl rfl)
theorem dX6_nearest_66 : decode cX6_nearest 66 = .ok (.if_icmp .ge 7, 3) := dk_162 0 7 (dk_at dksX6_nearest_2 18 rfl rfl)
theorem dX6_nearest_69 : decode cX6_nearest 69 = .ok (.iload 7, 2) := dk_21 7 (dk_at dksX6_nearest_2 21 rfl rfl)
theorem dX6_nearest_71 : decode cX6_nearest 71 = .ok (.istore 4, 2) := dk_54 4 (dk_at dksX6_nearest_3 0 rfl rfl)
theorem dX6_nearest_73 : decode cX6_nearest 73 = .ok (.iinc 5 1, 3) := dk_132 5 1 (dk_at dksX6_nearest_3 2 rfl rfl)
theorem dX6_nearest_76 : decode cX6_nearest 76 = .ok (.goto (-63), 3) := dk_167 255 193 (dk_at dksX6_nearest_3 5 rfl rfl)
theorem dX6_nearest_79 : decode cX6_nearest 79 = .ok (.iload_n 3, 1) := dk_29 (dk_at dksX6_nearest_3 8 rfl rfl)
theorem dX6_nearest_80 : decode cX6_nearest 80 = .ok (.iload_n 2, 1) := dk_28 (dk_at dksX6_nearest_3 9 rfl rfl)
theorem dX6_nearest_81 : decode cX6_nearest 81 = .ok (.iadd, 1) := dk_96 (dk_at dksX6_nearest_3 10 rfl rfl)
theorem dX6_nearest_82 : decode cX6_nearest 82 = .ok (.istore 5, 2) := dk_54 5 (dk_at dksX6_nearest_3 11 rfl rfl)
theorem dX6_nearest_84 : decode cX6_nearest 84 = .ok (.aload_n 0, 1) := dk_42 (dk_at dksX6_nearest_3 13 rfl rfl)
theorem dX6_nearest_85 : decode cX6_nearest 85 = .ok (.iload 5, 2) := dk_21 5 (dk_at dksX6_nearest_3 14 rfl rfl)
theorem dX6_nearest_87 : decode cX6_nearest 87 = .ok (.invokevirtual 256, 3) := dk_182 1 0 (dk_at dksX6_nearest_3 16 rfl rfl)
theorem dX6_nearest_90 : decode cX6_nearest 90 = .ok (.ifCond .eq 59, 3) := dk_153 0 59 (dk_at dksX6_nearest_3 19 rfl rfl)
theorem dX6_nearest_93 : decode cX6_nearest 93 = .ok (.iload 5, 2) := dk_21 5 (dk_at dksX6_nearest_3 22 rfl rfl)
theorem dX6_nearest_95 : decode cX6_nearest 95 = .ok (.iload_n 3, 1) := dk_29 (dk_at dksX6_nearest_4 0 rfl rfl)
theorem dX6_nearest_96 : decode cX6_nearest 96 = .ok (.isub, 1) := dk_100 (dk_at dksX6_nearest_4 1 rfl rfl)
theorem dX6_nearest_97 : decode cX6_nearest 97 = .ok (.iload_n 2, 1) := dk_28 (dk_at dksX6_nearest_4 2 rfl rfl)
theorem dX6_nearest_98 : decode cX6_nearest 98 = .ok (.imul, 1) := dk_104 (dk_at dksX6_nearest_4 3 rfl rfl)
theorem dX6_nearest_99 : decode cX6_nearest 99 = .ok (.istore 6, 2) := dk_54 6 (dk_at dksX6_nearest_4 4 rfl rfl)
theorem dX6_nearest_101 : decode cX6_nearest 101 = .ok (.iload 4, 2) := dk_21 4 (dk_at dksX6_nearest_4 6 rfl rfl)
theorem dX6_nearest_103 : decode cX6_nearest 103 = .ok (.iconst (-1), 1) := dk_2 (dk_at dksX6_nearest_4 8 rfl rfl)
theorem dX6_nearest_104 : decode cX6_nearest 104 = .ok (.if_icmp .eq 13, 3) := dk_159 0 13 (dk_at dksX6_nearest_4 9 rfl rfl)
theorem dX6_nearest_107 : decode cX6_nearest 107 = .ok (.iload 6, 2) := dk_21 6 (dk_at dksX6_nearest_4 12 rfl rfl)
theorem dX6_nearest_109 : decode cX6_nearest 109 = .ok (.iload 4, 2) := dk_21 4 (dk_at dksX6_nearest_4 14 rfl rfl)
theorem dX6_nearest_111 : decode cX6_nearest 111 = .ok (.if_icmp .lt 6, 3) := dk_161 0 6 (dk_at dksX6_nearest_4 16 rfl rfl)
theorem dX6_nearest_114 : decode cX6_nearest 114 = .ok (.iload 4, 2) := dk_21 4 (dk_at dksX6_nearest_4 19 rfl rfl)
theorem dX6_nearest_116 : decode cX6_nearest 116 = .ok (.ireturn, 1) := dk_172 (dk_at dksX6_nearest_4 21 rfl rfl)
theorem dX6_nearest_117 : decode cX6_nearest 117 = .ok (.aload_n 0, 1) := dk_42 (dk_at dksX6_nearest_4 22 rfl rfl)
theorem dX6_nearest_118 : decode cX6_nearest 118 = .ok (.getfield 7, 3) := dk_180 0 7 (dk_at dksX6_nearest_5 0 rfl rfl)
theorem dX6_nearest_121 : decode cX6_nearest 121 = .ok (.sipush 420, 3) := dk_17 1 164 (dk_at dksX6_nearest_5 3 rfl rfl)
theorem dX6_nearest_124 : decode cX6_nearest 124 = .ok (.bipush 80, 2) := dk_16 80 (dk_at dksX6_nearest_5 6 rfl rfl)
theorem dX6_nearest_126 : decode cX6_nearest 126 = .ok (.iload_n 1, 1) := dk_27 (dk_at dksX6_nearest_5 8 rfl rfl)
theorem dX6_nearest_127 : decode cX6_nearest 127 = .ok (.imul, 1) := dk_104 (dk_at dksX6_nearest_5 9 rfl rfl)
theorem dX6_nearest_128 : decode cX6_nearest 128 = .ok (.iadd, 1) := dk_96 (dk_at dksX6_nearest_5 10 rfl rfl)
theorem dX6_nearest_129 : decode cX6_nearest 129 = .ok (.iload 5, 2) := dk_21 5 (dk_at dksX6_nearest_5 11 rfl rfl)
theorem dX6_nearest_131 : decode cX6_nearest 131 = .ok (.iadd, 1) := dk_96 (dk_at dksX6_nearest_5 13 rfl rfl)
theorem dX6_nearest_132 : decode cX6_nearest 132 = .ok (.iaload, 1) := dk_46 (dk_at dksX6_nearest_5 14 rfl rfl)
theorem dX6_nearest_133 : decode cX6_nearest 133 = .ok (.iconst 1, 1) := dk_4 (dk_at dksX6_nearest_5 15 rfl rfl)
theorem dX6_nearest_134 : decode cX6_nearest 134 = .ok (.if_icmp .ne 6, 3) := dk_160 0 6 (dk_at dksX6_nearest_5 16 rfl rfl)
theorem dX6_nearest_137 : decode cX6_nearest 137 = .ok (.iload 6, 2) := dk_21 6 (dk_at dksX6_nearest_5 19 rfl rfl)
theorem dX6_nearest_139 : decode cX6_nearest 139 = .ok (.ireturn, 1) := dk_172 (dk_at dksX6_nearest_5 21 rfl rfl)
theorem dX6_nearest_140 : decode cX6_nearest 140 = .ok (.iload 5, 2) := dk_21 5 (dk_at dksX6_nearest_5 22 rfl rfl)
theorem dX6_nearest_142 : decode cX6_nearest 142 = .ok (.iload_n 2, 1) := dk_28 (dk_at dksX6_nearest_6 0 rfl rfl)
theorem dX6_nearest_143 : decode cX6_nearest 143 = .ok (.iadd, 1) := dk_96 (dk_at dksX6_nearest_6 1 rfl rfl)
theorem dX6_nearest_144 : decode cX6_nearest 144 = .ok (.istore 5, 2) := dk_54 5 (dk_at dksX6_nearest_6 2 rfl rfl)
theorem dX6_nearest_146 : decode cX6_nearest 146 = .ok (.goto (-62), 3) := dk_167 255 194 (dk_at dksX6_nearest_6 4 rfl rfl)
theorem dX6_nearest_149 : decode cX6_nearest 149 = .ok (.iload 4, 2) := dk_21 4 (dk_at dksX6_nearest_6 7 rfl rfl)
theorem dX6_nearest_151 : decode cX6_nearest 151 = .ok (.ireturn, 1) := dk_172 (dk_at dksX6_nearest_6 9 rfl rfl)
abbrev cX6_targetOf : ByteArray := prog_15_method_55_code
def yX6_targetOf : MethodName := ⟨RX6, "targetOf", "(II)I"⟩
def dkwX6_targetOf_2 : List UInt8 := [167, 0, 4, 2, 172]
abbrev dktX6_targetOf_2 : List UInt8 := dkwX6_targetOf_2 ++ []
def dkwX6_targetOf_1 : List UInt8 := [5, 182, 1, 15, 167, 0, 23, 42, 28, 6, 182, 1, 15, 4, 160, 0, 12, 42, 28, 4, 182, 1, 15]
abbrev dktX6_targetOf_1 : List UInt8 := dkwX6_targetOf_1 ++ dktX6_targetOf_2
def dkwX6_targetOf_0 : List UInt8 := [42, 28, 7, 182, 1, 15, 27, 159, 0, 5, 2, 172, 42, 28, 6, 182, 1, 15, 5, 160, 0, 12, 42, 28]
abbrev dktX6_targetOf_0 : List UInt8 := dkwX6_targetOf_0 ++ dktX6_targetOf_1
theorem dksX6_targetOf_0 : cX6_targetOf.data.toList.drop 0 = dktX6_targetOf_0 := by decide +kernel
theorem dksX6_targetOf_1 : cX6_targetOf.data.toList.drop 24 = dktX6_targetOf_1 := dk_seg dksX6_targetOf_0 24 rfl rfl
theorem dksX6_targetOf_2 : cX6_targetOf.data.toList.drop 47 = dktX6_targetOf_2 := dk_seg dksX6_targetOf_1 23 rfl rfl
theorem dX6_targetOf_0 : decode cX6_targetOf 0 = .ok (.aload_n 0, 1) := dk_42 (dk_at dksX6_targetOf_0 0 rfl rfl)
theorem dX6_targetOf_1 : decode cX6_targetOf 1 = .ok (.iload_n 2, 1) := dk_28 (dk_at dksX6_targetOf_0 1 rfl rfl)
theorem dX6_targetOf_2 : decode cX6_targetOf 2 = .ok (.iconst 4, 1) := dk_7 (dk_at dksX6_targetOf_0 2 rfl rfl)
theorem dX6_targetOf_3 : decode cX6_targetOf 3 = .ok (.invokevirtual 271, 3) := dk_182 1 15 (dk_at dksX6_targetOf_0 3 rfl rfl)
theorem dX6_targetOf_6 : decode cX6_targetOf 6 = .ok (.iload_n 1, 1) := dk_27 (dk_at dksX6_targetOf_0 6 rfl rfl)
theorem dX6_targetOf_7 : decode cX6_targetOf 7 = .ok (.if_icmp .eq 5, 3) := dk_159 0 5 (dk_at dksX6_targetOf_0 7 rfl rfl)
theorem dX6_targetOf_10 : decode cX6_targetOf 10 = .ok (.iconst (-1), 1) := dk_2 (dk_at dksX6_targetOf_0 10 rfl rfl)
theorem dX6_targetOf_11 : decode cX6_targetOf 11 = .ok (.ireturn, 1) := dk_172 (dk_at dksX6_targetOf_0 11 rfl rfl)
theorem dX6_targetOf_12 : decode cX6_targetOf 12 = .ok (.aload_n 0, 1) := dk_42 (dk_at dksX6_targetOf_0 12 rfl rfl)
theorem dX6_targetOf_13 : decode cX6_targetOf 13 = .ok (.iload_n 2, 1) := dk_28 (dk_at dksX6_targetOf_0 13 rfl rfl)
theorem dX6_targetOf_14 : decode cX6_targetOf 14 = .ok (.iconst 3, 1) := dk_6 (dk_at dksX6_targetOf_0 14 rfl rfl)
theorem dX6_targetOf_15 : decode cX6_targetOf 15 = .ok (.invokevirtual 271, 3) := dk_182 1 15 (dk_at dksX6_targetOf_0 15 rfl rfl)
theorem dX6_targetOf_18 : decode cX6_targetOf 18 = .ok (.iconst 2, 1) := dk_5 (dk_at dksX6_targetOf_0 18 rfl rfl)
theorem dX6_targetOf_19 : decode cX6_targetOf 19 = .ok (.if_icmp .ne 12, 3) := dk_160 0 12 (dk_at dksX6_targetOf_0 19 rfl rfl)
theorem dX6_targetOf_22 : decode cX6_targetOf 22 = .ok (.aload_n 0, 1) := dk_42 (dk_at dksX6_targetOf_0 22 rfl rfl)
theorem dX6_targetOf_23 : decode cX6_targetOf 23 = .ok (.iload_n 2, 1) := dk_28 (dk_at dksX6_targetOf_0 23 rfl rfl)
theorem dX6_targetOf_24 : decode cX6_targetOf 24 = .ok (.iconst 2, 1) := dk_5 (dk_at dksX6_targetOf_1 0 rfl rfl)
theorem dX6_targetOf_25 : decode cX6_targetOf 25 = .ok (.invokevirtual 271, 3) := dk_182 1 15 (dk_at dksX6_targetOf_1 1 rfl rfl)
theorem dX6_targetOf_28 : decode cX6_targetOf 28 = .ok (.goto 23, 3) := dk_167 0 23 (dk_at dksX6_targetOf_1 4 rfl rfl)
theorem dX6_targetOf_31 : decode cX6_targetOf 31 = .ok (.aload_n 0, 1) := dk_42 (dk_at dksX6_targetOf_1 7 rfl rfl)
theorem dX6_targetOf_32 : decode cX6_targetOf 32 = .ok (.iload_n 2, 1) := dk_28 (dk_at dksX6_targetOf_1 8 rfl rfl)
theorem dX6_targetOf_33 : decode cX6_targetOf 33 = .ok (.iconst 3, 1) := dk_6 (dk_at dksX6_targetOf_1 9 rfl rfl)
theorem dX6_targetOf_34 : decode cX6_targetOf 34 = .ok (.invokevirtual 271, 3) := dk_182 1 15 (dk_at dksX6_targetOf_1 10 rfl rfl)
theorem dX6_targetOf_37 : decode cX6_targetOf 37 = .ok (.iconst 1, 1) := dk_4 (dk_at dksX6_targetOf_1 13 rfl rfl)
theorem dX6_targetOf_38 : decode cX6_targetOf 38 = .ok (.if_icmp .ne 12, 3) := dk_160 0 12 (dk_at dksX6_targetOf_1 14 rfl rfl)
theorem dX6_targetOf_41 : decode cX6_targetOf 41 = .ok (.aload_n 0, 1) := dk_42 (dk_at dksX6_targetOf_1 17 rfl rfl)
theorem dX6_targetOf_42 : decode cX6_targetOf 42 = .ok (.iload_n 2, 1) := dk_28 (dk_at dksX6_targetOf_1 18 rfl rfl)
theorem dX6_targetOf_43 : decode cX6_targetOf 43 = .ok (.iconst 1, 1) := dk_4 (dk_at dksX6_targetOf_1 19 rfl rfl)
theorem dX6_targetOf_44 : decode cX6_targetOf 44 = .ok (.invokevirtual 271, 3) := dk_182 1 15 (dk_at dksX6_targetOf_1 20 rfl rfl)
theorem dX6_targetOf_47 : decode cX6_targetOf 47 = .ok (.goto 4, 3) := dk_167 0 4 (dk_at dksX6_targetOf_2 0 rfl rfl)
theorem dX6_targetOf_50 : decode cX6_targetOf 50 = .ok (.iconst (-1), 1) := dk_2 (dk_at dksX6_targetOf_2 3 rfl rfl)
theorem dX6_targetOf_51 : decode cX6_targetOf 51 = .ok (.ireturn, 1) := dk_172 (dk_at dksX6_targetOf_2 4 rfl rfl)
abbrev cX6_newWay : ByteArray := prog_15_method_58_code
def yX6_newWay : MethodName := ⟨RX6, "newWay", "(I)I"⟩
def dkwX6_newWay_4 : List UInt8 := [167, 0, 19, 21, 5, 42, 27, 3, 182, 0, 248, 164, 0, 7, 4, 167, 0, 4, 2, 172]
abbrev dktX6_newWay_4 : List UInt8 := dkwX6_newWay_4 ++ []
def dkwX6_newWay_3 : List UInt8 := [182, 0, 248, 54, 5, 21, 5, 2, 159, 0, 14, 21, 5, 42, 27, 3, 182, 0, 248, 160, 0, 7, 3]
abbrev dktX6_newWay_3 : List UInt8 := dkwX6_newWay_3 ++ dktX6_newWay_4
def dkwX6_newWay_2 : List UInt8 := [159, 0, 14, 29, 2, 159, 0, 13, 29, 21, 4, 163, 0, 7, 4, 167, 0, 4, 2, 172, 42, 27, 8]
abbrev dktX6_newWay_2 : List UInt8 := dkwX6_newWay_2 ++ dktX6_newWay_3
def dkwX6_newWay_1 : List UInt8 := [42, 27, 2, 182, 1, 55, 54, 4, 29, 2, 160, 0, 9, 21, 4, 2, 159, 0, 26, 21, 4, 2]
abbrev dktX6_newWay_1 : List UInt8 := dkwX6_newWay_1 ++ dktX6_newWay_2
def dkwX6_newWay_0 : List UInt8 := [42, 27, 182, 1, 52, 61, 28, 2, 159, 0, 9, 42, 28, 182, 1, 21, 172, 42, 27, 4, 182, 1, 55, 62]
abbrev dktX6_newWay_0 : List UInt8 := dkwX6_newWay_0 ++ dktX6_newWay_1
theorem dksX6_newWay_0 : cX6_newWay.data.toList.drop 0 = dktX6_newWay_0 := by decide +kernel
theorem dksX6_newWay_1 : cX6_newWay.data.toList.drop 24 = dktX6_newWay_1 := dk_seg dksX6_newWay_0 24 rfl rfl
theorem dksX6_newWay_2 : cX6_newWay.data.toList.drop 46 = dktX6_newWay_2 := dk_seg dksX6_newWay_1 22 rfl rfl
theorem dksX6_newWay_3 : cX6_newWay.data.toList.drop 69 = dktX6_newWay_3 := dk_seg dksX6_newWay_2 23 rfl rfl
theorem dksX6_newWay_4 : cX6_newWay.data.toList.drop 92 = dktX6_newWay_4 := dk_seg dksX6_newWay_3 23 rfl rfl
theorem dX6_newWay_0 : decode cX6_newWay 0 = .ok (.aload_n 0, 1) := dk_42 (dk_at dksX6_newWay_0 0 rfl rfl)
theorem dX6_newWay_1 : decode cX6_newWay 1 = .ok (.iload_n 1, 1) := dk_27 (dk_at dksX6_newWay_0 1 rfl rfl)
theorem dX6_newWay_2 : decode cX6_newWay 2 = .ok (.invokevirtual 308, 3) := dk_182 1 52 (dk_at dksX6_newWay_0 2 rfl rfl)
theorem dX6_newWay_5 : decode cX6_newWay 5 = .ok (.istore_n 2, 1) := dk_61 (dk_at dksX6_newWay_0 5 rfl rfl)
theorem dX6_newWay_6 : decode cX6_newWay 6 = .ok (.iload_n 2, 1) := dk_28 (dk_at dksX6_newWay_0 6 rfl rfl)
theorem dX6_newWay_7 : decode cX6_newWay 7 = .ok (.iconst (-1), 1) := dk_2 (dk_at dksX6_newWay_0 7 rfl rfl)
theorem dX6_newWay_8 : decode cX6_newWay 8 = .ok (.if_icmp .eq 9, 3) := dk_159 0 9 (dk_at dksX6_newWay_0 8 rfl rfl)
theorem dX6_newWay_11 : decode cX6_newWay 11 = .ok (.aload_n 0, 1) := dk_42 (dk_at dksX6_newWay_0 11 rfl rfl)
theorem dX6_newWay_12 : decode cX6_newWay 12 = .ok (.iload_n 2, 1) := dk_28 (dk_at dksX6_newWay_0 12 rfl rfl)
theorem dX6_newWay_13 : decode cX6_newWay 13 = .ok (.invokevirtual 277, 3) := dk_182 1 21 (dk_at dksX6_newWay_0 13 rfl rfl)
theorem dX6_newWay_16 : decode cX6_newWay 16 = .ok (.ireturn, 1) := dk_172 (dk_at dksX6_newWay_0 16 rfl rfl)
theorem dX6_newWay_17 : decode cX6_newWay 17 = .ok (.aload_n 0, 1) := dk_42 (dk_at dksX6_newWay_0 17 rfl rfl)
theorem dX6_newWay_18 : decode cX6_newWay 18 = .ok (.iload_n 1, 1) := dk_27 (dk_at dksX6_newWay_0 18 rfl rfl)
theorem dX6_newWay_19 : decode cX6_newWay 19 = .ok (.iconst 1, 1) := dk_4 (dk_at dksX6_newWay_0 19 rfl rfl)
theorem dX6_newWay_20 : decode cX6_newWay 20 = .ok (.invokevirtual 311, 3) := dk_182 1 55 (dk_at dksX6_newWay_0 20 rfl rfl)
theorem dX6_newWay_23 : decode cX6_newWay 23 = .ok (.istore_n 3, 1) := dk_62 (dk_at dksX6_newWay_0 23 rfl rfl)
theorem dX6_newWay_24 : decode cX6_newWay 24 = .ok (.aload_n 0, 1) := dk_42 (dk_at dksX6_newWay_1 0 rfl rfl)
theorem dX6_newWay_25 : decode cX6_newWay 25 = .ok (.iload_n 1, 1) := dk_27 (dk_at dksX6_newWay_1 1 rfl rfl)
theorem dX6_newWay_26 : decode cX6_newWay 26 = .ok (.iconst (-1), 1) := dk_2 (dk_at dksX6_newWay_1 2 rfl rfl)
theorem dX6_newWay_27 : decode cX6_newWay 27 = .ok (.invokevirtual 311, 3) := dk_182 1 55 (dk_at dksX6_newWay_1 3 rfl rfl)
theorem dX6_newWay_30 : decode cX6_newWay 30 = .ok (.istore 4, 2) := dk_54 4 (dk_at dksX6_newWay_1 6 rfl rfl)
theorem dX6_newWay_32 : decode cX6_newWay 32 = .ok (.iload_n 3, 1) := dk_29 (dk_at dksX6_newWay_1 8 rfl rfl)
theorem dX6_newWay_33 : decode cX6_newWay 33 = .ok (.iconst (-1), 1) := dk_2 (dk_at dksX6_newWay_1 9 rfl rfl)
theorem dX6_newWay_34 : decode cX6_newWay 34 = .ok (.if_icmp .ne 9, 3) := dk_160 0 9 (dk_at dksX6_newWay_1 10 rfl rfl)
theorem dX6_newWay_37 : decode cX6_newWay 37 = .ok (.iload 4, 2) := dk_21 4 (dk_at dksX6_newWay_1 13 rfl rfl)
theorem dX6_newWay_39 : decode cX6_newWay 39 = .ok (.iconst (-1), 1) := dk_2 (dk_at dksX6_newWay_1 15 rfl rfl)
theorem dX6_newWay_40 : decode cX6_newWay 40 = .ok (.if_icmp .eq 26, 3) := dk_159 0 26 (dk_at dksX6_newWay_1 16 rfl rfl)
theorem dX6_newWay_43 : decode cX6_newWay 43 = .ok (.iload 4, 2) := dk_21 4 (dk_at dksX6_newWay_1 19 rfl rfl)
theorem dX6_newWay_45 : decode cX6_newWay 45 = .ok (.iconst (-1), 1) := dk_2 (dk_at dksX6_newWay_1 21 rfl rfl)
theorem dX6_newWay_46 : decode cX6_newWay 46 = .ok (.if_icmp .eq 14, 3) := dk_159 0 14 (dk_at dksX6_newWay_2 0 rfl rfl)
theorem dX6_newWay_49 : decode cX6_newWay 49 = .ok (.iload_n 3, 1) := dk_29 (dk_at dksX6_newWay_2 3 rfl rfl)
theorem dX6_newWay_50 : decode cX6_newWay 50 = .ok (.iconst (-1), 1) := dk_2 (dk_at dksX6_newWay_2 4 rfl rfl)
theorem dX6_newWay_51 : decode cX6_newWay 51 = .ok (.if_icmp .eq 13, 3) := dk_159 0 13 (dk_at dksX6_newWay_2 5 rfl rfl)
theorem dX6_newWay_54 : decode cX6_newWay 54 = .ok (.iload_n 3, 1) := dk_29 (dk_at dksX6_newWay_2 8 rfl rfl)
theorem dX6_newWay_55 : decode cX6_newWay 55 = .ok (.iload 4, 2) := dk_21 4 (dk_at dksX6_newWay_2 9 rfl rfl)
theorem dX6_newWay_57 : decode cX6_newWay 57 = .ok (.if_icmp .gt 7, 3) := dk_163 0 7 (dk_at dksX6_newWay_2 11 rfl rfl)
theorem dX6_newWay_60 : decode cX6_newWay 60 = .ok (.iconst 1, 1) := dk_4 (dk_at dksX6_newWay_2 14 rfl rfl)
theorem dX6_newWay_61 : decode cX6_newWay 61 = .ok (.goto 4, 3) := dk_167 0 4 (dk_at dksX6_newWay_2 15 rfl rfl)
theorem dX6_newWay_64 : decode cX6_newWay 64 = .ok (.iconst (-1), 1) := dk_2 (dk_at dksX6_newWay_2 18 rfl rfl)
theorem dX6_newWay_65 : decode cX6_newWay 65 = .ok (.ireturn, 1) := dk_172 (dk_at dksX6_newWay_2 19 rfl rfl)
theorem dX6_newWay_66 : decode cX6_newWay 66 = .ok (.aload_n 0, 1) := dk_42 (dk_at dksX6_newWay_2 20 rfl rfl)
theorem dX6_newWay_67 : decode cX6_newWay 67 = .ok (.iload_n 1, 1) := dk_27 (dk_at dksX6_newWay_2 21 rfl rfl)
theorem dX6_newWay_68 : decode cX6_newWay 68 = .ok (.iconst 5, 1) := dk_8 (dk_at dksX6_newWay_2 22 rfl rfl)
theorem dX6_newWay_69 : decode cX6_newWay 69 = .ok (.invokevirtual 248, 3) := dk_182 0 248 (dk_at dksX6_newWay_3 0 rfl rfl)
theorem dX6_newWay_72 : decode cX6_newWay 72 = .ok (.istore 5, 2) := dk_54 5 (dk_at dksX6_newWay_3 3 rfl rfl)
theorem dX6_newWay_74 : decode cX6_newWay 74 = .ok (.iload 5, 2) := dk_21 5 (dk_at dksX6_newWay_3 5 rfl rfl)
theorem dX6_newWay_76 : decode cX6_newWay 76 = .ok (.iconst (-1), 1) := dk_2 (dk_at dksX6_newWay_3 7 rfl rfl)
theorem dX6_newWay_77 : decode cX6_newWay 77 = .ok (.if_icmp .eq 14, 3) := dk_159 0 14 (dk_at dksX6_newWay_3 8 rfl rfl)
theorem dX6_newWay_80 : decode cX6_newWay 80 = .ok (.iload 5, 2) := dk_21 5 (dk_at dksX6_newWay_3 11 rfl rfl)
theorem dX6_newWay_82 : decode cX6_newWay 82 = .ok (.aload_n 0, 1) := dk_42 (dk_at dksX6_newWay_3 13 rfl rfl)
theorem dX6_newWay_83 : decode cX6_newWay 83 = .ok (.iload_n 1, 1) := dk_27 (dk_at dksX6_newWay_3 14 rfl rfl)
theorem dX6_newWay_84 : decode cX6_newWay 84 = .ok (.iconst 0, 1) := dk_3 (dk_at dksX6_newWay_3 15 rfl rfl)
theorem dX6_newWay_85 : decode cX6_newWay 85 = .ok (.invokevirtual 248, 3) := dk_182 0 248 (dk_at dksX6_newWay_3 16 rfl rfl)
theorem dX6_newWay_88 : decode cX6_newWay 88 = .ok (.if_icmp .ne 7, 3) := dk_160 0 7 (dk_at dksX6_newWay_3 19 rfl rfl)
theorem dX6_newWay_91 : decode cX6_newWay 91 = .ok (.iconst 0, 1) := dk_3 (dk_at dksX6_newWay_3 22 rfl rfl)
theorem dX6_newWay_92 : decode cX6_newWay 92 = .ok (.goto 19, 3) := dk_167 0 19 (dk_at dksX6_newWay_4 0 rfl rfl)
theorem dX6_newWay_95 : decode cX6_newWay 95 = .ok (.iload 5, 2) := dk_21 5 (dk_at dksX6_newWay_4 3 rfl rfl)
theorem dX6_newWay_97 : decode cX6_newWay 97 = .ok (.aload_n 0, 1) := dk_42 (dk_at dksX6_newWay_4 5 rfl rfl)
theorem dX6_newWay_98 : decode cX6_newWay 98 = .ok (.iload_n 1, 1) := dk_27 (dk_at dksX6_newWay_4 6 rfl rfl)
theorem dX6_newWay_99 : decode cX6_newWay 99 = .ok (.iconst 0, 1) := dk_3 (dk_at dksX6_newWay_4 7 rfl rfl)
theorem dX6_newWay_100 : decode cX6_newWay 100 = .ok (.invokevirtual 248, 3) := dk_182 0 248 (dk_at dksX6_newWay_4 8 rfl rfl)
theorem dX6_newWay_103 : decode cX6_newWay 103 = .ok (.if_icmp .le 7, 3) := dk_164 0 7 (dk_at dksX6_newWay_4 11 rfl rfl)
theorem dX6_newWay_106 : decode cX6_newWay 106 = .ok (.iconst 1, 1) := dk_4 (dk_at dksX6_newWay_4 14 rfl rfl)
theorem dX6_newWay_107 : decode cX6_newWay 107 = .ok (.goto 4, 3) := dk_167 0 4 (dk_at dksX6_newWay_4 15 rfl rfl)
theorem dX6_newWay_110 : decode cX6_newWay 110 = .ok (.iconst (-1), 1) := dk_2 (dk_at dksX6_newWay_4 18 rfl rfl)
theorem dX6_newWay_111 : decode cX6_newWay 111 = .ok (.ireturn, 1) := dk_172 (dk_at dksX6_newWay_4 19 rfl rfl)
abbrev cX6_firstHere : ByteArray := prog_15_method_57_code
def yX6_firstHere : MethodName := ⟨RX6, "firstHere", "(I)I"⟩
def dkwX6_firstHere_2 : List UInt8 := [172, 132, 2, 1, 167, 255, 206, 2, 172]
abbrev dktX6_firstHere_2 : List UInt8 := dkwX6_firstHere_2 ++ []
def dkwX6_firstHere_1 : List UInt8 := [7, 182, 1, 15, 27, 160, 0, 20, 42, 28, 4, 182, 1, 15, 42, 27, 3, 182, 0, 248, 160, 0, 5, 28]
abbrev dktX6_firstHere_1 : List UInt8 := dkwX6_firstHere_1 ++ dktX6_firstHere_2
def dkwX6_firstHere_0 : List UInt8 := [3, 61, 28, 42, 180, 0, 7, 5, 46, 162, 0, 46, 42, 28, 6, 182, 1, 15, 4, 160, 0, 30, 42, 28]
abbrev dktX6_firstHere_0 : List UInt8 := dkwX6_firstHere_0 ++ dktX6_firstHere_1
theorem dksX6_firstHere_0 : cX6_firstHere.data.toList.drop 0 = dktX6_firstHere_0 := by decide +kernel
theorem dksX6_firstHere_1 : cX6_firstHere.data.toList.drop 24 = dktX6_firstHere_1 := dk_seg dksX6_firstHere_0 24 rfl rfl
theorem dksX6_firstHere_2 : cX6_firstHere.data.toList.drop 48 = dktX6_firstHere_2 := dk_seg dksX6_firstHere_1 24 rfl rfl
theorem dX6_firstHere_0 : decode cX6_firstHere 0 = .ok (.iconst 0, 1) := dk_3 (dk_at dksX6_firstHere_0 0 rfl rfl)
theorem dX6_firstHere_1 : decode cX6_firstHere 1 = .ok (.istore_n 2, 1) := dk_61 (dk_at dksX6_firstHere_0 1 rfl rfl)
theorem dX6_firstHere_2 : decode cX6_firstHere 2 = .ok (.iload_n 2, 1) := dk_28 (dk_at dksX6_firstHere_0 2 rfl rfl)
theorem dX6_firstHere_3 : decode cX6_firstHere 3 = .ok (.aload_n 0, 1) := dk_42 (dk_at dksX6_firstHere_0 3 rfl rfl)
theorem dX6_firstHere_4 : decode cX6_firstHere 4 = .ok (.getfield 7, 3) := dk_180 0 7 (dk_at dksX6_firstHere_0 4 rfl rfl)
theorem dX6_firstHere_7 : decode cX6_firstHere 7 = .ok (.iconst 2, 1) := dk_5 (dk_at dksX6_firstHere_0 7 rfl rfl)
theorem dX6_firstHere_8 : decode cX6_firstHere 8 = .ok (.iaload, 1) := dk_46 (dk_at dksX6_firstHere_0 8 rfl rfl)
theorem dX6_firstHere_9 : decode cX6_firstHere 9 = .ok (.if_icmp .ge 46, 3) := dk_162 0 46 (dk_at dksX6_firstHere_0 9 rfl rfl)
theorem dX6_firstHere_12 : decode cX6_firstHere 12 = .ok (.aload_n 0, 1) := dk_42 (dk_at dksX6_firstHere_0 12 rfl rfl)
theorem dX6_firstHere_13 : decode cX6_firstHere 13 = .ok (.iload_n 2, 1) := dk_28 (dk_at dksX6_firstHere_0 13 rfl rfl)
theorem dX6_firstHere_14 : decode cX6_firstHere 14 = .ok (.iconst 3, 1) := dk_6 (dk_at dksX6_firstHere_0 14 rfl rfl)
theorem dX6_firstHere_15 : decode cX6_firstHere 15 = .ok (.invokevirtual 271, 3) := dk_182 1 15 (dk_at dksX6_firstHere_0 15 rfl rfl)
theorem dX6_firstHere_18 : decode cX6_firstHere 18 = .ok (.iconst 1, 1) := dk_4 (dk_at dksX6_firstHere_0 18 rfl rfl)
theorem dX6_firstHere_19 : decode cX6_firstHere 19 = .ok (.if_icmp .ne 30, 3) := dk_160 0 30 (dk_at dksX6_firstHere_0 19 rfl rfl)
theorem dX6_firstHere_22 : decode cX6_firstHere 22 = .ok (.aload_n 0, 1) := dk_42 (dk_at dksX6_firstHere_0 22 rfl rfl)
theorem dX6_firstHere_23 : decode cX6_firstHere 23 = .ok (.iload_n 2, 1) := dk_28 (dk_at dksX6_firstHere_0 23 rfl rfl)
theorem dX6_firstHere_24 : decode cX6_firstHere 24 = .ok (.iconst 4, 1) := dk_7 (dk_at dksX6_firstHere_1 0 rfl rfl)
theorem dX6_firstHere_25 : decode cX6_firstHere 25 = .ok (.invokevirtual 271, 3) := dk_182 1 15 (dk_at dksX6_firstHere_1 1 rfl rfl)
theorem dX6_firstHere_28 : decode cX6_firstHere 28 = .ok (.iload_n 1, 1) := dk_27 (dk_at dksX6_firstHere_1 4 rfl rfl)
theorem dX6_firstHere_29 : decode cX6_firstHere 29 = .ok (.if_icmp .ne 20, 3) := dk_160 0 20 (dk_at dksX6_firstHere_1 5 rfl rfl)
theorem dX6_firstHere_32 : decode cX6_firstHere 32 = .ok (.aload_n 0, 1) := dk_42 (dk_at dksX6_firstHere_1 8 rfl rfl)
theorem dX6_firstHere_33 : decode cX6_firstHere 33 = .ok (.iload_n 2, 1) := dk_28 (dk_at dksX6_firstHere_1 9 rfl rfl)
theorem dX6_firstHere_34 : decode cX6_firstHere 34 = .ok (.iconst 1, 1) := dk_4 (dk_at dksX6_firstHere_1 10 rfl rfl)
theorem dX6_firstHere_35 : decode cX6_firstHere 35 = .ok (.invokevirtual 271, 3) := dk_182 1 15 (dk_at dksX6_firstHere_1 11 rfl rfl)
theorem dX6_firstHere_38 : decode cX6_firstHere 38 = .ok (.aload_n 0, 1) := dk_42 (dk_at dksX6_firstHere_1 14 rfl rfl)
theorem dX6_firstHere_39 : decode cX6_firstHere 39 = .ok (.iload_n 1, 1) := dk_27 (dk_at dksX6_firstHere_1 15 rfl rfl)
theorem dX6_firstHere_40 : decode cX6_firstHere 40 = .ok (.iconst 0, 1) := dk_3 (dk_at dksX6_firstHere_1 16 rfl rfl)
theorem dX6_firstHere_41 : decode cX6_firstHere 41 = .ok (.invokevirtual 248, 3) := dk_182 0 248 (dk_at dksX6_firstHere_1 17 rfl rfl)
theorem dX6_firstHere_44 : decode cX6_firstHere 44 = .ok (.if_icmp .ne 5, 3) := dk_160 0 5 (dk_at dksX6_firstHere_1 20 rfl rfl)
theorem dX6_firstHere_47 : decode cX6_firstHere 47 = .ok (.iload_n 2, 1) := dk_28 (dk_at dksX6_firstHere_1 23 rfl rfl)
theorem dX6_firstHere_48 : decode cX6_firstHere 48 = .ok (.ireturn, 1) := dk_172 (dk_at dksX6_firstHere_2 0 rfl rfl)
theorem dX6_firstHere_49 : decode cX6_firstHere 49 = .ok (.iinc 2 1, 3) := dk_132 2 1 (dk_at dksX6_firstHere_2 1 rfl rfl)
theorem dX6_firstHere_52 : decode cX6_firstHere 52 = .ok (.goto (-50), 3) := dk_167 255 206 (dk_at dksX6_firstHere_2 4 rfl rfl)
theorem dX6_firstHere_55 : decode cX6_firstHere 55 = .ok (.iconst (-1), 1) := dk_2 (dk_at dksX6_firstHere_2 7 rfl rfl)
theorem dX6_firstHere_56 : decode cX6_firstHere 56 = .ok (.ireturn, 1) := dk_172 (dk_at dksX6_firstHere_2 8 rfl rfl)
abbrev cX6_goIn : ByteArray := prog_15_method_60_code
def yX6_goIn : MethodName := ⟨RX6, "goIn", "(I)I"⟩
def dkwX6_goIn_6 : List UInt8 := [132, 3, 1, 132, 2, 1, 132, 4, 1, 167, 255, 120, 28, 172]
abbrev dktX6_goIn_6 : List UInt8 := dkwX6_goIn_6 ++ []
def dkwX6_goIn_5 : List UInt8 := [160, 0, 22, 42, 180, 0, 7, 17, 1, 164, 16, 80, 27, 104, 96, 42, 180, 1, 58, 96, 4, 79]
abbrev dktX6_goIn_5 : List UInt8 := dkwX6_goIn_5 ++ dktX6_goIn_6
def dkwX6_goIn_4 : List UInt8 := [182, 1, 6, 42, 21, 4, 8, 42, 180, 0, 7, 6, 46, 182, 1, 6, 21, 4, 42, 180, 0, 48]
abbrev dktX6_goIn_4 : List UInt8 := dkwX6_goIn_4 ++ dktX6_goIn_5
def dkwX6_goIn_3 : List UInt8 := [21, 4, 182, 1, 21, 42, 27, 4, 182, 0, 248, 159, 0, 6, 167, 0, 58, 42, 21, 4, 6, 5]
abbrev dktX6_goIn_3 : List UInt8 := dkwX6_goIn_3 ++ dktX6_goIn_4
def dkwX6_goIn_2 : List UInt8 := [182, 1, 15, 27, 160, 0, 92, 42, 21, 4, 4, 182, 1, 15, 42, 27, 3, 182, 0, 248, 160, 0, 76, 42]
abbrev dktX6_goIn_2 : List UInt8 := dkwX6_goIn_2 ++ dktX6_goIn_3
def dkwX6_goIn_1 : List UInt8 := [27, 16, 6, 182, 0, 248, 162, 0, 120, 42, 21, 4, 6, 182, 1, 15, 4, 160, 0, 103, 42, 21, 4, 7]
abbrev dktX6_goIn_1 : List UInt8 := dkwX6_goIn_1 ++ dktX6_goIn_2
def dkwX6_goIn_0 : List UInt8 := [3, 61, 42, 27, 182, 1, 24, 62, 3, 54, 4, 21, 4, 42, 180, 0, 7, 5, 46, 162, 0, 131, 29, 42]
abbrev dktX6_goIn_0 : List UInt8 := dkwX6_goIn_0 ++ dktX6_goIn_1
theorem dksX6_goIn_0 : cX6_goIn.data.toList.drop 0 = dktX6_goIn_0 := by decide +kernel
theorem dksX6_goIn_1 : cX6_goIn.data.toList.drop 24 = dktX6_goIn_1 := dk_seg dksX6_goIn_0 24 rfl rfl
theorem dksX6_goIn_2 : cX6_goIn.data.toList.drop 48 = dktX6_goIn_2 := dk_seg dksX6_goIn_1 24 rfl rfl
theorem dksX6_goIn_3 : cX6_goIn.data.toList.drop 72 = dktX6_goIn_3 := dk_seg dksX6_goIn_2 24 rfl rfl
theorem dksX6_goIn_4 : cX6_goIn.data.toList.drop 94 = dktX6_goIn_4 := dk_seg dksX6_goIn_3 22 rfl rfl
theorem dksX6_goIn_5 : cX6_goIn.data.toList.drop 116 = dktX6_goIn_5 := dk_seg dksX6_goIn_4 22 rfl rfl
theorem dksX6_goIn_6 : cX6_goIn.data.toList.drop 138 = dktX6_goIn_6 := dk_seg dksX6_goIn_5 22 rfl rfl
theorem dX6_goIn_0 : decode cX6_goIn 0 = .ok (.iconst 0, 1) := dk_3 (dk_at dksX6_goIn_0 0 rfl rfl)
theorem dX6_goIn_1 : decode cX6_goIn 1 = .ok (.istore_n 2, 1) := dk_61 (dk_at dksX6_goIn_0 1 rfl rfl)
theorem dX6_goIn_2 : decode cX6_goIn 2 = .ok (.aload_n 0, 1) := dk_42 (dk_at dksX6_goIn_0 2 rfl rfl)
theorem dX6_goIn_3 : decode cX6_goIn 3 = .ok (.iload_n 1, 1) := dk_27 (dk_at dksX6_goIn_0 3 rfl rfl)
theorem dX6_goIn_4 : decode cX6_goIn 4 = .ok (.invokevirtual 280, 3) := dk_182 1 24 (dk_at dksX6_goIn_0 4 rfl rfl)
theorem dX6_goIn_7 : decode cX6_goIn 7 = .ok (.istore_n 3, 1) := dk_62 (dk_at dksX6_goIn_0 7 rfl rfl)
theorem dX6_goIn_8 : decode cX6_goIn 8 = .ok (.iconst 0, 1) := dk_3 (dk_at dksX6_goIn_0 8 rfl rfl)
theorem dX6_goIn_9 : decode cX6_goIn 9 = .ok (.istore 4, 2) := dk_54 4 (dk_at dksX6_goIn_0 9 rfl rfl)
theorem dX6_goIn_11 : decode cX6_goIn 11 = .ok (.iload 4, 2) := dk_21 4 (dk_at dksX6_goIn_0 11 rfl rfl)
theorem dX6_goIn_13 : decode cX6_goIn 13 = .ok (.aload_n 0, 1) := dk_42 (dk_at dksX6_goIn_0 13 rfl rfl)
theorem dX6_goIn_14 : decode cX6_goIn 14 = .ok (.getfield 7, 3) := dk_180 0 7 (dk_at dksX6_goIn_0 14 rfl rfl)
theorem dX6_goIn_17 : decode cX6_goIn 17 = .ok (.iconst 2, 1) := dk_5 (dk_at dksX6_goIn_0 17 rfl rfl)
theorem dX6_goIn_18 : decode cX6_goIn 18 = .ok (.iaload, 1) := dk_46 (dk_at dksX6_goIn_0 18 rfl rfl)
theorem dX6_goIn_19 : decode cX6_goIn 19 = .ok (.if_icmp .ge 131, 3) := dk_162 0 131 (dk_at dksX6_goIn_0 19 rfl rfl)
theorem dX6_goIn_22 : decode cX6_goIn 22 = .ok (.iload_n 3, 1) := dk_29 (dk_at dksX6_goIn_0 22 rfl rfl)
theorem dX6_goIn_23 : decode cX6_goIn 23 = .ok (.aload_n 0, 1) := dk_42 (dk_at dksX6_goIn_0 23 rfl rfl)
theorem dX6_goIn_24 : decode cX6_goIn 24 = .ok (.iload_n 1, 1) := dk_27 (dk_at dksX6_goIn_1 0 rfl rfl)
theorem dX6_goIn_25 : decode cX6_goIn 25 = .ok (.bipush 6, 2) := dk_16 6 (dk_at dksX6_goIn_1 1 rfl rfl)
theorem dX6_goIn_27 : decode cX6_goIn 27 = .ok (.invokevirtual 248, 3) := dk_182 0 248 (dk_at dksX6_goIn_1 3 rfl rfl)
theorem dX6_goIn_30 : decode cX6_goIn 30 = .ok (.if_icmp .ge 120, 3) := dk_162 0 120 (dk_at dksX6_goIn_1 6 rfl rfl)
theorem dX6_goIn_33 : decode cX6_goIn 33 = .ok (.aload_n 0, 1) := dk_42 (dk_at dksX6_goIn_1 9 rfl rfl)
theorem dX6_goIn_34 : decode cX6_goIn 34 = .ok (.iload 4, 2) := dk_21 4 (dk_at dksX6_goIn_1 10 rfl rfl)
theorem dX6_goIn_36 : decode cX6_goIn 36 = .ok (.iconst 3, 1) := dk_6 (dk_at dksX6_goIn_1 12 rfl rfl)
theorem dX6_goIn_37 : decode cX6_goIn 37 = .ok (.invokevirtual 271, 3) := dk_182 1 15 (dk_at dksX6_goIn_1 13 rfl rfl)
theorem dX6_goIn_40 : decode cX6_goIn 40 = .ok (.iconst 1, 1) := dk_4 (dk_at dksX6_goIn_1 16 rfl rfl)
theorem dX6_goIn_41 : decode cX6_goIn 41 = .ok (.if_icmp .ne 103, 3) := dk_160 0 103 (dk_at dksX6_goIn_1 17 rfl rfl)
theorem dX6_goIn_44 : decode cX6_goIn 44 = .ok (.aload_n 0, 1) := dk_42 (dk_at dksX6_goIn_1 20 rfl rfl)
theorem dX6_goIn_45 : decode cX6_goIn 45 = .ok (.iload 4, 2) := dk_21 4 (dk_at dksX6_goIn_1 21 rfl rfl)
theorem dX6_goIn_47 : decode cX6_goIn 47 = .ok (.iconst 4, 1) := dk_7 (dk_at dksX6_goIn_1 23 rfl rfl)
theorem dX6_goIn_48 : decode cX6_goIn 48 = .ok (.invokevirtual 271, 3) := dk_182 1 15 (dk_at dksX6_goIn_2 0 rfl rfl)
theorem dX6_goIn_51 : decode cX6_goIn 51 = .ok (.iload_n 1, 1) := dk_27 (dk_at dksX6_goIn_2 3 rfl rfl)
theorem dX6_goIn_52 : decode cX6_goIn 52 = .ok (.if_icmp .ne 92, 3) := dk_160 0 92 (dk_at dksX6_goIn_2 4 rfl rfl)
theorem dX6_goIn_55 : decode cX6_goIn 55 = .ok (.aload_n 0, 1) := dk_42 (dk_at dksX6_goIn_2 7 rfl rfl)
theorem dX6_goIn_56 : decode cX6_goIn 56 = .ok (.iload 4, 2) := dk_21 4 (dk_at dksX6_goIn_2 8 rfl rfl)
theorem dX6_goIn_58 : decode cX6_goIn 58 = .ok (.iconst 1, 1) := dk_4 (dk_at dksX6_goIn_2 10 rfl rfl)
theorem dX6_goIn_59 : decode cX6_goIn 59 = .ok (.invokevirtual 271, 3) := dk_182 1 15 (dk_at dksX6_goIn_2 11 rfl rfl)
theorem dX6_goIn_62 : decode cX6_goIn 62 = .ok (.aload_n 0, 1) := dk_42 (dk_at dksX6_goIn_2 14 rfl rfl)
theorem dX6_goIn_63 : decode cX6_goIn 63 = .ok (.iload_n 1, 1) := dk_27 (dk_at dksX6_goIn_2 15 rfl rfl)
theorem dX6_goIn_64 : decode cX6_goIn 64 = .ok (.iconst 0, 1) := dk_3 (dk_at dksX6_goIn_2 16 rfl rfl)
theorem dX6_goIn_65 : decode cX6_goIn 65 = .ok (.invokevirtual 248, 3) := dk_182 0 248 (dk_at dksX6_goIn_2 17 rfl rfl)
theorem dX6_goIn_68 : decode cX6_goIn 68 = .ok (.if_icmp .ne 76, 3) := dk_160 0 76 (dk_at dksX6_goIn_2 20 rfl rfl)
theorem dX6_goIn_71 : decode cX6_goIn 71 = .ok (.aload_n 0, 1) := dk_42 (dk_at dksX6_goIn_2 23 rfl rfl)
theorem dX6_goIn_72 : decode cX6_goIn 72 = .ok (.iload 4, 2) := dk_21 4 (dk_at dksX6_goIn_3 0 rfl rfl)
theorem dX6_goIn_74 : decode cX6_goIn 74 = .ok (.invokevirtual 277, 3) := dk_182 1 21 (dk_at dksX6_goIn_3 2 rfl rfl)
theorem dX6_goIn_77 : decode cX6_goIn 77 = .ok (.aload_n 0, 1) := dk_42 (dk_at dksX6_goIn_3 5 rfl rfl)
theorem dX6_goIn_78 : decode cX6_goIn 78 = .ok (.iload_n 1, 1) := dk_27 (dk_at dksX6_goIn_3 6 rfl rfl)
theorem dX6_goIn_79 : decode cX6_goIn 79 = .ok (.iconst 1, 1) := dk_4 (dk_at dksX6_goIn_3 7 rfl rfl)
theorem dX6_goIn_80 : decode cX6_goIn 80 = .ok (.invokevirtual 248, 3) := dk_182 0 248 (dk_at dksX6_goIn_3 8 rfl rfl)
theorem dX6_goIn_83 : decode cX6_goIn 83 = .ok (.if_icmp .eq 6, 3) := dk_159 0 6 (dk_at dksX6_goIn_3 11 rfl rfl)
theorem dX6_goIn_86 : decode cX6_goIn 86 = .ok (.goto 58, 3) := dk_167 0 58 (dk_at dksX6_goIn_3 14 rfl rfl)
theorem dX6_goIn_89 : decode cX6_goIn 89 = .ok (.aload_n 0, 1) := dk_42 (dk_at dksX6_goIn_3 17 rfl rfl)
theorem dX6_goIn_90 : decode cX6_goIn 90 = .ok (.iload 4, 2) := dk_21 4 (dk_at dksX6_goIn_3 18 rfl rfl)
theorem dX6_goIn_92 : decode cX6_goIn 92 = .ok (.iconst 3, 1) := dk_6 (dk_at dksX6_goIn_3 20 rfl rfl)
theorem dX6_goIn_93 : decode cX6_goIn 93 = .ok (.iconst 2, 1) := dk_5 (dk_at dksX6_goIn_3 21 rfl rfl)
theorem dX6_goIn_94 : decode cX6_goIn 94 = .ok (.invokevirtual 262, 3) := dk_182 1 6 (dk_at dksX6_goIn_4 0 rfl rfl)
theorem dX6_goIn_97 : decode cX6_goIn 97 = .ok (.aload_n 0, 1) := dk_42 (dk_at dksX6_goIn_4 3 rfl rfl)
theorem dX6_goIn_98 : decode cX6_goIn 98 = .ok (.iload 4, 2) := dk_21 4 (dk_at dksX6_goIn_4 4 rfl rfl)
theorem dX6_goIn_100 : decode cX6_goIn 100 = .ok (.iconst 5, 1) := dk_8 (dk_at dksX6_goIn_4 6 rfl rfl)
theorem dX6_goIn_101 : decode cX6_goIn 101 = .ok (.aload_n 0, 1) := dk_42 (dk_at dksX6_goIn_4 7 rfl rfl)
theorem dX6_goIn_102 : decode cX6_goIn 102 = .ok (.getfield 7, 3) := dk_180 0 7 (dk_at dksX6_goIn_4 8 rfl rfl)
theorem dX6_goIn_105 : decode cX6_goIn 105 = .ok (.iconst 3, 1) := dk_6 (dk_at dksX6_goIn_4 11 rfl rfl)
theorem dX6_goIn_106 : decode cX6_goIn 106 = .ok (.iaload, 1) := dk_46 (dk_at dksX6_goIn_4 12 rfl rfl)
theorem dX6_goIn_107 : decode cX6_goIn 107 = .ok (.invokevirtual 262, 3) := dk_182 1 6 (dk_at dksX6_goIn_4 13 rfl rfl)
theorem dX6_goIn_110 : decode cX6_goIn 110 = .ok (.iload 4, 2) := dk_21 4 (dk_at dksX6_goIn_4 16 rfl rfl)
theorem dX6_goIn_112 : decode cX6_goIn 112 = .ok (.aload_n 0, 1) := dk_42 (dk_at dksX6_goIn_4 18 rfl rfl)
theorem dX6_goIn_113 : decode cX6_goIn 113 = .ok (.getfield 48, 3) := dk_180 0 48 (dk_at dksX6_goIn_4 19 rfl rfl)
theorem dX6_goIn_116 : decode cX6_goIn 116 = .ok (.if_icmp .ne 22, 3) := dk_160 0 22 (dk_at dksX6_goIn_5 0 rfl rfl)
theorem dX6_goIn_119 : decode cX6_goIn 119 = .ok (.aload_n 0, 1) := dk_42 (dk_at dksX6_goIn_5 3 rfl rfl)
theorem dX6_goIn_120 : decode cX6_goIn 120 = .ok (.getfield 7, 3) := dk_180 0 7 (dk_at dksX6_goIn_5 4 rfl rfl)
theorem dX6_goIn_123 : decode cX6_goIn 123 = .ok (.sipush 420, 3) := dk_17 1 164 (dk_at dksX6_goIn_5 7 rfl rfl)
theorem dX6_goIn_126 : decode cX6_goIn 126 = .ok (.bipush 80, 2) := dk_16 80 (dk_at dksX6_goIn_5 10 rfl rfl)
theorem dX6_goIn_128 : decode cX6_goIn 128 = .ok (.iload_n 1, 1) := dk_27 (dk_at dksX6_goIn_5 12 rfl rfl)
theorem dX6_goIn_129 : decode cX6_goIn 129 = .ok (.imul, 1) := dk_104 (dk_at dksX6_goIn_5 13 rfl rfl)
theorem dX6_goIn_130 : decode cX6_goIn 130 = .ok (.iadd, 1) := dk_96 (dk_at dksX6_goIn_5 14 rfl rfl)
theorem dX6_goIn_131 : decode cX6_goIn 131 = .ok (.aload_n 0, 1) := dk_42 (dk_at dksX6_goIn_5 15 rfl rfl)
theorem dX6_goIn_132 : decode cX6_goIn 132 = .ok (.getfield 314, 3) := dk_180 1 58 (dk_at dksX6_goIn_5 16 rfl rfl)
theorem dX6_goIn_135 : decode cX6_goIn 135 = .ok (.iadd, 1) := dk_96 (dk_at dksX6_goIn_5 19 rfl rfl)
theorem dX6_goIn_136 : decode cX6_goIn 136 = .ok (.iconst 1, 1) := dk_4 (dk_at dksX6_goIn_5 20 rfl rfl)
theorem dX6_goIn_137 : decode cX6_goIn 137 = .ok (.iastore, 1) := dk_79 (dk_at dksX6_goIn_5 21 rfl rfl)
theorem dX6_goIn_138 : decode cX6_goIn 138 = .ok (.iinc 3 1, 3) := dk_132 3 1 (dk_at dksX6_goIn_6 0 rfl rfl)
theorem dX6_goIn_141 : decode cX6_goIn 141 = .ok (.iinc 2 1, 3) := dk_132 2 1 (dk_at dksX6_goIn_6 3 rfl rfl)
theorem dX6_goIn_144 : decode cX6_goIn 144 = .ok (.iinc 4 1, 3) := dk_132 4 1 (dk_at dksX6_goIn_6 6 rfl rfl)
theorem dX6_goIn_147 : decode cX6_goIn 147 = .ok (.goto (-136), 3) := dk_167 255 120 (dk_at dksX6_goIn_6 9 rfl rfl)
theorem dX6_goIn_150 : decode cX6_goIn 150 = .ok (.iload_n 2, 1) := dk_28 (dk_at dksX6_goIn_6 12 rfl rfl)
theorem dX6_goIn_151 : decode cX6_goIn 151 = .ok (.ireturn, 1) := dk_172 (dk_at dksX6_goIn_6 13 rfl rfl)
abbrev cX6_car : ByteArray := prog_15_method_66_code
def yX6_car : MethodName := ⟨RX6, "car", "(II)I"⟩
def dkwX6_car_6 : List UInt8 := [16, 254, 172]
abbrev dktX6_car_6 : List UInt8 := dkwX6_car_6 ++ []
def dkwX6_car_5 : List UInt8 := [182, 0, 248, 172, 42, 27, 8, 182, 0, 248, 172, 42, 27, 16, 6, 28, 96, 16, 8, 100, 182, 0, 248, 172]
abbrev dktX6_car_5 : List UInt8 := dkwX6_car_5 ++ dktX6_car_6
def dkwX6_car_4 : List UInt8 := [42, 27, 3, 28, 96, 182, 0, 248, 172, 42, 27, 182, 1, 24, 172, 42, 27, 182, 1, 27, 172, 42, 27, 7]
abbrev dktX6_car_4 : List UInt8 := dkwX6_car_4 ++ dktX6_car_5
def dkwX6_car_3 : List UInt8 := [170, 0, 0, 0, 0, 0, 0, 112, 0, 0, 0, 0, 0, 0, 0, 11, 0, 0, 0, 64, 0, 0, 0, 64, 0, 0, 0, 64, 0, 0, 0, 64, 0, 0, 0, 73, 0, 0, 0, 79, 0, 0, 0, 85, 0, 0, 0, 92, 0, 0, 0, 99, 0, 0, 0, 99, 0, 0, 0, 99, 0, 0, 0, 99]
abbrev dktX6_car_3 : List UInt8 := dkwX6_car_3 ++ dktX6_car_4
def dkwX6_car_2 : List UInt8 := [28]
abbrev dktX6_car_2 : List UInt8 := dkwX6_car_2 ++ dktX6_car_3
def dkwX6_car_1 : List UInt8 := [184, 0, 66, 153, 0, 21, 42, 27, 28, 16, 100, 100, 182, 1, 46, 153, 0, 7, 4, 167, 0, 4, 3, 172]
abbrev dktX6_car_1 : List UInt8 := dkwX6_car_1 ++ dktX6_car_2
def dkwX6_car_0 : List UInt8 := [42, 27, 182, 1, 9, 154, 0, 6, 16, 254, 172, 28, 16, 100, 16, 99, 42, 180, 0, 7, 3, 46, 96]
abbrev dktX6_car_0 : List UInt8 := dkwX6_car_0 ++ dktX6_car_1
theorem dksX6_car_0 : cX6_car.data.toList.drop 0 = dktX6_car_0 := by decide +kernel
theorem dksX6_car_1 : cX6_car.data.toList.drop 23 = dktX6_car_1 := dk_seg dksX6_car_0 23 rfl rfl
theorem dksX6_car_2 : cX6_car.data.toList.drop 47 = dktX6_car_2 := dk_seg dksX6_car_1 24 rfl rfl
theorem dksX6_car_3 : cX6_car.data.toList.drop 48 = dktX6_car_3 := dk_seg dksX6_car_2 1 rfl rfl
theorem dksX6_car_4 : cX6_car.data.toList.drop 112 = dktX6_car_4 := dk_seg dksX6_car_3 64 rfl rfl
theorem dksX6_car_5 : cX6_car.data.toList.drop 136 = dktX6_car_5 := dk_seg dksX6_car_4 24 rfl rfl
theorem dksX6_car_6 : cX6_car.data.toList.drop 160 = dktX6_car_6 := dk_seg dksX6_car_5 24 rfl rfl
theorem dX6_car_0 : decode cX6_car 0 = .ok (.aload_n 0, 1) := dk_42 (dk_at dksX6_car_0 0 rfl rfl)
theorem dX6_car_1 : decode cX6_car 1 = .ok (.iload_n 1, 1) := dk_27 (dk_at dksX6_car_0 1 rfl rfl)
theorem dX6_car_2 : decode cX6_car 2 = .ok (.invokevirtual 265, 3) := dk_182 1 9 (dk_at dksX6_car_0 2 rfl rfl)
theorem dX6_car_5 : decode cX6_car 5 = .ok (.ifCond .ne 6, 3) := dk_154 0 6 (dk_at dksX6_car_0 5 rfl rfl)
theorem dX6_car_8 : decode cX6_car 8 = .ok (.bipush (-2), 2) := dk_16 254 (dk_at dksX6_car_0 8 rfl rfl)
theorem dX6_car_10 : decode cX6_car 10 = .ok (.ireturn, 1) := dk_172 (dk_at dksX6_car_0 10 rfl rfl)
theorem dX6_car_11 : decode cX6_car 11 = .ok (.iload_n 2, 1) := dk_28 (dk_at dksX6_car_0 11 rfl rfl)
theorem dX6_car_12 : decode cX6_car 12 = .ok (.bipush 100, 2) := dk_16 100 (dk_at dksX6_car_0 12 rfl rfl)
theorem dX6_car_14 : decode cX6_car 14 = .ok (.bipush 99, 2) := dk_16 99 (dk_at dksX6_car_0 14 rfl rfl)
theorem dX6_car_16 : decode cX6_car 16 = .ok (.aload_n 0, 1) := dk_42 (dk_at dksX6_car_0 16 rfl rfl)
theorem dX6_car_17 : decode cX6_car 17 = .ok (.getfield 7, 3) := dk_180 0 7 (dk_at dksX6_car_0 17 rfl rfl)
theorem dX6_car_20 : decode cX6_car 20 = .ok (.iconst 0, 1) := dk_3 (dk_at dksX6_car_0 20 rfl rfl)
theorem dX6_car_21 : decode cX6_car 21 = .ok (.iaload, 1) := dk_46 (dk_at dksX6_car_0 21 rfl rfl)
theorem dX6_car_22 : decode cX6_car 22 = .ok (.iadd, 1) := dk_96 (dk_at dksX6_car_0 22 rfl rfl)
theorem dX6_car_23 : decode cX6_car 23 = .ok (.invokestatic 66, 3) := dk_184 0 66 (dk_at dksX6_car_1 0 rfl rfl)
theorem dX6_car_26 : decode cX6_car 26 = .ok (.ifCond .eq 21, 3) := dk_153 0 21 (dk_at dksX6_car_1 3 rfl rfl)
theorem dX6_car_29 : decode cX6_car 29 = .ok (.aload_n 0, 1) := dk_42 (dk_at dksX6_car_1 6 rfl rfl)
theorem dX6_car_30 : decode cX6_car 30 = .ok (.iload_n 1, 1) := dk_27 (dk_at dksX6_car_1 7 rfl rfl)
theorem dX6_car_31 : decode cX6_car 31 = .ok (.iload_n 2, 1) := dk_28 (dk_at dksX6_car_1 8 rfl rfl)
theorem dX6_car_32 : decode cX6_car 32 = .ok (.bipush 100, 2) := dk_16 100 (dk_at dksX6_car_1 9 rfl rfl)
theorem dX6_car_34 : decode cX6_car 34 = .ok (.isub, 1) := dk_100 (dk_at dksX6_car_1 11 rfl rfl)
theorem dX6_car_35 : decode cX6_car 35 = .ok (.invokevirtual 302, 3) := dk_182 1 46 (dk_at dksX6_car_1 12 rfl rfl)
theorem dX6_car_38 : decode cX6_car 38 = .ok (.ifCond .eq 7, 3) := dk_153 0 7 (dk_at dksX6_car_1 15 rfl rfl)
theorem dX6_car_41 : decode cX6_car 41 = .ok (.iconst 1, 1) := dk_4 (dk_at dksX6_car_1 18 rfl rfl)
theorem dX6_car_42 : decode cX6_car 42 = .ok (.goto 4, 3) := dk_167 0 4 (dk_at dksX6_car_1 19 rfl rfl)
theorem dX6_car_45 : decode cX6_car 45 = .ok (.iconst 0, 1) := dk_3 (dk_at dksX6_car_1 22 rfl rfl)
theorem dX6_car_46 : decode cX6_car 46 = .ok (.ireturn, 1) := dk_172 (dk_at dksX6_car_1 23 rfl rfl)
theorem dX6_car_47 : decode cX6_car 47 = .ok (.iload_n 2, 1) := dk_28 (dk_at dksX6_car_2 0 rfl rfl)
theorem dX6_car_48 : decode cX6_car 48 = .ok (.tableswitch 112 0 11 #[64, 64, 64, 64, 73, 79, 85, 92, 99, 99, 99, 99], 64) := by decide +kernel
theorem dX6_car_112 : decode cX6_car 112 = .ok (.aload_n 0, 1) := dk_42 (dk_at dksX6_car_4 0 rfl rfl)
theorem dX6_car_113 : decode cX6_car 113 = .ok (.iload_n 1, 1) := dk_27 (dk_at dksX6_car_4 1 rfl rfl)
theorem dX6_car_114 : decode cX6_car 114 = .ok (.iconst 0, 1) := dk_3 (dk_at dksX6_car_4 2 rfl rfl)
theorem dX6_car_115 : decode cX6_car 115 = .ok (.iload_n 2, 1) := dk_28 (dk_at dksX6_car_4 3 rfl rfl)
theorem dX6_car_116 : decode cX6_car 116 = .ok (.iadd, 1) := dk_96 (dk_at dksX6_car_4 4 rfl rfl)
theorem dX6_car_117 : decode cX6_car 117 = .ok (.invokevirtual 248, 3) := dk_182 0 248 (dk_at dksX6_car_4 5 rfl rfl)
theorem dX6_car_120 : decode cX6_car 120 = .ok (.ireturn, 1) := dk_172 (dk_at dksX6_car_4 8 rfl rfl)
theorem dX6_car_121 : decode cX6_car 121 = .ok (.aload_n 0, 1) := dk_42 (dk_at dksX6_car_4 9 rfl rfl)
theorem dX6_car_122 : decode cX6_car 122 = .ok (.iload_n 1, 1) := dk_27 (dk_at dksX6_car_4 10 rfl rfl)
theorem dX6_car_123 : decode cX6_car 123 = .ok (.invokevirtual 280, 3) := dk_182 1 24 (dk_at dksX6_car_4 11 rfl rfl)
theorem dX6_car_126 : decode cX6_car 126 = .ok (.ireturn, 1) := dk_172 (dk_at dksX6_car_4 14 rfl rfl)
theorem dX6_car_127 : decode cX6_car 127 = .ok (.aload_n 0, 1) := dk_42 (dk_at dksX6_car_4 15 rfl rfl)
theorem dX6_car_128 : decode cX6_car 128 = .ok (.iload_n 1, 1) := dk_27 (dk_at dksX6_car_4 16 rfl rfl)
theorem dX6_car_129 : decode cX6_car 129 = .ok (.invokevirtual 283, 3) := dk_182 1 27 (dk_at dksX6_car_4 17 rfl rfl)
theorem dX6_car_132 : decode cX6_car 132 = .ok (.ireturn, 1) := dk_172 (dk_at dksX6_car_4 20 rfl rfl)
theorem dX6_car_133 : decode cX6_car 133 = .ok (.aload_n 0, 1) := dk_42 (dk_at dksX6_car_4 21 rfl rfl)
theorem dX6_car_134 : decode cX6_car 134 = .ok (.iload_n 1, 1) := dk_27 (dk_at dksX6_car_4 22 rfl rfl)
theorem dX6_car_135 : decode cX6_car 135 = .ok (.iconst 4, 1) := dk_7 (dk_at dksX6_car_4 23 rfl rfl)
theorem dX6_car_136 : decode cX6_car 136 = .ok (.invokevirtual 248, 3) := dk_182 0 248 (dk_at dksX6_car_5 0 rfl rfl)
theorem dX6_car_139 : decode cX6_car 139 = .ok (.ireturn, 1) := dk_172 (dk_at dksX6_car_5 3 rfl rfl)
theorem dX6_car_140 : decode cX6_car 140 = .ok (.aload_n 0, 1) := dk_42 (dk_at dksX6_car_5 4 rfl rfl)
theorem dX6_car_141 : decode cX6_car 141 = .ok (.iload_n 1, 1) := dk_27 (dk_at dksX6_car_5 5 rfl rfl)
theorem dX6_car_142 : decode cX6_car 142 = .ok (.iconst 5, 1) := dk_8 (dk_at dksX6_car_5 6 rfl rfl)
theorem dX6_car_143 : decode cX6_car 143 = .ok (.invokevirtual 248, 3) := dk_182 0 248 (dk_at dksX6_car_5 7 rfl rfl)
theorem dX6_car_146 : decode cX6_car 146 = .ok (.ireturn, 1) := dk_172 (dk_at dksX6_car_5 10 rfl rfl)
theorem dX6_car_147 : decode cX6_car 147 = .ok (.aload_n 0, 1) := dk_42 (dk_at dksX6_car_5 11 rfl rfl)
theorem dX6_car_148 : decode cX6_car 148 = .ok (.iload_n 1, 1) := dk_27 (dk_at dksX6_car_5 12 rfl rfl)
theorem dX6_car_149 : decode cX6_car 149 = .ok (.bipush 6, 2) := dk_16 6 (dk_at dksX6_car_5 13 rfl rfl)
theorem dX6_car_151 : decode cX6_car 151 = .ok (.iload_n 2, 1) := dk_28 (dk_at dksX6_car_5 15 rfl rfl)
theorem dX6_car_152 : decode cX6_car 152 = .ok (.iadd, 1) := dk_96 (dk_at dksX6_car_5 16 rfl rfl)
theorem dX6_car_153 : decode cX6_car 153 = .ok (.bipush 8, 2) := dk_16 8 (dk_at dksX6_car_5 17 rfl rfl)
theorem dX6_car_155 : decode cX6_car 155 = .ok (.isub, 1) := dk_100 (dk_at dksX6_car_5 19 rfl rfl)
theorem dX6_car_156 : decode cX6_car 156 = .ok (.invokevirtual 248, 3) := dk_182 0 248 (dk_at dksX6_car_5 20 rfl rfl)
theorem dX6_car_159 : decode cX6_car 159 = .ok (.ireturn, 1) := dk_172 (dk_at dksX6_car_5 23 rfl rfl)
theorem dX6_car_160 : decode cX6_car 160 = .ok (.bipush (-2), 2) := dk_16 254 (dk_at dksX6_car_6 0 rfl rfl)
theorem dX6_car_162 : decode cX6_car 162 = .ok (.ireturn, 1) := dk_172 (dk_at dksX6_car_6 2 rfl rfl)
abbrev cX6_person : ByteArray := prog_15_method_67_code
def yX6_person : MethodName := ⟨RX6, "person", "(II)I"⟩
def dkwX6_person_4 : List UInt8 := [182, 1, 15, 100, 172]
abbrev dktX6_person_4 : List UInt8 := dkwX6_person_4 ++ []
def dkwX6_person_3 : List UInt8 := [16, 6, 182, 1, 15, 2, 160, 0, 7, 2, 167, 0, 17, 42, 27, 16, 6, 182, 1, 15, 42, 27, 8]
abbrev dktX6_person_3 : List UInt8 := dkwX6_person_3 ++ dktX6_person_4
def dkwX6_person_2 : List UInt8 := [160, 0, 7, 2, 167, 0, 16, 42, 27, 8, 182, 1, 15, 42, 27, 3, 182, 1, 15, 100, 172, 42, 27]
