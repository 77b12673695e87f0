/-! decode rows (printed by gen/names.py) -/
theorem d_P_prepare_0 : decode m_P_prepare.2.1 0 = .ok (.iconst 0, 1) := by decide +kernel
theorem d_P_prepare_1 : decode m_P_prepare.2.1 1 = .ok (.istore_n 1, 1) := by decide +kernel
theorem d_P_prepare_2 : decode m_P_prepare.2.1 2 = .ok (.iload_n 1, 1) := by decide +kernel
theorem d_P_prepare_3 : decode m_P_prepare.2.1 3 = .ok (.bipush 6, 2) := by decide +kernel
theorem d_P_prepare_5 : decode m_P_prepare.2.1 5 = .ok (.if_icmp .ge 30, 3) := by decide +kernel
theorem d_P_prepare_8 : decode m_P_prepare.2.1 8 = .ok (.aload_n 0, 1) := by decide +kernel
theorem d_P_prepare_9 : decode m_P_prepare.2.1 9 = .ok (.getfield 27, 3) := by decide +kernel
theorem d_P_prepare_12 : decode m_P_prepare.2.1 12 = .ok (.iload_n 1, 1) := by decide +kernel
theorem d_P_prepare_13 : decode m_P_prepare.2.1 13 = .ok (.iconst 0, 1) := by decide +kernel
theorem d_P_prepare_14 : decode m_P_prepare.2.1 14 = .ok (.bastore, 1) := by decide +kernel
theorem d_P_prepare_15 : decode m_P_prepare.2.1 15 = .ok (.aload_n 0, 1) := by decide +kernel
theorem d_P_prepare_16 : decode m_P_prepare.2.1 16 = .ok (.getfield 30, 3) := by decide +kernel
theorem d_P_prepare_19 : decode m_P_prepare.2.1 19 = .ok (.iload_n 1, 1) := by decide +kernel
theorem d_P_prepare_20 : decode m_P_prepare.2.1 20 = .ok (.iconst 0, 1) := by decide +kernel
theorem d_P_prepare_21 : decode m_P_prepare.2.1 21 = .ok (.bastore, 1) := by decide +kernel
theorem d_P_prepare_22 : decode m_P_prepare.2.1 22 = .ok (.aload_n 0, 1) := by decide +kernel
theorem d_P_prepare_23 : decode m_P_prepare.2.1 23 = .ok (.getfield 33, 3) := by decide +kernel
theorem d_P_prepare_26 : decode m_P_prepare.2.1 26 = .ok (.iload_n 1, 1) := by decide +kernel
theorem d_P_prepare_27 : decode m_P_prepare.2.1 27 = .ok (.iconst 0, 1) := by decide +kernel
theorem d_P_prepare_28 : decode m_P_prepare.2.1 28 = .ok (.iastore, 1) := by decide +kernel
theorem d_P_prepare_29 : decode m_P_prepare.2.1 29 = .ok (.iinc 1 1, 3) := by decide +kernel
theorem d_P_prepare_32 : decode m_P_prepare.2.1 32 = .ok (.goto (-30), 3) := by decide +kernel
theorem d_P_prepare_35 : decode m_P_prepare.2.1 35 = .ok (.iconst 1, 1) := by decide +kernel
theorem d_P_prepare_36 : decode m_P_prepare.2.1 36 = .ok (.istore_n 1, 1) := by decide +kernel
theorem d_P_prepare_37 : decode m_P_prepare.2.1 37 = .ok (.iload_n 1, 1) := by decide +kernel
theorem d_P_prepare_38 : decode m_P_prepare.2.1 38 = .ok (.ifCond .eq 175, 3) := by decide +kernel
theorem d_P_prepare_41 : decode m_P_prepare.2.1 41 = .ok (.iconst 0, 1) := by decide +kernel
theorem d_P_prepare_42 : decode m_P_prepare.2.1 42 = .ok (.istore_n 1, 1) := by decide +kernel
theorem d_P_prepare_43 : decode m_P_prepare.2.1 43 = .ok (.iconst 0, 1) := by decide +kernel
theorem d_P_prepare_44 : decode m_P_prepare.2.1 44 = .ok (.istore_n 2, 1) := by decide +kernel
theorem d_P_prepare_45 : decode m_P_prepare.2.1 45 = .ok (.iload_n 2, 1) := by decide +kernel
theorem d_P_prepare_46 : decode m_P_prepare.2.1 46 = .ok (.aload_n 0, 1) := by decide +kernel
theorem d_P_prepare_47 : decode m_P_prepare.2.1 47 = .ok (.getfield 90, 3) := by decide +kernel
theorem d_P_prepare_50 : decode m_P_prepare.2.1 50 = .ok (.if_icmp .ge 160, 3) := by decide +kernel
theorem d_P_prepare_53 : decode m_P_prepare.2.1 53 = .ok (.aload_n 0, 1) := by decide +kernel
theorem d_P_prepare_54 : decode m_P_prepare.2.1 54 = .ok (.getfield 23, 3) := by decide +kernel
theorem d_P_prepare_57 : decode m_P_prepare.2.1 57 = .ok (.iload_n 2, 1) := by decide +kernel
theorem d_P_prepare_58 : decode m_P_prepare.2.1 58 = .ok (.iconst 1, 1) := by decide +kernel
theorem d_P_prepare_59 : decode m_P_prepare.2.1 59 = .ok (.bastore, 1) := by decide +kernel
theorem d_P_prepare_60 : decode m_P_prepare.2.1 60 = .ok (.iconst 4, 1) := by decide +kernel
theorem d_P_prepare_61 : decode m_P_prepare.2.1 61 = .ok (.iload_n 2, 1) := by decide +kernel
theorem d_P_prepare_62 : decode m_P_prepare.2.1 62 = .ok (.imul, 1) := by decide +kernel
theorem d_P_prepare_63 : decode m_P_prepare.2.1 63 = .ok (.istore_n 3, 1) := by decide +kernel
theorem d_P_prepare_64 : decode m_P_prepare.2.1 64 = .ok (.iload_n 3, 1) := by decide +kernel
theorem d_P_prepare_65 : decode m_P_prepare.2.1 65 = .ok (.iconst 4, 1) := by decide +kernel
theorem d_P_prepare_66 : decode m_P_prepare.2.1 66 = .ok (.iload_n 2, 1) := by decide +kernel
theorem d_P_prepare_67 : decode m_P_prepare.2.1 67 = .ok (.imul, 1) := by decide +kernel
theorem d_P_prepare_68 : decode m_P_prepare.2.1 68 = .ok (.aload_n 0, 1) := by decide +kernel
theorem d_P_prepare_69 : decode m_P_prepare.2.1 69 = .ok (.getfield 17, 3) := by decide +kernel
theorem d_P_prepare_72 : decode m_P_prepare.2.1 72 = .ok (.iload_n 2, 1) := by decide +kernel
theorem d_P_prepare_73 : decode m_P_prepare.2.1 73 = .ok (.iaload, 1) := by decide +kernel
theorem d_P_prepare_74 : decode m_P_prepare.2.1 74 = .ok (.iadd, 1) := by decide +kernel
theorem d_P_prepare_75 : decode m_P_prepare.2.1 75 = .ok (.if_icmp .ge 57, 3) := by decide +kernel
theorem d_P_prepare_78 : decode m_P_prepare.2.1 78 = .ok (.aload_n 0, 1) := by decide +kernel
theorem d_P_prepare_79 : decode m_P_prepare.2.1 79 = .ok (.getfield 23, 3) := by decide +kernel
theorem d_P_prepare_82 : decode m_P_prepare.2.1 82 = .ok (.iload_n 2, 1) := by decide +kernel
theorem d_P_prepare_83 : decode m_P_prepare.2.1 83 = .ok (.aload_n 0, 1) := by decide +kernel
theorem d_P_prepare_84 : decode m_P_prepare.2.1 84 = .ok (.getfield 23, 3) := by decide +kernel
theorem d_P_prepare_87 : decode m_P_prepare.2.1 87 = .ok (.iload_n 2, 1) := by decide +kernel
theorem d_P_prepare_88 : decode m_P_prepare.2.1 88 = .ok (.baload, 1) := by decide +kernel
theorem d_P_prepare_89 : decode m_P_prepare.2.1 89 = .ok (.ifCond .eq 35, 3) := by decide +kernel
theorem d_P_prepare_92 : decode m_P_prepare.2.1 92 = .ok (.aload_n 0, 1) := by decide +kernel
theorem d_P_prepare_93 : decode m_P_prepare.2.1 93 = .ok (.getfield 20, 3) := by decide +kernel
theorem d_P_prepare_96 : decode m_P_prepare.2.1 96 = .ok (.iload_n 3, 1) := by decide +kernel
theorem d_P_prepare_97 : decode m_P_prepare.2.1 97 = .ok (.iaload, 1) := by decide +kernel
theorem d_P_prepare_98 : decode m_P_prepare.2.1 98 = .ok (.bipush 6, 2) := by decide +kernel
theorem d_P_prepare_100 : decode m_P_prepare.2.1 100 = .ok (.if_icmp .lt 20, 3) := by decide +kernel
theorem d_P_prepare_103 : decode m_P_prepare.2.1 103 = .ok (.aload_n 0, 1) := by decide +kernel
theorem d_P_prepare_104 : decode m_P_prepare.2.1 104 = .ok (.getfield 27, 3) := by decide +kernel
theorem d_P_prepare_107 : decode m_P_prepare.2.1 107 = .ok (.aload_n 0, 1) := by decide +kernel
theorem d_P_prepare_108 : decode m_P_prepare.2.1 108 = .ok (.getfield 20, 3) := by decide +kernel
theorem d_P_prepare_111 : decode m_P_prepare.2.1 111 = .ok (.iload_n 3, 1) := by decide +kernel
theorem d_P_prepare_112 : decode m_P_prepare.2.1 112 = .ok (.iaload, 1) := by decide +kernel
theorem d_P_prepare_113 : decode m_P_prepare.2.1 113 = .ok (.bipush 6, 2) := by decide +kernel
theorem d_P_prepare_115 : decode m_P_prepare.2.1 115 = .ok (.isub, 1) := by decide +kernel
theorem d_P_prepare_116 : decode m_P_prepare.2.1 116 = .ok (.baload, 1) := by decide +kernel
theorem d_P_prepare_117 : decode m_P_prepare.2.1 117 = .ok (.ifCond .eq 7, 3) := by decide +kernel
theorem d_P_prepare_120 : decode m_P_prepare.2.1 120 = .ok (.iconst 1, 1) := by decide +kernel
theorem d_P_prepare_121 : decode m_P_prepare.2.1 121 = .ok (.goto 4, 3) := by decide +kernel
theorem d_P_prepare_124 : decode m_P_prepare.2.1 124 = .ok (.iconst 0, 1) := by decide +kernel
theorem d_P_prepare_125 : decode m_P_prepare.2.1 125 = .ok (.bastore, 1) := by decide +kernel
theorem d_P_prepare_126 : decode m_P_prepare.2.1 126 = .ok (.iinc 3 1, 3) := by decide +kernel
theorem d_P_prepare_129 : decode m_P_prepare.2.1 129 = .ok (.goto (-65), 3) := by decide +kernel
theorem d_P_prepare_132 : decode m_P_prepare.2.1 132 = .ok (.iload_n 1, 1) := by decide +kernel
theorem d_P_prepare_133 : decode m_P_prepare.2.1 133 = .ok (.ifCond .ne 26, 3) := by decide +kernel
theorem d_P_prepare_136 : decode m_P_prepare.2.1 136 = .ok (.aload_n 0, 1) := by decide +kernel
theorem d_P_prepare_137 : decode m_P_prepare.2.1 137 = .ok (.getfield 23, 3) := by decide +kernel
theorem d_P_prepare_140 : decode m_P_prepare.2.1 140 = .ok (.iload_n 2, 1) := by decide +kernel
theorem d_P_prepare_141 : decode m_P_prepare.2.1 141 = .ok (.baload, 1) := by decide +kernel
theorem d_P_prepare_142 : decode m_P_prepare.2.1 142 = .ok (.ifCond .eq 21, 3) := by decide +kernel
theorem d_P_prepare_145 : decode m_P_prepare.2.1 145 = .ok (.aload_n 0, 1) := by decide +kernel
theorem d_P_prepare_146 : decode m_P_prepare.2.1 146 = .ok (.getfield 27, 3) := by decide +kernel
theorem d_P_prepare_149 : decode m_P_prepare.2.1 149 = .ok (.aload_n 0, 1) := by decide +kernel
theorem d_P_prepare_150 : decode m_P_prepare.2.1 150 = .ok (.getfield 13, 3) := by decide +kernel
theorem d_P_prepare_153 : decode m_P_prepare.2.1 153 = .ok (.iload_n 2, 1) := by decide +kernel
theorem d_P_prepare_154 : decode m_P_prepare.2.1 154 = .ok (.iaload, 1) := by decide +kernel
theorem d_P_prepare_155 : decode m_P_prepare.2.1 155 = .ok (.baload, 1) := by decide +kernel
theorem d_P_prepare_156 : decode m_P_prepare.2.1 156 = .ok (.ifCond .ne 7, 3) := by decide +kernel
theorem d_P_prepare_159 : decode m_P_prepare.2.1 159 = .ok (.iconst 1, 1) := by decide +kernel
theorem d_P_prepare_160 : decode m_P_prepare.2.1 160 = .ok (.goto 4, 3) := by decide +kernel
theorem d_P_prepare_163 : decode m_P_prepare.2.1 163 = .ok (.iconst 0, 1) := by decide +kernel
theorem d_P_prepare_164 : decode m_P_prepare.2.1 164 = .ok (.istore_n 1, 1) := by decide +kernel
theorem d_P_prepare_165 : decode m_P_prepare.2.1 165 = .ok (.aload_n 0, 1) := by decide +kernel
theorem d_P_prepare_166 : decode m_P_prepare.2.1 166 = .ok (.getfield 27, 3) := by decide +kernel
theorem d_P_prepare_169 : decode m_P_prepare.2.1 169 = .ok (.aload_n 0, 1) := by decide +kernel
theorem d_P_prepare_170 : decode m_P_prepare.2.1 170 = .ok (.getfield 13, 3) := by decide +kernel
theorem d_P_prepare_173 : decode m_P_prepare.2.1 173 = .ok (.iload_n 2, 1) := by decide +kernel
theorem d_P_prepare_174 : decode m_P_prepare.2.1 174 = .ok (.iaload, 1) := by decide +kernel
theorem d_P_prepare_175 : decode m_P_prepare.2.1 175 = .ok (.aload_n 0, 1) := by decide +kernel
theorem d_P_prepare_176 : decode m_P_prepare.2.1 176 = .ok (.getfield 27, 3) := by decide +kernel
theorem d_P_prepare_179 : decode m_P_prepare.2.1 179 = .ok (.aload_n 0, 1) := by decide +kernel
theorem d_P_prepare_180 : decode m_P_prepare.2.1 180 = .ok (.getfield 13, 3) := by decide +kernel
theorem d_P_prepare_183 : decode m_P_prepare.2.1 183 = .ok (.iload_n 2, 1) := by decide +kernel
theorem d_P_prepare_184 : decode m_P_prepare.2.1 184 = .ok (.iaload, 1) := by decide +kernel
theorem d_P_prepare_185 : decode m_P_prepare.2.1 185 = .ok (.baload, 1) := by decide +kernel
theorem d_P_prepare_186 : decode m_P_prepare.2.1 186 = .ok (.ifCond .ne 12, 3) := by decide +kernel
theorem d_P_prepare_189 : decode m_P_prepare.2.1 189 = .ok (.aload_n 0, 1) := by decide +kernel
theorem d_P_prepare_190 : decode m_P_prepare.2.1 190 = .ok (.getfield 23, 3) := by decide +kernel
theorem d_P_prepare_193 : decode m_P_prepare.2.1 193 = .ok (.iload_n 2, 1) := by decide +kernel
theorem d_P_prepare_194 : decode m_P_prepare.2.1 194 = .ok (.baload, 1) := by decide +kernel
theorem d_P_prepare_195 : decode m_P_prepare.2.1 195 = .ok (.ifCond .eq 7, 3) := by decide +kernel
theorem d_P_prepare_198 : decode m_P_prepare.2.1 198 = .ok (.iconst 1, 1) := by decide +kernel
theorem d_P_prepare_199 : decode m_P_prepare.2.1 199 = .ok (.goto 4, 3) := by decide +kernel
theorem d_P_prepare_202 : decode m_P_prepare.2.1 202 = .ok (.iconst 0, 1) := by decide +kernel
theorem d_P_prepare_203 : decode m_P_prepare.2.1 203 = .ok (.bastore, 1) := by decide +kernel
theorem d_P_prepare_204 : decode m_P_prepare.2.1 204 = .ok (.iinc 2 1, 3) := by decide +kernel
theorem d_P_prepare_207 : decode m_P_prepare.2.1 207 = .ok (.goto (-162), 3) := by decide +kernel
theorem d_P_prepare_210 : decode m_P_prepare.2.1 210 = .ok (.goto (-173), 3) := by decide +kernel
theorem d_P_prepare_213 : decode m_P_prepare.2.1 213 = .ok (.iconst 1, 1) := by decide +kernel
theorem d_P_prepare_214 : decode m_P_prepare.2.1 214 = .ok (.istore_n 1, 1) := by decide +kernel
theorem d_P_prepare_215 : decode m_P_prepare.2.1 215 = .ok (.iload_n 1, 1) := by decide +kernel
theorem d_P_prepare_216 : decode m_P_prepare.2.1 216 = .ok (.ifCond .eq 165, 3) := by decide +kernel
theorem d_P_prepare_219 : decode m_P_prepare.2.1 219 = .ok (.iconst 0, 1) := by decide +kernel
theorem d_P_prepare_220 : decode m_P_prepare.2.1 220 = .ok (.istore_n 1, 1) := by decide +kernel
theorem d_P_prepare_221 : decode m_P_prepare.2.1 221 = .ok (.iconst 0, 1) := by decide +kernel
theorem d_P_prepare_222 : decode m_P_prepare.2.1 222 = .ok (.istore_n 2, 1) := by decide +kernel
theorem d_P_prepare_223 : decode m_P_prepare.2.1 223 = .ok (.iload_n 2, 1) := by decide +kernel
theorem d_P_prepare_224 : decode m_P_prepare.2.1 224 = .ok (.aload_n 0, 1) := by decide +kernel
theorem d_P_prepare_225 : decode m_P_prepare.2.1 225 = .ok (.getfield 90, 3) := by decide +kernel
theorem d_P_prepare_228 : decode m_P_prepare.2.1 228 = .ok (.if_icmp .ge 150, 3) := by decide +kernel
theorem d_P_prepare_231 : decode m_P_prepare.2.1 231 = .ok (.aload_n 0, 1) := by decide +kernel
theorem d_P_prepare_232 : decode m_P_prepare.2.1 232 = .ok (.getfield 23, 3) := by decide +kernel
theorem d_P_prepare_235 : decode m_P_prepare.2.1 235 = .ok (.iload_n 2, 1) := by decide +kernel
theorem d_P_prepare_236 : decode m_P_prepare.2.1 236 = .ok (.baload, 1) := by decide +kernel
theorem d_P_prepare_237 : decode m_P_prepare.2.1 237 = .ok (.ifCond .eq 13, 3) := by decide +kernel
theorem d_P_prepare_240 : decode m_P_prepare.2.1 240 = .ok (.aload_n 0, 1) := by decide +kernel
theorem d_P_prepare_241 : decode m_P_prepare.2.1 241 = .ok (.iload_n 2, 1) := by decide +kernel
theorem d_P_prepare_242 : decode m_P_prepare.2.1 242 = .ok (.iconst 0, 1) := by decide +kernel
theorem d_P_prepare_243 : decode m_P_prepare.2.1 243 = .ok (.iconst 0, 1) := by decide +kernel
theorem d_P_prepare_244 : decode m_P_prepare.2.1 244 = .ok (.invokevirtual 99, 3) := by decide +kernel
theorem d_P_prepare_247 : decode m_P_prepare.2.1 247 = .ok (.goto 4, 3) := by decide +kernel
theorem d_P_prepare_250 : decode m_P_prepare.2.1 250 = .ok (.iconst 0, 1) := by decide +kernel
theorem d_P_prepare_251 : decode m_P_prepare.2.1 251 = .ok (.istore_n 3, 1) := by decide +kernel
theorem d_P_prepare_252 : decode m_P_prepare.2.1 252 = .ok (.aload_n 0, 1) := by decide +kernel
theorem d_P_prepare_253 : decode m_P_prepare.2.1 253 = .ok (.getfield 23, 3) := by decide +kernel
theorem d_P_prepare_256 : decode m_P_prepare.2.1 256 = .ok (.iload_n 2, 1) := by decide +kernel
theorem d_P_prepare_257 : decode m_P_prepare.2.1 257 = .ok (.baload, 1) := by decide +kernel
theorem d_P_prepare_258 : decode m_P_prepare.2.1 258 = .ok (.ifCond .eq 16, 3) := by decide +kernel
theorem d_P_prepare_261 : decode m_P_prepare.2.1 261 = .ok (.aload_n 0, 1) := by decide +kernel
theorem d_P_prepare_262 : decode m_P_prepare.2.1 262 = .ok (.iload_n 2, 1) := by decide +kernel
theorem d_P_prepare_263 : decode m_P_prepare.2.1 263 = .ok (.iconst 0, 1) := by decide +kernel
theorem d_P_prepare_264 : decode m_P_prepare.2.1 264 = .ok (.invokevirtual 103, 3) := by decide +kernel
theorem d_P_prepare_267 : decode m_P_prepare.2.1 267 = .ok (.ifCond .eq 7, 3) := by decide +kernel
theorem d_P_prepare_270 : decode m_P_prepare.2.1 270 = .ok (.iconst 1, 1) := by decide +kernel
theorem d_P_prepare_271 : decode m_P_prepare.2.1 271 = .ok (.goto 4, 3) := by decide +kernel
theorem d_P_prepare_274 : decode m_P_prepare.2.1 274 = .ok (.iconst 0, 1) := by decide +kernel
theorem d_P_prepare_275 : decode m_P_prepare.2.1 275 = .ok (.istore 4, 2) := by decide +kernel
theorem d_P_prepare_277 : decode m_P_prepare.2.1 277 = .ok (.aload_n 0, 1) := by decide +kernel
theorem d_P_prepare_278 : decode m_P_prepare.2.1 278 = .ok (.getfield 13, 3) := by decide +kernel
theorem d_P_prepare_281 : decode m_P_prepare.2.1 281 = .ok (.iload_n 2, 1) := by decide +kernel
theorem d_P_prepare_282 : decode m_P_prepare.2.1 282 = .ok (.iaload, 1) := by decide +kernel
theorem d_P_prepare_283 : decode m_P_prepare.2.1 283 = .ok (.istore 5, 2) := by decide +kernel
theorem d_P_prepare_285 : decode m_P_prepare.2.1 285 = .ok (.iload_n 1, 1) := by decide +kernel
theorem d_P_prepare_286 : decode m_P_prepare.2.1 286 = .ok (.ifCond .ne 37, 3) := by decide +kernel
theorem d_P_prepare_289 : decode m_P_prepare.2.1 289 = .ok (.iload_n 3, 1) := by decide +kernel
theorem d_P_prepare_290 : decode m_P_prepare.2.1 290 = .ok (.aload_n 0, 1) := by decide +kernel
theorem d_P_prepare_291 : decode m_P_prepare.2.1 291 = .ok (.getfield 33, 3) := by decide +kernel
theorem d_P_prepare_294 : decode m_P_prepare.2.1 294 = .ok (.iload 5, 2) := by decide +kernel
theorem d_P_prepare_296 : decode m_P_prepare.2.1 296 = .ok (.iaload, 1) := by decide +kernel
theorem d_P_prepare_297 : decode m_P_prepare.2.1 297 = .ok (.ior, 1) := by decide +kernel
theorem d_P_prepare_298 : decode m_P_prepare.2.1 298 = .ok (.aload_n 0, 1) := by decide +kernel
theorem d_P_prepare_299 : decode m_P_prepare.2.1 299 = .ok (.getfield 33, 3) := by decide +kernel
theorem d_P_prepare_302 : decode m_P_prepare.2.1 302 = .ok (.iload 5, 2) := by decide +kernel
theorem d_P_prepare_304 : decode m_P_prepare.2.1 304 = .ok (.iaload, 1) := by decide +kernel
theorem d_P_prepare_305 : decode m_P_prepare.2.1 305 = .ok (.if_icmp .ne 18, 3) := by decide +kernel
theorem d_P_prepare_308 : decode m_P_prepare.2.1 308 = .ok (.iload 4, 2) := by decide +kernel
theorem d_P_prepare_310 : decode m_P_prepare.2.1 310 = .ok (.ifCond .eq 17, 3) := by decide +kernel
theorem d_P_prepare_313 : decode m_P_prepare.2.1 313 = .ok (.aload_n 0, 1) := by decide +kernel
theorem d_P_prepare_314 : decode m_P_prepare.2.1 314 = .ok (.getfield 30, 3) := by decide +kernel
theorem d_P_prepare_317 : decode m_P_prepare.2.1 317 = .ok (.iload 5, 2) := by decide +kernel
theorem d_P_prepare_319 : decode m_P_prepare.2.1 319 = .ok (.baload, 1) := by decide +kernel
theorem d_P_prepare_320 : decode m_P_prepare.2.1 320 = .ok (.ifCond .ne 7, 3) := by decide +kernel
theorem d_P_prepare_323 : decode m_P_prepare.2.1 323 = .ok (.iconst 1, 1) := by decide +kernel
theorem d_P_prepare_324 : decode m_P_prepare.2.1 324 = .ok (.goto 4, 3) := by decide +kernel
theorem d_P_prepare_327 : decode m_P_prepare.2.1 327 = .ok (.iconst 0, 1) := by decide +kernel
theorem d_P_prepare_328 : decode m_P_prepare.2.1 328 = .ok (.istore_n 1, 1) := by decide +kernel
theorem d_P_prepare_329 : decode m_P_prepare.2.1 329 = .ok (.aload_n 0, 1) := by decide +kernel
theorem d_P_prepare_330 : decode m_P_prepare.2.1 330 = .ok (.getfield 33, 3) := by decide +kernel
theorem d_P_prepare_333 : decode m_P_prepare.2.1 333 = .ok (.iload 5, 2) := by decide +kernel
theorem d_P_prepare_335 : decode m_P_prepare.2.1 335 = .ok (.aload_n 0, 1) := by decide +kernel
theorem d_P_prepare_336 : decode m_P_prepare.2.1 336 = .ok (.getfield 33, 3) := by decide +kernel
theorem d_P_prepare_339 : decode m_P_prepare.2.1 339 = .ok (.iload 5, 2) := by decide +kernel
theorem d_P_prepare_341 : decode m_P_prepare.2.1 341 = .ok (.iaload, 1) := by decide +kernel
theorem d_P_prepare_342 : decode m_P_prepare.2.1 342 = .ok (.iload_n 3, 1) := by decide +kernel
theorem d_P_prepare_343 : decode m_P_prepare.2.1 343 = .ok (.ior, 1) := by decide +kernel
theorem d_P_prepare_344 : decode m_P_prepare.2.1 344 = .ok (.iastore, 1) := by decide +kernel
theorem d_P_prepare_345 : decode m_P_prepare.2.1 345 = .ok (.aload_n 0, 1) := by decide +kernel
theorem d_P_prepare_346 : decode m_P_prepare.2.1 346 = .ok (.getfield 30, 3) := by decide +kernel
theorem d_P_prepare_349 : decode m_P_prepare.2.1 349 = .ok (.iload 5, 2) := by decide +kernel
theorem d_P_prepare_351 : decode m_P_prepare.2.1 351 = .ok (.aload_n 0, 1) := by decide +kernel
theorem d_P_prepare_352 : decode m_P_prepare.2.1 352 = .ok (.getfield 30, 3) := by decide +kernel
theorem d_P_prepare_355 : decode m_P_prepare.2.1 355 = .ok (.iload 5, 2) := by decide +kernel
theorem d_P_prepare_357 : decode m_P_prepare.2.1 357 = .ok (.baload, 1) := by decide +kernel
theorem d_P_prepare_358 : decode m_P_prepare.2.1 358 = .ok (.ifCond .ne 8, 3) := by decide +kernel
theorem d_P_prepare_361 : decode m_P_prepare.2.1 361 = .ok (.iload 4, 2) := by decide +kernel
theorem d_P_prepare_363 : decode m_P_prepare.2.1 363 = .ok (.ifCond .eq 7, 3) := by decide +kernel
theorem d_P_prepare_366 : decode m_P_prepare.2.1 366 = .ok (.iconst 1, 1) := by decide +kernel
theorem d_P_prepare_367 : decode m_P_prepare.2.1 367 = .ok (.goto 4, 3) := by decide +kernel
theorem d_P_prepare_370 : decode m_P_prepare.2.1 370 = .ok (.iconst 0, 1) := by decide +kernel
theorem d_P_prepare_371 : decode m_P_prepare.2.1 371 = .ok (.bastore, 1) := by decide +kernel
theorem d_P_prepare_372 : decode m_P_prepare.2.1 372 = .ok (.iinc 2 1, 3) := by decide +kernel
theorem d_P_prepare_375 : decode m_P_prepare.2.1 375 = .ok (.goto (-152), 3) := by decide +kernel
theorem d_P_prepare_378 : decode m_P_prepare.2.1 378 = .ok (.goto (-163), 3) := by decide +kernel
theorem d_P_prepare_381 : decode m_P_prepare.2.1 381 = .ok (.return_, 1) := by decide +kernel
theorem d_P_begins_0 : decode m_P_begins.2.1 0 = .ok (.iconst 0, 1) := by decide +kernel
theorem d_P_begins_1 : decode m_P_begins.2.1 1 = .ok (.istore 4, 2) := by decide +kernel
theorem d_P_begins_3 : decode m_P_begins.2.1 3 = .ok (.iconst 4, 1) := by decide +kernel
theorem d_P_begins_4 : decode m_P_begins.2.1 4 = .ok (.iload_n 1, 1) := by decide +kernel
theorem d_P_begins_5 : decode m_P_begins.2.1 5 = .ok (.imul, 1) := by decide +kernel
theorem d_P_begins_6 : decode m_P_begins.2.1 6 = .ok (.iload_n 2, 1) := by decide +kernel
theorem d_P_begins_7 : decode m_P_begins.2.1 7 = .ok (.iadd, 1) := by decide +kernel
theorem d_P_begins_8 : decode m_P_begins.2.1 8 = .ok (.istore 5, 2) := by decide +kernel
theorem d_P_begins_10 : decode m_P_begins.2.1 10 = .ok (.iload 5, 2) := by decide +kernel
theorem d_P_begins_12 : decode m_P_begins.2.1 12 = .ok (.iconst 4, 1) := by decide +kernel
theorem d_P_begins_13 : decode m_P_begins.2.1 13 = .ok (.iload_n 1, 1) := by decide +kernel
theorem d_P_begins_14 : decode m_P_begins.2.1 14 = .ok (.imul, 1) := by decide +kernel
theorem d_P_begins_15 : decode m_P_begins.2.1 15 = .ok (.aload_n 0, 1) := by decide +kernel
theorem d_P_begins_16 : decode m_P_begins.2.1 16 = .ok (.getfield 17, 3) := by decide +kernel
theorem d_P_begins_19 : decode m_P_begins.2.1 19 = .ok (.iload_n 1, 1) := by decide +kernel
theorem d_P_begins_20 : decode m_P_begins.2.1 20 = .ok (.iaload, 1) := by decide +kernel
theorem d_P_begins_21 : decode m_P_begins.2.1 21 = .ok (.iadd, 1) := by decide +kernel
theorem d_P_begins_22 : decode m_P_begins.2.1 22 = .ok (.if_icmp .ge 70, 3) := by decide +kernel
theorem d_P_begins_25 : decode m_P_begins.2.1 25 = .ok (.aload_n 0, 1) := by decide +kernel
theorem d_P_begins_26 : decode m_P_begins.2.1 26 = .ok (.getfield 20, 3) := by decide +kernel
theorem d_P_begins_29 : decode m_P_begins.2.1 29 = .ok (.iload 5, 2) := by decide +kernel
theorem d_P_begins_31 : decode m_P_begins.2.1 31 = .ok (.iaload, 1) := by decide +kernel
theorem d_P_begins_32 : decode m_P_begins.2.1 32 = .ok (.istore 6, 2) := by decide +kernel
theorem d_P_begins_34 : decode m_P_begins.2.1 34 = .ok (.iload 4, 2) := by decide +kernel
theorem d_P_begins_36 : decode m_P_begins.2.1 36 = .ok (.iload 6, 2) := by decide +kernel
theorem d_P_begins_38 : decode m_P_begins.2.1 38 = .ok (.bipush 6, 2) := by decide +kernel
theorem d_P_begins_40 : decode m_P_begins.2.1 40 = .ok (.if_icmp .ge 10, 3) := by decide +kernel
theorem d_P_begins_43 : decode m_P_begins.2.1 43 = .ok (.iconst 1, 1) := by decide +kernel
theorem d_P_begins_44 : decode m_P_begins.2.1 44 = .ok (.iload 6, 2) := by decide +kernel
theorem d_P_begins_46 : decode m_P_begins.2.1 46 = .ok (.ishl, 1) := by decide +kernel
theorem d_P_begins_47 : decode m_P_begins.2.1 47 = .ok (.goto 13, 3) := by decide +kernel
theorem d_P_begins_50 : decode m_P_begins.2.1 50 = .ok (.aload_n 0, 1) := by decide +kernel
theorem d_P_begins_51 : decode m_P_begins.2.1 51 = .ok (.getfield 33, 3) := by decide +kernel
theorem d_P_begins_54 : decode m_P_begins.2.1 54 = .ok (.iload 6, 2) := by decide +kernel
theorem d_P_begins_56 : decode m_P_begins.2.1 56 = .ok (.bipush 6, 2) := by decide +kernel
theorem d_P_begins_58 : decode m_P_begins.2.1 58 = .ok (.isub, 1) := by decide +kernel
theorem d_P_begins_59 : decode m_P_begins.2.1 59 = .ok (.iaload, 1) := by decide +kernel
theorem d_P_begins_60 : decode m_P_begins.2.1 60 = .ok (.ior, 1) := by decide +kernel
theorem d_P_begins_61 : decode m_P_begins.2.1 61 = .ok (.istore 4, 2) := by decide +kernel
theorem d_P_begins_63 : decode m_P_begins.2.1 63 = .ok (.iload 6, 2) := by decide +kernel
theorem d_P_begins_65 : decode m_P_begins.2.1 65 = .ok (.bipush 6, 2) := by decide +kernel
theorem d_P_begins_67 : decode m_P_begins.2.1 67 = .ok (.if_icmp .lt 16, 3) := by decide +kernel
theorem d_P_begins_70 : decode m_P_begins.2.1 70 = .ok (.aload_n 0, 1) := by decide +kernel
theorem d_P_begins_71 : decode m_P_begins.2.1 71 = .ok (.getfield 30, 3) := by decide +kernel
theorem d_P_begins_74 : decode m_P_begins.2.1 74 = .ok (.iload 6, 2) := by decide +kernel
theorem d_P_begins_76 : decode m_P_begins.2.1 76 = .ok (.bipush 6, 2) := by decide +kernel
theorem d_P_begins_78 : decode m_P_begins.2.1 78 = .ok (.isub, 1) := by decide +kernel
theorem d_P_begins_79 : decode m_P_begins.2.1 79 = .ok (.baload, 1) := by decide +kernel
theorem d_P_begins_80 : decode m_P_begins.2.1 80 = .ok (.ifCond .ne 6, 3) := by decide +kernel
theorem d_P_begins_83 : decode m_P_begins.2.1 83 = .ok (.iload 4, 2) := by decide +kernel
theorem d_P_begins_85 : decode m_P_begins.2.1 85 = .ok (.ireturn, 1) := by decide +kernel
theorem d_P_begins_86 : decode m_P_begins.2.1 86 = .ok (.iinc 5 1, 3) := by decide +kernel
theorem d_P_begins_89 : decode m_P_begins.2.1 89 = .ok (.goto (-79), 3) := by decide +kernel
theorem d_P_begins_92 : decode m_P_begins.2.1 92 = .ok (.iload 4, 2) := by decide +kernel
theorem d_P_begins_94 : decode m_P_begins.2.1 94 = .ok (.iload_n 3, 1) := by decide +kernel
theorem d_P_begins_95 : decode m_P_begins.2.1 95 = .ok (.ior, 1) := by decide +kernel
theorem d_P_begins_96 : decode m_P_begins.2.1 96 = .ok (.ireturn, 1) := by decide +kernel
theorem d_P_isEmpty_0 : decode m_P_isEmpty.2.1 0 = .ok (.iconst 1, 1) := by decide +kernel
theorem d_P_isEmpty_1 : decode m_P_isEmpty.2.1 1 = .ok (.istore_n 3, 1) := by decide +kernel
theorem d_P_isEmpty_2 : decode m_P_isEmpty.2.1 2 = .ok (.iconst 4, 1) := by decide +kernel
theorem d_P_isEmpty_3 : decode m_P_isEmpty.2.1 3 = .ok (.iload_n 1, 1) := by decide +kernel
theorem d_P_isEmpty_4 : decode m_P_isEmpty.2.1 4 = .ok (.imul, 1) := by decide +kernel
theorem d_P_isEmpty_5 : decode m_P_isEmpty.2.1 5 = .ok (.iload_n 2, 1) := by decide +kernel
theorem d_P_isEmpty_6 : decode m_P_isEmpty.2.1 6 = .ok (.iadd, 1) := by decide +kernel
theorem d_P_isEmpty_7 : decode m_P_isEmpty.2.1 7 = .ok (.istore 4, 2) := by decide +kernel
theorem d_P_isEmpty_9 : decode m_P_isEmpty.2.1 9 = .ok (.iload 4, 2) := by decide +kernel
theorem d_P_isEmpty_11 : decode m_P_isEmpty.2.1 11 = .ok (.iconst 4, 1) := by decide +kernel
theorem d_P_isEmpty_12 : decode m_P_isEmpty.2.1 12 = .ok (.iload_n 1, 1) := by decide +kernel
theorem d_P_isEmpty_13 : decode m_P_isEmpty.2.1 13 = .ok (.imul, 1) := by decide +kernel
theorem d_P_isEmpty_14 : decode m_P_isEmpty.2.1 14 = .ok (.aload_n 0, 1) := by decide +kernel
theorem d_P_isEmpty_15 : decode m_P_isEmpty.2.1 15 = .ok (.getfield 17, 3) := by decide +kernel
theorem d_P_isEmpty_18 : decode m_P_isEmpty.2.1 18 = .ok (.iload_n 1, 1) := by decide +kernel
theorem d_P_isEmpty_19 : decode m_P_isEmpty.2.1 19 = .ok (.iaload, 1) := by decide +kernel
theorem d_P_isEmpty_20 : decode m_P_isEmpty.2.1 20 = .ok (.iadd, 1) := by decide +kernel
theorem d_P_isEmpty_21 : decode m_P_isEmpty.2.1 21 = .ok (.if_icmp .ge 49, 3) := by decide +kernel
theorem d_P_isEmpty_24 : decode m_P_isEmpty.2.1 24 = .ok (.iload_n 3, 1) := by decide +kernel
theorem d_P_isEmpty_25 : decode m_P_isEmpty.2.1 25 = .ok (.ifCond .eq 37, 3) := by decide +kernel
theorem d_P_isEmpty_28 : decode m_P_isEmpty.2.1 28 = .ok (.aload_n 0, 1) := by decide +kernel
theorem d_P_isEmpty_29 : decode m_P_isEmpty.2.1 29 = .ok (.getfield 20, 3) := by decide +kernel
theorem d_P_isEmpty_32 : decode m_P_isEmpty.2.1 32 = .ok (.iload 4, 2) := by decide +kernel
theorem d_P_isEmpty_34 : decode m_P_isEmpty.2.1 34 = .ok (.iaload, 1) := by decide +kernel
theorem d_P_isEmpty_35 : decode m_P_isEmpty.2.1 35 = .ok (.bipush 6, 2) := by decide +kernel
theorem d_P_isEmpty_37 : decode m_P_isEmpty.2.1 37 = .ok (.if_icmp .lt 25, 3) := by decide +kernel
theorem d_P_isEmpty_40 : decode m_P_isEmpty.2.1 40 = .ok (.aload_n 0, 1) := by decide +kernel
theorem d_P_isEmpty_41 : decode m_P_isEmpty.2.1 41 = .ok (.getfield 30, 3) := by decide +kernel
theorem d_P_isEmpty_44 : decode m_P_isEmpty.2.1 44 = .ok (.aload_n 0, 1) := by decide +kernel
theorem d_P_isEmpty_45 : decode m_P_isEmpty.2.1 45 = .ok (.getfield 20, 3) := by decide +kernel
theorem d_P_isEmpty_48 : decode m_P_isEmpty.2.1 48 = .ok (.iload 4, 2) := by decide +kernel
theorem d_P_isEmpty_50 : decode m_P_isEmpty.2.1 50 = .ok (.iaload, 1) := by decide +kernel
theorem d_P_isEmpty_51 : decode m_P_isEmpty.2.1 51 = .ok (.bipush 6, 2) := by decide +kernel
theorem d_P_isEmpty_53 : decode m_P_isEmpty.2.1 53 = .ok (.isub, 1) := by decide +kernel
theorem d_P_isEmpty_54 : decode m_P_isEmpty.2.1 54 = .ok (.baload, 1) := by decide +kernel
theorem d_P_isEmpty_55 : decode m_P_isEmpty.2.1 55 = .ok (.ifCond .eq 7, 3) := by decide +kernel
theorem d_P_isEmpty_58 : decode m_P_isEmpty.2.1 58 = .ok (.iconst 1, 1) := by decide +kernel
theorem d_P_isEmpty_59 : decode m_P_isEmpty.2.1 59 = .ok (.goto 4, 3) := by decide +kernel
theorem d_P_isEmpty_62 : decode m_P_isEmpty.2.1 62 = .ok (.iconst 0, 1) := by decide +kernel
theorem d_P_isEmpty_63 : decode m_P_isEmpty.2.1 63 = .ok (.istore_n 3, 1) := by decide +kernel
theorem d_P_isEmpty_64 : decode m_P_isEmpty.2.1 64 = .ok (.iinc 4 1, 3) := by decide +kernel
theorem d_P_isEmpty_67 : decode m_P_isEmpty.2.1 67 = .ok (.goto (-58), 3) := by decide +kernel
theorem d_P_isEmpty_70 : decode m_P_isEmpty.2.1 70 = .ok (.iload_n 3, 1) := by decide +kernel
theorem d_P_isEmpty_71 : decode m_P_isEmpty.2.1 71 = .ok (.ireturn, 1) := by decide +kernel
theorem d_P_close_0 : decode m_P_close.2.1 0 = .ok (.iconst 1, 1) := by decide +kernel
theorem d_P_close_1 : decode m_P_close.2.1 1 = .ok (.istore_n 2, 1) := by decide +kernel
theorem d_P_close_2 : decode m_P_close.2.1 2 = .ok (.iload_n 2, 1) := by decide +kernel
theorem d_P_close_3 : decode m_P_close.2.1 3 = .ok (.ifCond .eq 114, 3) := by decide +kernel
theorem d_P_close_6 : decode m_P_close.2.1 6 = .ok (.iconst 0, 1) := by decide +kernel
theorem d_P_close_7 : decode m_P_close.2.1 7 = .ok (.istore_n 2, 1) := by decide +kernel
theorem d_P_close_8 : decode m_P_close.2.1 8 = .ok (.iconst 0, 1) := by decide +kernel
theorem d_P_close_9 : decode m_P_close.2.1 9 = .ok (.istore_n 3, 1) := by decide +kernel
theorem d_P_close_10 : decode m_P_close.2.1 10 = .ok (.iload_n 3, 1) := by decide +kernel
theorem d_P_close_11 : decode m_P_close.2.1 11 = .ok (.bipush 11, 2) := by decide +kernel
theorem d_P_close_13 : decode m_P_close.2.1 13 = .ok (.if_icmp .ge 101, 3) := by decide +kernel
theorem d_P_close_16 : decode m_P_close.2.1 16 = .ok (.iconst 0, 1) := by decide +kernel
theorem d_P_close_17 : decode m_P_close.2.1 17 = .ok (.istore 4, 2) := by decide +kernel
theorem d_P_close_19 : decode m_P_close.2.1 19 = .ok (.iload 4, 2) := by decide +kernel
theorem d_P_close_21 : decode m_P_close.2.1 21 = .ok (.iconst 5, 1) := by decide +kernel
theorem d_P_close_22 : decode m_P_close.2.1 22 = .ok (.if_icmp .ge 86, 3) := by decide +kernel
theorem d_P_close_25 : decode m_P_close.2.1 25 = .ok (.aload_n 0, 1) := by decide +kernel
theorem d_P_close_26 : decode m_P_close.2.1 26 = .ok (.getfield 36, 3) := by decide +kernel
theorem d_P_close_29 : decode m_P_close.2.1 29 = .ok (.bipush 55, 2) := by decide +kernel
theorem d_P_close_31 : decode m_P_close.2.1 31 = .ok (.iload_n 1, 1) := by decide +kernel
theorem d_P_close_32 : decode m_P_close.2.1 32 = .ok (.imul, 1) := by decide +kernel
theorem d_P_close_33 : decode m_P_close.2.1 33 = .ok (.iconst 5, 1) := by decide +kernel
theorem d_P_close_34 : decode m_P_close.2.1 34 = .ok (.iload_n 3, 1) := by decide +kernel
theorem d_P_close_35 : decode m_P_close.2.1 35 = .ok (.imul, 1) := by decide +kernel
theorem d_P_close_36 : decode m_P_close.2.1 36 = .ok (.iadd, 1) := by decide +kernel
theorem d_P_close_37 : decode m_P_close.2.1 37 = .ok (.iload 4, 2) := by decide +kernel
theorem d_P_close_39 : decode m_P_close.2.1 39 = .ok (.iadd, 1) := by decide +kernel
theorem d_P_close_40 : decode m_P_close.2.1 40 = .ok (.iaload, 1) := by decide +kernel
theorem d_P_close_41 : decode m_P_close.2.1 41 = .ok (.istore 5, 2) := by decide +kernel
theorem d_P_close_43 : decode m_P_close.2.1 43 = .ok (.iload 5, 2) := by decide +kernel
theorem d_P_close_45 : decode m_P_close.2.1 45 = .ok (.ifCond .eq 13, 3) := by decide +kernel
theorem d_P_close_48 : decode m_P_close.2.1 48 = .ok (.aload_n 0, 1) := by decide +kernel
theorem d_P_close_49 : decode m_P_close.2.1 49 = .ok (.iload_n 3, 1) := by decide +kernel
theorem d_P_close_50 : decode m_P_close.2.1 50 = .ok (.iload 4, 2) := by decide +kernel
theorem d_P_close_52 : decode m_P_close.2.1 52 = .ok (.invokevirtual 107, 3) := by decide +kernel
theorem d_P_close_55 : decode m_P_close.2.1 55 = .ok (.goto 4, 3) := by decide +kernel
theorem d_P_close_58 : decode m_P_close.2.1 58 = .ok (.iconst (-1), 1) := by decide +kernel
theorem d_P_close_59 : decode m_P_close.2.1 59 = .ok (.istore 6, 2) := by decide +kernel
theorem d_P_close_61 : decode m_P_close.2.1 61 = .ok (.iload 6, 2) := by decide +kernel
theorem d_P_close_63 : decode m_P_close.2.1 63 = .ok (.bipush 6, 2) := by decide +kernel
theorem d_P_close_65 : decode m_P_close.2.1 65 = .ok (.if_icmp .lt 37, 3) := by decide +kernel
theorem d_P_close_68 : decode m_P_close.2.1 68 = .ok (.aload_n 0, 1) := by decide +kernel
theorem d_P_close_69 : decode m_P_close.2.1 69 = .ok (.iload_n 1, 1) := by decide +kernel
theorem d_P_close_70 : decode m_P_close.2.1 70 = .ok (.iload 6, 2) := by decide +kernel
theorem d_P_close_72 : decode m_P_close.2.1 72 = .ok (.bipush 6, 2) := by decide +kernel
theorem d_P_close_74 : decode m_P_close.2.1 74 = .ok (.isub, 1) := by decide +kernel
theorem d_P_close_75 : decode m_P_close.2.1 75 = .ok (.aload_n 0, 1) := by decide +kernel
theorem d_P_close_76 : decode m_P_close.2.1 76 = .ok (.iload_n 3, 1) := by decide +kernel
theorem d_P_close_77 : decode m_P_close.2.1 77 = .ok (.iload 4, 2) := by decide +kernel
theorem d_P_close_79 : decode m_P_close.2.1 79 = .ok (.iconst 1, 1) := by decide +kernel
theorem d_P_close_80 : decode m_P_close.2.1 80 = .ok (.iadd, 1) := by decide +kernel
theorem d_P_close_81 : decode m_P_close.2.1 81 = .ok (.iload 5, 2) := by decide +kernel
theorem d_P_close_83 : decode m_P_close.2.1 83 = .ok (.invokevirtual 99, 3) := by decide +kernel
theorem d_P_close_86 : decode m_P_close.2.1 86 = .ok (.invokevirtual 111, 3) := by decide +kernel
theorem d_P_close_89 : decode m_P_close.2.1 89 = .ok (.ifCond .ne 7, 3) := by decide +kernel
theorem d_P_close_92 : decode m_P_close.2.1 92 = .ok (.iload_n 2, 1) := by decide +kernel
theorem d_P_close_93 : decode m_P_close.2.1 93 = .ok (.ifCond .eq 7, 3) := by decide +kernel
theorem d_P_close_96 : decode m_P_close.2.1 96 = .ok (.iconst 1, 1) := by decide +kernel
theorem d_P_close_97 : decode m_P_close.2.1 97 = .ok (.goto 4, 3) := by decide +kernel
theorem d_P_close_100 : decode m_P_close.2.1 100 = .ok (.iconst 0, 1) := by decide +kernel
theorem d_P_close_101 : decode m_P_close.2.1 101 = .ok (.istore_n 2, 1) := by decide +kernel
theorem d_P_close_102 : decode m_P_close.2.1 102 = .ok (.iinc 4 1, 3) := by decide +kernel
theorem d_P_close_105 : decode m_P_close.2.1 105 = .ok (.goto (-86), 3) := by decide +kernel
theorem d_P_close_108 : decode m_P_close.2.1 108 = .ok (.iinc 3 1, 3) := by decide +kernel
theorem d_P_close_111 : decode m_P_close.2.1 111 = .ok (.goto (-101), 3) := by decide +kernel
theorem d_P_close_114 : decode m_P_close.2.1 114 = .ok (.goto (-112), 3) := by decide +kernel
theorem d_P_close_117 : decode m_P_close.2.1 117 = .ok (.return_, 1) := by decide +kernel
theorem d_P_symbol_0 : decode m_P_symbol.2.1 0 = .ok (.iload_n 2, 1) := by decide +kernel
theorem d_P_symbol_1 : decode m_P_symbol.2.1 1 = .ok (.aload_n 0, 1) := by decide +kernel
theorem d_P_symbol_2 : decode m_P_symbol.2.1 2 = .ok (.getfield 17, 3) := by decide +kernel
theorem d_P_symbol_5 : decode m_P_symbol.2.1 5 = .ok (.iload_n 1, 1) := by decide +kernel
theorem d_P_symbol_6 : decode m_P_symbol.2.1 6 = .ok (.iaload, 1) := by decide +kernel
theorem d_P_symbol_7 : decode m_P_symbol.2.1 7 = .ok (.if_icmp .ge 16, 3) := by decide +kernel
theorem d_P_symbol_10 : decode m_P_symbol.2.1 10 = .ok (.aload_n 0, 1) := by decide +kernel
theorem d_P_symbol_11 : decode m_P_symbol.2.1 11 = .ok (.getfield 20, 3) := by decide +kernel
theorem d_P_symbol_14 : decode m_P_symbol.2.1 14 = .ok (.iconst 4, 1) := by decide +kernel
theorem d_P_symbol_15 : decode m_P_symbol.2.1 15 = .ok (.iload_n 1, 1) := by decide +kernel
theorem d_P_symbol_16 : decode m_P_symbol.2.1 16 = .ok (.imul, 1) := by decide +kernel
theorem d_P_symbol_17 : decode m_P_symbol.2.1 17 = .ok (.iload_n 2, 1) := by decide +kernel
theorem d_P_symbol_18 : decode m_P_symbol.2.1 18 = .ok (.iadd, 1) := by decide +kernel
theorem d_P_symbol_19 : decode m_P_symbol.2.1 19 = .ok (.iaload, 1) := by decide +kernel
theorem d_P_symbol_20 : decode m_P_symbol.2.1 20 = .ok (.goto 4, 3) := by decide +kernel
theorem d_P_symbol_23 : decode m_P_symbol.2.1 23 = .ok (.iconst (-1), 1) := by decide +kernel
theorem d_P_symbol_24 : decode m_P_symbol.2.1 24 = .ok (.ireturn, 1) := by decide +kernel
theorem d_P_spread_0 : decode m_P_spread.2.1 0 = .ok (.iconst 0, 1) := by decide +kernel
theorem d_P_spread_1 : decode m_P_spread.2.1 1 = .ok (.istore 4, 2) := by decide +kernel
theorem d_P_spread_3 : decode m_P_spread.2.1 3 = .ok (.iconst 0, 1) := by decide +kernel
theorem d_P_spread_4 : decode m_P_spread.2.1 4 = .ok (.istore 5, 2) := by decide +kernel
theorem d_P_spread_6 : decode m_P_spread.2.1 6 = .ok (.iload 5, 2) := by decide +kernel
theorem d_P_spread_8 : decode m_P_spread.2.1 8 = .ok (.aload_n 0, 1) := by decide +kernel
theorem d_P_spread_9 : decode m_P_spread.2.1 9 = .ok (.getfield 90, 3) := by decide +kernel
theorem d_P_spread_12 : decode m_P_spread.2.1 12 = .ok (.if_icmp .ge 88, 3) := by decide +kernel
theorem d_P_spread_15 : decode m_P_spread.2.1 15 = .ok (.bipush 55, 2) := by decide +kernel
theorem d_P_spread_17 : decode m_P_spread.2.1 17 = .ok (.iload_n 1, 1) := by decide +kernel
theorem d_P_spread_18 : decode m_P_spread.2.1 18 = .ok (.imul, 1) := by decide +kernel
theorem d_P_spread_19 : decode m_P_spread.2.1 19 = .ok (.iconst 5, 1) := by decide +kernel
theorem d_P_spread_20 : decode m_P_spread.2.1 20 = .ok (.iload 5, 2) := by decide +kernel
theorem d_P_spread_22 : decode m_P_spread.2.1 22 = .ok (.imul, 1) := by decide +kernel
theorem d_P_spread_23 : decode m_P_spread.2.1 23 = .ok (.iadd, 1) := by decide +kernel
theorem d_P_spread_24 : decode m_P_spread.2.1 24 = .ok (.istore 6, 2) := by decide +kernel
theorem d_P_spread_26 : decode m_P_spread.2.1 26 = .ok (.aload_n 0, 1) := by decide +kernel
theorem d_P_spread_27 : decode m_P_spread.2.1 27 = .ok (.getfield 23, 3) := by decide +kernel
theorem d_P_spread_30 : decode m_P_spread.2.1 30 = .ok (.iload 5, 2) := by decide +kernel
theorem d_P_spread_32 : decode m_P_spread.2.1 32 = .ok (.baload, 1) := by decide +kernel
theorem d_P_spread_33 : decode m_P_spread.2.1 33 = .ok (.ifCond .eq 61, 3) := by decide +kernel
theorem d_P_spread_36 : decode m_P_spread.2.1 36 = .ok (.aload_n 0, 1) := by decide +kernel
theorem d_P_spread_37 : decode m_P_spread.2.1 37 = .ok (.getfield 13, 3) := by decide +kernel
theorem d_P_spread_40 : decode m_P_spread.2.1 40 = .ok (.iload 5, 2) := by decide +kernel
theorem d_P_spread_42 : decode m_P_spread.2.1 42 = .ok (.iaload, 1) := by decide +kernel
theorem d_P_spread_43 : decode m_P_spread.2.1 43 = .ok (.iload_n 2, 1) := by decide +kernel
theorem d_P_spread_44 : decode m_P_spread.2.1 44 = .ok (.if_icmp .ne 50, 3) := by decide +kernel
theorem d_P_spread_47 : decode m_P_spread.2.1 47 = .ok (.iload 4, 2) := by decide +kernel
theorem d_P_spread_49 : decode m_P_spread.2.1 49 = .ok (.ifCond .ne 22, 3) := by decide +kernel
theorem d_P_spread_52 : decode m_P_spread.2.1 52 = .ok (.aload_n 0, 1) := by decide +kernel
theorem d_P_spread_53 : decode m_P_spread.2.1 53 = .ok (.getfield 36, 3) := by decide +kernel
theorem d_P_spread_56 : decode m_P_spread.2.1 56 = .ok (.iload 6, 2) := by decide +kernel
theorem d_P_spread_58 : decode m_P_spread.2.1 58 = .ok (.iaload, 1) := by decide +kernel
theorem d_P_spread_59 : decode m_P_spread.2.1 59 = .ok (.iload_n 3, 1) := by decide +kernel
theorem d_P_spread_60 : decode m_P_spread.2.1 60 = .ok (.ior, 1) := by decide +kernel
theorem d_P_spread_61 : decode m_P_spread.2.1 61 = .ok (.aload_n 0, 1) := by decide +kernel
theorem d_P_spread_62 : decode m_P_spread.2.1 62 = .ok (.getfield 36, 3) := by decide +kernel
theorem d_P_spread_65 : decode m_P_spread.2.1 65 = .ok (.iload 6, 2) := by decide +kernel
theorem d_P_spread_67 : decode m_P_spread.2.1 67 = .ok (.iaload, 1) := by decide +kernel
theorem d_P_spread_68 : decode m_P_spread.2.1 68 = .ok (.if_icmp .eq 7, 3) := by decide +kernel
theorem d_P_spread_71 : decode m_P_spread.2.1 71 = .ok (.iconst 1, 1) := by decide +kernel
theorem d_P_spread_72 : decode m_P_spread.2.1 72 = .ok (.goto 4, 3) := by decide +kernel
theorem d_P_spread_75 : decode m_P_spread.2.1 75 = .ok (.iconst 0, 1) := by decide +kernel
theorem d_P_spread_76 : decode m_P_spread.2.1 76 = .ok (.istore 4, 2) := by decide +kernel
theorem d_P_spread_78 : decode m_P_spread.2.1 78 = .ok (.aload_n 0, 1) := by decide +kernel
theorem d_P_spread_79 : decode m_P_spread.2.1 79 = .ok (.getfield 36, 3) := by decide +kernel
theorem d_P_spread_82 : decode m_P_spread.2.1 82 = .ok (.iload 6, 2) := by decide +kernel
theorem d_P_spread_84 : decode m_P_spread.2.1 84 = .ok (.aload_n 0, 1) := by decide +kernel
theorem d_P_spread_85 : decode m_P_spread.2.1 85 = .ok (.getfield 36, 3) := by decide +kernel
theorem d_P_spread_88 : decode m_P_spread.2.1 88 = .ok (.iload 6, 2) := by decide +kernel
theorem d_P_spread_90 : decode m_P_spread.2.1 90 = .ok (.iaload, 1) := by decide +kernel
theorem d_P_spread_91 : decode m_P_spread.2.1 91 = .ok (.iload_n 3, 1) := by decide +kernel
theorem d_P_spread_92 : decode m_P_spread.2.1 92 = .ok (.ior, 1) := by decide +kernel
theorem d_P_spread_93 : decode m_P_spread.2.1 93 = .ok (.iastore, 1) := by decide +kernel
theorem d_P_spread_94 : decode m_P_spread.2.1 94 = .ok (.iinc 5 1, 3) := by decide +kernel
theorem d_P_spread_97 : decode m_P_spread.2.1 97 = .ok (.goto (-91), 3) := by decide +kernel
theorem d_P_spread_100 : decode m_P_spread.2.1 100 = .ok (.iload 4, 2) := by decide +kernel
theorem d_P_spread_102 : decode m_P_spread.2.1 102 = .ok (.ireturn, 1) := by decide +kernel
theorem d_P_led_0 : decode m_P_led.2.1 0 = .ok (.iconst 0, 1) := by decide +kernel
theorem d_P_led_1 : decode m_P_led.2.1 1 = .ok (.istore_n 3, 1) := by decide +kernel
theorem d_P_led_2 : decode m_P_led.2.1 2 = .ok (.iconst 0, 1) := by decide +kernel
theorem d_P_led_3 : decode m_P_led.2.1 3 = .ok (.istore 4, 2) := by decide +kernel
theorem d_P_led_5 : decode m_P_led.2.1 5 = .ok (.iload 4, 2) := by decide +kernel
theorem d_P_led_7 : decode m_P_led.2.1 7 = .ok (.bipush 55, 2) := by decide +kernel
theorem d_P_led_9 : decode m_P_led.2.1 9 = .ok (.if_icmp .ge 25, 3) := by decide +kernel
theorem d_P_led_12 : decode m_P_led.2.1 12 = .ok (.aload_n 0, 1) := by decide +kernel
theorem d_P_led_13 : decode m_P_led.2.1 13 = .ok (.getfield 36, 3) := by decide +kernel
theorem d_P_led_16 : decode m_P_led.2.1 16 = .ok (.bipush 55, 2) := by decide +kernel
theorem d_P_led_18 : decode m_P_led.2.1 18 = .ok (.aload_n 0, 1) := by decide +kernel
theorem d_P_led_19 : decode m_P_led.2.1 19 = .ok (.getfield 115, 3) := by decide +kernel
theorem d_P_led_22 : decode m_P_led.2.1 22 = .ok (.imul, 1) := by decide +kernel
theorem d_P_led_23 : decode m_P_led.2.1 23 = .ok (.iload 4, 2) := by decide +kernel
theorem d_P_led_25 : decode m_P_led.2.1 25 = .ok (.iadd, 1) := by decide +kernel
theorem d_P_led_26 : decode m_P_led.2.1 26 = .ok (.iconst 0, 1) := by decide +kernel
theorem d_P_led_27 : decode m_P_led.2.1 27 = .ok (.iastore, 1) := by decide +kernel
theorem d_P_led_28 : decode m_P_led.2.1 28 = .ok (.iinc 4 1, 3) := by decide +kernel
theorem d_P_led_31 : decode m_P_led.2.1 31 = .ok (.goto (-26), 3) := by decide +kernel
theorem d_P_led_34 : decode m_P_led.2.1 34 = .ok (.iconst 0, 1) := by decide +kernel
theorem d_P_led_35 : decode m_P_led.2.1 35 = .ok (.istore 4, 2) := by decide +kernel
theorem d_P_led_37 : decode m_P_led.2.1 37 = .ok (.iload 4, 2) := by decide +kernel
theorem d_P_led_39 : decode m_P_led.2.1 39 = .ok (.bipush 11, 2) := by decide +kernel
theorem d_P_led_41 : decode m_P_led.2.1 41 = .ok (.if_icmp .ge 86, 3) := by decide +kernel
theorem d_P_led_44 : decode m_P_led.2.1 44 = .ok (.iconst 0, 1) := by decide +kernel
theorem d_P_led_45 : decode m_P_led.2.1 45 = .ok (.istore 5, 2) := by decide +kernel
theorem d_P_led_47 : decode m_P_led.2.1 47 = .ok (.iload 5, 2) := by decide +kernel
theorem d_P_led_49 : decode m_P_led.2.1 49 = .ok (.iconst 4, 1) := by decide +kernel
theorem d_P_led_50 : decode m_P_led.2.1 50 = .ok (.if_icmp .ge 71, 3) := by decide +kernel
theorem d_P_led_53 : decode m_P_led.2.1 53 = .ok (.aload_n 0, 1) := by decide +kernel
theorem d_P_led_54 : decode m_P_led.2.1 54 = .ok (.getfield 36, 3) := by decide +kernel
theorem d_P_led_57 : decode m_P_led.2.1 57 = .ok (.bipush 55, 2) := by decide +kernel
theorem d_P_led_59 : decode m_P_led.2.1 59 = .ok (.iload_n 1, 1) := by decide +kernel
theorem d_P_led_60 : decode m_P_led.2.1 60 = .ok (.imul, 1) := by decide +kernel
theorem d_P_led_61 : decode m_P_led.2.1 61 = .ok (.iconst 5, 1) := by decide +kernel
theorem d_P_led_62 : decode m_P_led.2.1 62 = .ok (.iload 4, 2) := by decide +kernel
theorem d_P_led_64 : decode m_P_led.2.1 64 = .ok (.imul, 1) := by decide +kernel
theorem d_P_led_65 : decode m_P_led.2.1 65 = .ok (.iadd, 1) := by decide +kernel
theorem d_P_led_66 : decode m_P_led.2.1 66 = .ok (.iload 5, 2) := by decide +kernel
theorem d_P_led_68 : decode m_P_led.2.1 68 = .ok (.iadd, 1) := by decide +kernel
theorem d_P_led_69 : decode m_P_led.2.1 69 = .ok (.iaload, 1) := by decide +kernel
theorem d_P_led_70 : decode m_P_led.2.1 70 = .ok (.istore 6, 2) := by decide +kernel
theorem d_P_led_72 : decode m_P_led.2.1 72 = .ok (.iload 6, 2) := by decide +kernel
theorem d_P_led_74 : decode m_P_led.2.1 74 = .ok (.ifCond .eq 41, 3) := by decide +kernel
theorem d_P_led_77 : decode m_P_led.2.1 77 = .ok (.aload_n 0, 1) := by decide +kernel
theorem d_P_led_78 : decode m_P_led.2.1 78 = .ok (.iload 4, 2) := by decide +kernel
theorem d_P_led_80 : decode m_P_led.2.1 80 = .ok (.iload 5, 2) := by decide +kernel
theorem d_P_led_82 : decode m_P_led.2.1 82 = .ok (.invokevirtual 107, 3) := by decide +kernel
theorem d_P_led_85 : decode m_P_led.2.1 85 = .ok (.iload_n 2, 1) := by decide +kernel
theorem d_P_led_86 : decode m_P_led.2.1 86 = .ok (.if_icmp .ne 29, 3) := by decide +kernel
theorem d_P_led_89 : decode m_P_led.2.1 89 = .ok (.aload_n 0, 1) := by decide +kernel
theorem d_P_led_90 : decode m_P_led.2.1 90 = .ok (.getfield 36, 3) := by decide +kernel
theorem d_P_led_93 : decode m_P_led.2.1 93 = .ok (.bipush 55, 2) := by decide +kernel
theorem d_P_led_95 : decode m_P_led.2.1 95 = .ok (.aload_n 0, 1) := by decide +kernel
theorem d_P_led_96 : decode m_P_led.2.1 96 = .ok (.getfield 115, 3) := by decide +kernel
theorem d_P_led_99 : decode m_P_led.2.1 99 = .ok (.imul, 1) := by decide +kernel
theorem d_P_led_100 : decode m_P_led.2.1 100 = .ok (.iconst 5, 1) := by decide +kernel
theorem d_P_led_101 : decode m_P_led.2.1 101 = .ok (.iload 4, 2) := by decide +kernel
theorem d_P_led_103 : decode m_P_led.2.1 103 = .ok (.imul, 1) := by decide +kernel
theorem d_P_led_104 : decode m_P_led.2.1 104 = .ok (.iadd, 1) := by decide +kernel
theorem d_P_led_105 : decode m_P_led.2.1 105 = .ok (.iload 5, 2) := by decide +kernel
theorem d_P_led_107 : decode m_P_led.2.1 107 = .ok (.iadd, 1) := by decide +kernel
theorem d_P_led_108 : decode m_P_led.2.1 108 = .ok (.iconst 1, 1) := by decide +kernel
theorem d_P_led_109 : decode m_P_led.2.1 109 = .ok (.iadd, 1) := by decide +kernel
theorem d_P_led_110 : decode m_P_led.2.1 110 = .ok (.iload 6, 2) := by decide +kernel
theorem d_P_led_112 : decode m_P_led.2.1 112 = .ok (.iastore, 1) := by decide +kernel
theorem d_P_led_113 : decode m_P_led.2.1 113 = .ok (.iconst 1, 1) := by decide +kernel
theorem d_P_led_114 : decode m_P_led.2.1 114 = .ok (.istore_n 3, 1) := by decide +kernel
theorem d_P_led_115 : decode m_P_led.2.1 115 = .ok (.iinc 5 1, 3) := by decide +kernel
theorem d_P_led_118 : decode m_P_led.2.1 118 = .ok (.goto (-71), 3) := by decide +kernel
theorem d_P_led_121 : decode m_P_led.2.1 121 = .ok (.iinc 4 1, 3) := by decide +kernel
theorem d_P_led_124 : decode m_P_led.2.1 124 = .ok (.goto (-87), 3) := by decide +kernel
theorem d_P_led_127 : decode m_P_led.2.1 127 = .ok (.iload_n 3, 1) := by decide +kernel
theorem d_P_led_128 : decode m_P_led.2.1 128 = .ok (.ifCond .ne 5, 3) := by decide +kernel
theorem d_P_led_131 : decode m_P_led.2.1 131 = .ok (.iconst (-1), 1) := by decide +kernel
theorem d_P_led_132 : decode m_P_led.2.1 132 = .ok (.ireturn, 1) := by decide +kernel
theorem d_P_led_133 : decode m_P_led.2.1 133 = .ok (.aload_n 0, 1) := by decide +kernel
theorem d_P_led_134 : decode m_P_led.2.1 134 = .ok (.aload_n 0, 1) := by decide +kernel
theorem d_P_led_135 : decode m_P_led.2.1 135 = .ok (.getfield 115, 3) := by decide +kernel
theorem d_P_led_138 : decode m_P_led.2.1 138 = .ok (.invokevirtual 118, 3) := by decide +kernel
theorem d_P_led_141 : decode m_P_led.2.1 141 = .ok (.iconst 0, 1) := by decide +kernel
theorem d_P_led_142 : decode m_P_led.2.1 142 = .ok (.istore 4, 2) := by decide +kernel
theorem d_P_led_144 : decode m_P_led.2.1 144 = .ok (.iload 4, 2) := by decide +kernel
theorem d_P_led_146 : decode m_P_led.2.1 146 = .ok (.aload_n 0, 1) := by decide +kernel
theorem d_P_led_147 : decode m_P_led.2.1 147 = .ok (.getfield 115, 3) := by decide +kernel
theorem d_P_led_150 : decode m_P_led.2.1 150 = .ok (.if_icmp .ge 79, 3) := by decide +kernel
theorem d_P_led_153 : decode m_P_led.2.1 153 = .ok (.iconst 1, 1) := by decide +kernel
theorem d_P_led_154 : decode m_P_led.2.1 154 = .ok (.istore 5, 2) := by decide +kernel
theorem d_P_led_156 : decode m_P_led.2.1 156 = .ok (.iconst 0, 1) := by decide +kernel
theorem d_P_led_157 : decode m_P_led.2.1 157 = .ok (.istore 6, 2) := by decide +kernel
theorem d_P_led_159 : decode m_P_led.2.1 159 = .ok (.iload 6, 2) := by decide +kernel
theorem d_P_led_161 : decode m_P_led.2.1 161 = .ok (.bipush 55, 2) := by decide +kernel
theorem d_P_led_163 : decode m_P_led.2.1 163 = .ok (.if_icmp .ge 52, 3) := by decide +kernel
theorem d_P_led_166 : decode m_P_led.2.1 166 = .ok (.iload 5, 2) := by decide +kernel
theorem d_P_led_168 : decode m_P_led.2.1 168 = .ok (.ifCond .eq 47, 3) := by decide +kernel
theorem d_P_led_171 : decode m_P_led.2.1 171 = .ok (.aload_n 0, 1) := by decide +kernel
theorem d_P_led_172 : decode m_P_led.2.1 172 = .ok (.getfield 36, 3) := by decide +kernel
theorem d_P_led_175 : decode m_P_led.2.1 175 = .ok (.bipush 55, 2) := by decide +kernel
theorem d_P_led_177 : decode m_P_led.2.1 177 = .ok (.iload 4, 2) := by decide +kernel
theorem d_P_led_179 : decode m_P_led.2.1 179 = .ok (.imul, 1) := by decide +kernel
theorem d_P_led_180 : decode m_P_led.2.1 180 = .ok (.iload 6, 2) := by decide +kernel
theorem d_P_led_182 : decode m_P_led.2.1 182 = .ok (.iadd, 1) := by decide +kernel
theorem d_P_led_183 : decode m_P_led.2.1 183 = .ok (.iaload, 1) := by decide +kernel
theorem d_P_led_184 : decode m_P_led.2.1 184 = .ok (.aload_n 0, 1) := by decide +kernel
theorem d_P_led_185 : decode m_P_led.2.1 185 = .ok (.getfield 36, 3) := by decide +kernel
theorem d_P_led_188 : decode m_P_led.2.1 188 = .ok (.bipush 55, 2) := by decide +kernel
theorem d_P_led_190 : decode m_P_led.2.1 190 = .ok (.aload_n 0, 1) := by decide +kernel
theorem d_P_led_191 : decode m_P_led.2.1 191 = .ok (.getfield 115, 3) := by decide +kernel
theorem d_P_led_194 : decode m_P_led.2.1 194 = .ok (.imul, 1) := by decide +kernel
theorem d_P_led_195 : decode m_P_led.2.1 195 = .ok (.iload 6, 2) := by decide +kernel
theorem d_P_led_197 : decode m_P_led.2.1 197 = .ok (.iadd, 1) := by decide +kernel
theorem d_P_led_198 : decode m_P_led.2.1 198 = .ok (.iaload, 1) := by decide +kernel
theorem d_P_led_199 : decode m_P_led.2.1 199 = .ok (.if_icmp .ne 7, 3) := by decide +kernel
theorem d_P_led_202 : decode m_P_led.2.1 202 = .ok (.iconst 1, 1) := by decide +kernel
theorem d_P_led_203 : decode m_P_led.2.1 203 = .ok (.goto 4, 3) := by decide +kernel
theorem d_P_led_206 : decode m_P_led.2.1 206 = .ok (.iconst 0, 1) := by decide +kernel
theorem d_P_led_207 : decode m_P_led.2.1 207 = .ok (.istore 5, 2) := by decide +kernel
theorem d_P_led_209 : decode m_P_led.2.1 209 = .ok (.iinc 6 1, 3) := by decide +kernel
theorem d_P_led_212 : decode m_P_led.2.1 212 = .ok (.goto (-53), 3) := by decide +kernel
theorem d_P_led_215 : decode m_P_led.2.1 215 = .ok (.iload 5, 2) := by decide +kernel
theorem d_P_led_217 : decode m_P_led.2.1 217 = .ok (.ifCond .eq 6, 3) := by decide +kernel
theorem d_P_led_220 : decode m_P_led.2.1 220 = .ok (.iload 4, 2) := by decide +kernel
theorem d_P_led_222 : decode m_P_led.2.1 222 = .ok (.ireturn, 1) := by decide +kernel
theorem d_P_led_223 : decode m_P_led.2.1 223 = .ok (.iinc 4 1, 3) := by decide +kernel
theorem d_P_led_226 : decode m_P_led.2.1 226 = .ok (.goto (-82), 3) := by decide +kernel
theorem d_P_led_229 : decode m_P_led.2.1 229 = .ok (.aload_n 0, 1) := by decide +kernel
theorem d_P_led_230 : decode m_P_led.2.1 230 = .ok (.dup, 1) := by decide +kernel
theorem d_P_led_231 : decode m_P_led.2.1 231 = .ok (.getfield 115, 3) := by decide +kernel
theorem d_P_led_234 : decode m_P_led.2.1 234 = .ok (.iconst 1, 1) := by decide +kernel
theorem d_P_led_235 : decode m_P_led.2.1 235 = .ok (.iadd, 1) := by decide +kernel
theorem d_P_led_236 : decode m_P_led.2.1 236 = .ok (.putfield 115, 3) := by decide +kernel
theorem d_P_led_239 : decode m_P_led.2.1 239 = .ok (.aload_n 0, 1) := by decide +kernel
theorem d_P_led_240 : decode m_P_led.2.1 240 = .ok (.getfield 115, 3) := by decide +kernel
theorem d_P_led_243 : decode m_P_led.2.1 243 = .ok (.iconst 1, 1) := by decide +kernel
theorem d_P_led_244 : decode m_P_led.2.1 244 = .ok (.isub, 1) := by decide +kernel
theorem d_P_led_245 : decode m_P_led.2.1 245 = .ok (.ireturn, 1) := by decide +kernel
