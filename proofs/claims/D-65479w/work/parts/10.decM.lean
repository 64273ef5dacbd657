theorem d_M_init_0 : decode b_M_init 0 = .ok (.aload_n 0, 1) := by decide +kernel
theorem d_M_init_1 : decode b_M_init 1 = .ok (.invokespecial 1, 3) := by decide +kernel
theorem d_M_init_4 : decode b_M_init 4 = .ok (.aload_n 0, 1) := by decide +kernel
theorem d_M_init_5 : decode b_M_init 5 = .ok (.iconst 1, 1) := by decide +kernel
theorem d_M_init_6 : decode b_M_init 6 = .ok (.putfield 7, 3) := by decide +kernel
theorem d_M_init_9 : decode b_M_init 9 = .ok (.aload_n 0, 1) := by decide +kernel
theorem d_M_init_10 : decode b_M_init 10 = .ok (.bipush 40, 2) := by decide +kernel
theorem d_M_init_12 : decode b_M_init 12 = .ok (.newarray .int, 2) := by decide +kernel
theorem d_M_init_14 : decode b_M_init 14 = .ok (.putfield 13, 3) := by decide +kernel
theorem d_M_init_17 : decode b_M_init 17 = .ok (.aload_n 0, 1) := by decide +kernel
theorem d_M_init_18 : decode b_M_init 18 = .ok (.bipush 40, 2) := by decide +kernel
theorem d_M_init_20 : decode b_M_init 20 = .ok (.newarray .int, 2) := by decide +kernel
theorem d_M_init_22 : decode b_M_init 22 = .ok (.putfield 17, 3) := by decide +kernel
theorem d_M_init_25 : decode b_M_init 25 = .ok (.aload_n 0, 1) := by decide +kernel
theorem d_M_init_26 : decode b_M_init 26 = .ok (.bipush 40, 2) := by decide +kernel
theorem d_M_init_28 : decode b_M_init 28 = .ok (.newarray .int, 2) := by decide +kernel
theorem d_M_init_30 : decode b_M_init 30 = .ok (.putfield 20, 3) := by decide +kernel
theorem d_M_init_33 : decode b_M_init 33 = .ok (.aload_n 0, 1) := by decide +kernel
theorem d_M_init_34 : decode b_M_init 34 = .ok (.bipush 40, 2) := by decide +kernel
theorem d_M_init_36 : decode b_M_init 36 = .ok (.newarray .int, 2) := by decide +kernel
theorem d_M_init_38 : decode b_M_init 38 = .ok (.putfield 23, 3) := by decide +kernel
theorem d_M_init_41 : decode b_M_init 41 = .ok (.aload_n 0, 1) := by decide +kernel
theorem d_M_init_42 : decode b_M_init 42 = .ok (.sipush 160, 3) := by decide +kernel
theorem d_M_init_45 : decode b_M_init 45 = .ok (.newarray .int, 2) := by decide +kernel
theorem d_M_init_47 : decode b_M_init 47 = .ok (.putfield 26, 3) := by decide +kernel
theorem d_M_init_50 : decode b_M_init 50 = .ok (.aload_n 0, 1) := by decide +kernel
theorem d_M_init_51 : decode b_M_init 51 = .ok (.sipush 160, 3) := by decide +kernel
theorem d_M_init_54 : decode b_M_init 54 = .ok (.newarray .int, 2) := by decide +kernel
theorem d_M_init_56 : decode b_M_init 56 = .ok (.putfield 29, 3) := by decide +kernel
theorem d_M_init_59 : decode b_M_init 59 = .ok (.aload_n 0, 1) := by decide +kernel
theorem d_M_init_60 : decode b_M_init 60 = .ok (.bipush 64, 2) := by decide +kernel
theorem d_M_init_62 : decode b_M_init 62 = .ok (.newarray .boolean, 2) := by decide +kernel
theorem d_M_init_64 : decode b_M_init 64 = .ok (.putfield 32, 3) := by decide +kernel
theorem d_M_init_67 : decode b_M_init 67 = .ok (.aload_n 0, 1) := by decide +kernel
theorem d_M_init_68 : decode b_M_init 68 = .ok (.bipush 96, 2) := by decide +kernel
theorem d_M_init_70 : decode b_M_init 70 = .ok (.newarray .int, 2) := by decide +kernel
theorem d_M_init_72 : decode b_M_init 72 = .ok (.putfield 36, 3) := by decide +kernel
theorem d_M_init_75 : decode b_M_init 75 = .ok (.aload_n 0, 1) := by decide +kernel
theorem d_M_init_76 : decode b_M_init 76 = .ok (.ldc 39, 2) := by decide +kernel
theorem d_M_init_78 : decode b_M_init 78 = .ok (.newarray .int, 2) := by decide +kernel
theorem d_M_init_80 : decode b_M_init 80 = .ok (.putfield 40, 3) := by decide +kernel
theorem d_M_init_83 : decode b_M_init 83 = .ok (.aload_n 0, 1) := by decide +kernel
theorem d_M_init_84 : decode b_M_init 84 = .ok (.sipush 8192, 3) := by decide +kernel
theorem d_M_init_87 : decode b_M_init 87 = .ok (.newarray .int, 2) := by decide +kernel
theorem d_M_init_89 : decode b_M_init 89 = .ok (.putfield 43, 3) := by decide +kernel
theorem d_M_init_92 : decode b_M_init 92 = .ok (.aload_n 0, 1) := by decide +kernel
theorem d_M_init_93 : decode b_M_init 93 = .ok (.sipush 8192, 3) := by decide +kernel
theorem d_M_init_96 : decode b_M_init 96 = .ok (.newarray .int, 2) := by decide +kernel
theorem d_M_init_98 : decode b_M_init 98 = .ok (.putfield 46, 3) := by decide +kernel
theorem d_M_init_101 : decode b_M_init 101 = .ok (.aload_n 0, 1) := by decide +kernel
theorem d_M_init_102 : decode b_M_init 102 = .ok (.sipush 8192, 3) := by decide +kernel
theorem d_M_init_105 : decode b_M_init 105 = .ok (.newarray .int, 2) := by decide +kernel
theorem d_M_init_107 : decode b_M_init 107 = .ok (.putfield 49, 3) := by decide +kernel
theorem d_M_init_110 : decode b_M_init 110 = .ok (.aload_n 0, 1) := by decide +kernel
theorem d_M_init_111 : decode b_M_init 111 = .ok (.sipush 8192, 3) := by decide +kernel
theorem d_M_init_114 : decode b_M_init 114 = .ok (.newarray .int, 2) := by decide +kernel
theorem d_M_init_116 : decode b_M_init 116 = .ok (.putfield 52, 3) := by decide +kernel
theorem d_M_init_119 : decode b_M_init 119 = .ok (.aload_n 0, 1) := by decide +kernel
theorem d_M_init_120 : decode b_M_init 120 = .ok (.sipush 8192, 3) := by decide +kernel
theorem d_M_init_123 : decode b_M_init 123 = .ok (.newarray .int, 2) := by decide +kernel
theorem d_M_init_125 : decode b_M_init 125 = .ok (.putfield 55, 3) := by decide +kernel
theorem d_M_init_128 : decode b_M_init 128 = .ok (.aload_n 0, 1) := by decide +kernel
theorem d_M_init_129 : decode b_M_init 129 = .ok (.sipush 8192, 3) := by decide +kernel
theorem d_M_init_132 : decode b_M_init 132 = .ok (.newarray .int, 2) := by decide +kernel
theorem d_M_init_134 : decode b_M_init 134 = .ok (.putfield 58, 3) := by decide +kernel
theorem d_M_init_137 : decode b_M_init 137 = .ok (.aload_n 0, 1) := by decide +kernel
theorem d_M_init_138 : decode b_M_init 138 = .ok (.bipush 12, 2) := by decide +kernel
theorem d_M_init_140 : decode b_M_init 140 = .ok (.newarray .int, 2) := by decide +kernel
theorem d_M_init_142 : decode b_M_init 142 = .ok (.putfield 61, 3) := by decide +kernel
theorem d_M_init_145 : decode b_M_init 145 = .ok (.aload_n 0, 1) := by decide +kernel
theorem d_M_init_146 : decode b_M_init 146 = .ok (.bipush 12, 2) := by decide +kernel
theorem d_M_init_148 : decode b_M_init 148 = .ok (.newarray .int, 2) := by decide +kernel
theorem d_M_init_150 : decode b_M_init 150 = .ok (.putfield 64, 3) := by decide +kernel
theorem d_M_init_153 : decode b_M_init 153 = .ok (.aload_n 0, 1) := by decide +kernel
theorem d_M_init_154 : decode b_M_init 154 = .ok (.bipush 12, 2) := by decide +kernel
theorem d_M_init_156 : decode b_M_init 156 = .ok (.newarray .int, 2) := by decide +kernel
theorem d_M_init_158 : decode b_M_init 158 = .ok (.putfield 67, 3) := by decide +kernel
theorem d_M_init_161 : decode b_M_init 161 = .ok (.aload_n 0, 1) := by decide +kernel
theorem d_M_init_162 : decode b_M_init 162 = .ok (.iconst 1, 1) := by decide +kernel
theorem d_M_init_163 : decode b_M_init 163 = .ok (.iload_n 1, 1) := by decide +kernel
theorem d_M_init_164 : decode b_M_init 164 = .ok (.iconst 1, 1) := by decide +kernel
theorem d_M_init_165 : decode b_M_init 165 = .ok (.isub, 1) := by decide +kernel
theorem d_M_init_166 : decode b_M_init 166 = .ok (.iconst 3, 1) := by decide +kernel
theorem d_M_init_167 : decode b_M_init 167 = .ok (.iand, 1) := by decide +kernel
theorem d_M_init_168 : decode b_M_init 168 = .ok (.iadd, 1) := by decide +kernel
theorem d_M_init_169 : decode b_M_init 169 = .ok (.putfield 70, 3) := by decide +kernel
theorem d_M_init_172 : decode b_M_init 172 = .ok (.aload_n 0, 1) := by decide +kernel
theorem d_M_init_173 : decode b_M_init 173 = .ok (.iconst 1, 1) := by decide +kernel
theorem d_M_init_174 : decode b_M_init 174 = .ok (.iload_n 2, 1) := by decide +kernel
theorem d_M_init_175 : decode b_M_init 175 = .ok (.iconst 1, 1) := by decide +kernel
theorem d_M_init_176 : decode b_M_init 176 = .ok (.isub, 1) := by decide +kernel
theorem d_M_init_177 : decode b_M_init 177 = .ok (.sipush 8191, 3) := by decide +kernel
theorem d_M_init_180 : decode b_M_init 180 = .ok (.iand, 1) := by decide +kernel
theorem d_M_init_181 : decode b_M_init 181 = .ok (.iadd, 1) := by decide +kernel
theorem d_M_init_182 : decode b_M_init 182 = .ok (.putfield 73, 3) := by decide +kernel
theorem d_M_init_185 : decode b_M_init 185 = .ok (.iconst 0, 1) := by decide +kernel
theorem d_M_init_186 : decode b_M_init 186 = .ok (.istore_n 3, 1) := by decide +kernel
theorem d_M_init_187 : decode b_M_init 187 = .ok (.iload_n 3, 1) := by decide +kernel
theorem d_M_init_188 : decode b_M_init 188 = .ok (.sipush 256, 3) := by decide +kernel
theorem d_M_init_191 : decode b_M_init 191 = .ok (.if_icmp .ge 122, 3) := by decide +kernel
theorem d_M_init_194 : decode b_M_init 194 = .ok (.iconst 0, 1) := by decide +kernel
theorem d_M_init_195 : decode b_M_init 195 = .ok (.istore 4, 2) := by decide +kernel
theorem d_M_init_197 : decode b_M_init 197 = .ok (.iconst 0, 1) := by decide +kernel
theorem d_M_init_198 : decode b_M_init 198 = .ok (.istore 5, 2) := by decide +kernel
theorem d_M_init_200 : decode b_M_init 200 = .ok (.iload 5, 2) := by decide +kernel
theorem d_M_init_202 : decode b_M_init 202 = .ok (.aload_n 0, 1) := by decide +kernel
theorem d_M_init_203 : decode b_M_init 203 = .ok (.getfield 70, 3) := by decide +kernel
theorem d_M_init_206 : decode b_M_init 206 = .ok (.if_icmp .ge 24, 3) := by decide +kernel
theorem d_M_init_209 : decode b_M_init 209 = .ok (.iload 4, 2) := by decide +kernel
theorem d_M_init_211 : decode b_M_init 211 = .ok (.iconst 1, 1) := by decide +kernel
theorem d_M_init_212 : decode b_M_init 212 = .ok (.iload_n 3, 1) := by decide +kernel
theorem d_M_init_213 : decode b_M_init 213 = .ok (.iconst 2, 1) := by decide +kernel
theorem d_M_init_214 : decode b_M_init 214 = .ok (.iload 5, 2) := by decide +kernel
theorem d_M_init_216 : decode b_M_init 216 = .ok (.imul, 1) := by decide +kernel
theorem d_M_init_217 : decode b_M_init 217 = .ok (.ishr, 1) := by decide +kernel
theorem d_M_init_218 : decode b_M_init 218 = .ok (.iconst 3, 1) := by decide +kernel
theorem d_M_init_219 : decode b_M_init 219 = .ok (.iand, 1) := by decide +kernel
theorem d_M_init_220 : decode b_M_init 220 = .ok (.ishl, 1) := by decide +kernel
theorem d_M_init_221 : decode b_M_init 221 = .ok (.ior, 1) := by decide +kernel
theorem d_M_init_222 : decode b_M_init 222 = .ok (.istore 4, 2) := by decide +kernel
theorem d_M_init_224 : decode b_M_init 224 = .ok (.iinc 5 1, 3) := by decide +kernel
theorem d_M_init_227 : decode b_M_init 227 = .ok (.goto (-27), 3) := by decide +kernel
theorem d_M_init_230 : decode b_M_init 230 = .ok (.iload 4, 2) := by decide +kernel
theorem d_M_init_232 : decode b_M_init 232 = .ok (.iconst 1, 1) := by decide +kernel
theorem d_M_init_233 : decode b_M_init 233 = .ok (.aload_n 0, 1) := by decide +kernel
theorem d_M_init_234 : decode b_M_init 234 = .ok (.getfield 70, 3) := by decide +kernel
theorem d_M_init_237 : decode b_M_init 237 = .ok (.ishl, 1) := by decide +kernel
theorem d_M_init_238 : decode b_M_init 238 = .ok (.iconst 1, 1) := by decide +kernel
theorem d_M_init_239 : decode b_M_init 239 = .ok (.isub, 1) := by decide +kernel
theorem d_M_init_240 : decode b_M_init 240 = .ok (.if_icmp .ne 67, 3) := by decide +kernel
theorem d_M_init_243 : decode b_M_init 243 = .ok (.iload_n 3, 1) := by decide +kernel
theorem d_M_init_244 : decode b_M_init 244 = .ok (.iconst 2, 1) := by decide +kernel
theorem d_M_init_245 : decode b_M_init 245 = .ok (.aload_n 0, 1) := by decide +kernel
theorem d_M_init_246 : decode b_M_init 246 = .ok (.getfield 70, 3) := by decide +kernel
theorem d_M_init_249 : decode b_M_init 249 = .ok (.imul, 1) := by decide +kernel
theorem d_M_init_250 : decode b_M_init 250 = .ok (.ishr, 1) := by decide +kernel
theorem d_M_init_251 : decode b_M_init 251 = .ok (.ifCond .le 6, 3) := by decide +kernel
theorem d_M_init_254 : decode b_M_init 254 = .ok (.goto 53, 3) := by decide +kernel
theorem d_M_init_257 : decode b_M_init 257 = .ok (.iconst 0, 1) := by decide +kernel
theorem d_M_init_258 : decode b_M_init 258 = .ok (.istore 5, 2) := by decide +kernel
theorem d_M_init_260 : decode b_M_init 260 = .ok (.iload 5, 2) := by decide +kernel
theorem d_M_init_262 : decode b_M_init 262 = .ok (.aload_n 0, 1) := by decide +kernel
theorem d_M_init_263 : decode b_M_init 263 = .ok (.getfield 70, 3) := by decide +kernel
theorem d_M_init_266 : decode b_M_init 266 = .ok (.if_icmp .ge 31, 3) := by decide +kernel
theorem d_M_init_269 : decode b_M_init 269 = .ok (.aload_n 0, 1) := by decide +kernel
theorem d_M_init_270 : decode b_M_init 270 = .ok (.getfield 36, 3) := by decide +kernel
theorem d_M_init_273 : decode b_M_init 273 = .ok (.iconst 4, 1) := by decide +kernel
theorem d_M_init_274 : decode b_M_init 274 = .ok (.aload_n 0, 1) := by decide +kernel
theorem d_M_init_275 : decode b_M_init 275 = .ok (.getfield 76, 3) := by decide +kernel
theorem d_M_init_278 : decode b_M_init 278 = .ok (.imul, 1) := by decide +kernel
theorem d_M_init_279 : decode b_M_init 279 = .ok (.iload 5, 2) := by decide +kernel
theorem d_M_init_281 : decode b_M_init 281 = .ok (.iadd, 1) := by decide +kernel
theorem d_M_init_282 : decode b_M_init 282 = .ok (.iload_n 3, 1) := by decide +kernel
theorem d_M_init_283 : decode b_M_init 283 = .ok (.iconst 2, 1) := by decide +kernel
theorem d_M_init_284 : decode b_M_init 284 = .ok (.iload 5, 2) := by decide +kernel
theorem d_M_init_286 : decode b_M_init 286 = .ok (.imul, 1) := by decide +kernel
theorem d_M_init_287 : decode b_M_init 287 = .ok (.ishr, 1) := by decide +kernel
theorem d_M_init_288 : decode b_M_init 288 = .ok (.iconst 3, 1) := by decide +kernel
theorem d_M_init_289 : decode b_M_init 289 = .ok (.iand, 1) := by decide +kernel
theorem d_M_init_290 : decode b_M_init 290 = .ok (.iastore, 1) := by decide +kernel
theorem d_M_init_291 : decode b_M_init 291 = .ok (.iinc 5 1, 3) := by decide +kernel
theorem d_M_init_294 : decode b_M_init 294 = .ok (.goto (-34), 3) := by decide +kernel
theorem d_M_init_297 : decode b_M_init 297 = .ok (.aload_n 0, 1) := by decide +kernel
theorem d_M_init_298 : decode b_M_init 298 = .ok (.dup, 1) := by decide +kernel
theorem d_M_init_299 : decode b_M_init 299 = .ok (.getfield 76, 3) := by decide +kernel
theorem d_M_init_302 : decode b_M_init 302 = .ok (.iconst 1, 1) := by decide +kernel
theorem d_M_init_303 : decode b_M_init 303 = .ok (.iadd, 1) := by decide +kernel
theorem d_M_init_304 : decode b_M_init 304 = .ok (.putfield 76, 3) := by decide +kernel
theorem d_M_init_307 : decode b_M_init 307 = .ok (.iinc 3 1, 3) := by decide +kernel
theorem d_M_init_310 : decode b_M_init 310 = .ok (.goto (-123), 3) := by decide +kernel
theorem d_M_init_313 : decode b_M_init 313 = .ok (.return_, 1) := by decide +kernel
theorem d_M_thrown_0 : decode b_M_thrown 0 = .ok (.aload_n 0, 1) := by decide +kernel
theorem d_M_thrown_1 : decode b_M_thrown 1 = .ok (.getfield 79, 3) := by decide +kernel
theorem d_M_thrown_4 : decode b_M_thrown 4 = .ok (.ireturn, 1) := by decide +kernel
theorem d_M_state_0 : decode b_M_state 0 = .ok (.aload_n 0, 1) := by decide +kernel
theorem d_M_state_1 : decode b_M_state 1 = .ok (.aload_n 0, 1) := by decide +kernel
theorem d_M_state_2 : decode b_M_state 2 = .ok (.getfield 7, 3) := by decide +kernel
theorem d_M_state_5 : decode b_M_state 5 = .ok (.bipush 8, 2) := by decide +kernel
theorem d_M_state_7 : decode b_M_state 7 = .ok (.if_icmp .ne 7, 3) := by decide +kernel
theorem d_M_state_10 : decode b_M_state 10 = .ok (.iconst 1, 1) := by decide +kernel
theorem d_M_state_11 : decode b_M_state 11 = .ok (.goto 4, 3) := by decide +kernel
theorem d_M_state_14 : decode b_M_state 14 = .ok (.iconst 0, 1) := by decide +kernel
theorem d_M_state_15 : decode b_M_state 15 = .ok (.iconst 0, 1) := by decide +kernel
theorem d_M_state_16 : decode b_M_state 16 = .ok (.invokevirtual 103, 3) := by decide +kernel
theorem d_M_state_19 : decode b_M_state 19 = .ok (.ifCond .eq 5, 3) := by decide +kernel
theorem d_M_state_22 : decode b_M_state 22 = .ok (.iconst 0, 1) := by decide +kernel
theorem d_M_state_23 : decode b_M_state 23 = .ok (.ireturn, 1) := by decide +kernel
theorem d_M_state_24 : decode b_M_state 24 = .ok (.aload_n 0, 1) := by decide +kernel
theorem d_M_state_25 : decode b_M_state 25 = .ok (.invokevirtual 107, 3) := by decide +kernel
theorem d_M_state_28 : decode b_M_state 28 = .ok (.aload_n 0, 1) := by decide +kernel
theorem d_M_state_29 : decode b_M_state 29 = .ok (.dup, 1) := by decide +kernel
theorem d_M_state_30 : decode b_M_state 30 = .ok (.getfield 7, 3) := by decide +kernel
theorem d_M_state_33 : decode b_M_state 33 = .ok (.iconst 1, 1) := by decide +kernel
theorem d_M_state_34 : decode b_M_state 34 = .ok (.iadd, 1) := by decide +kernel
theorem d_M_state_35 : decode b_M_state 35 = .ok (.putfield 7, 3) := by decide +kernel
theorem d_M_state_38 : decode b_M_state 38 = .ok (.aload_n 0, 1) := by decide +kernel
theorem d_M_state_39 : decode b_M_state 39 = .ok (.getfield 7, 3) := by decide +kernel
theorem d_M_state_42 : decode b_M_state 42 = .ok (.iconst 1, 1) := by decide +kernel
theorem d_M_state_43 : decode b_M_state 43 = .ok (.isub, 1) := by decide +kernel
theorem d_M_state_44 : decode b_M_state 44 = .ok (.ireturn, 1) := by decide +kernel
theorem d_M_throwing_0 : decode b_M_throwing 0 = .ok (.aload_n 0, 1) := by decide +kernel
theorem d_M_throwing_1 : decode b_M_throwing 1 = .ok (.iload_n 1, 1) := by decide +kernel
theorem d_M_throwing_2 : decode b_M_throwing 2 = .ok (.ifCond .eq 7, 3) := by decide +kernel
theorem d_M_throwing_5 : decode b_M_throwing 5 = .ok (.iconst 1, 1) := by decide +kernel
theorem d_M_throwing_6 : decode b_M_throwing 6 = .ok (.goto 12, 3) := by decide +kernel
theorem d_M_throwing_9 : decode b_M_throwing 9 = .ok (.iload_n 2, 1) := by decide +kernel
theorem d_M_throwing_10 : decode b_M_throwing 10 = .ok (.ifCond .eq 7, 3) := by decide +kernel
theorem d_M_throwing_13 : decode b_M_throwing 13 = .ok (.iconst 2, 1) := by decide +kernel
theorem d_M_throwing_14 : decode b_M_throwing 14 = .ok (.goto 4, 3) := by decide +kernel
theorem d_M_throwing_17 : decode b_M_throwing 17 = .ok (.iconst 0, 1) := by decide +kernel
theorem d_M_throwing_18 : decode b_M_throwing 18 = .ok (.putfield 79, 3) := by decide +kernel
theorem d_M_throwing_21 : decode b_M_throwing 21 = .ok (.aload_n 0, 1) := by decide +kernel
theorem d_M_throwing_22 : decode b_M_throwing 22 = .ok (.getfield 79, 3) := by decide +kernel
theorem d_M_throwing_25 : decode b_M_throwing 25 = .ok (.ifCond .le 7, 3) := by decide +kernel
theorem d_M_throwing_28 : decode b_M_throwing 28 = .ok (.iconst 1, 1) := by decide +kernel
theorem d_M_throwing_29 : decode b_M_throwing 29 = .ok (.goto 4, 3) := by decide +kernel
theorem d_M_throwing_32 : decode b_M_throwing 32 = .ok (.iconst 0, 1) := by decide +kernel
theorem d_M_throwing_33 : decode b_M_throwing 33 = .ok (.ireturn, 1) := by decide +kernel
theorem d_M_forget_0 : decode b_M_forget 0 = .ok (.aload_n 0, 1) := by decide +kernel
theorem d_M_forget_1 : decode b_M_forget 1 = .ok (.iconst 0, 1) := by decide +kernel
theorem d_M_forget_2 : decode b_M_forget 2 = .ok (.putfield 82, 3) := by decide +kernel
theorem d_M_forget_5 : decode b_M_forget 5 = .ok (.aload_n 0, 1) := by decide +kernel
theorem d_M_forget_6 : decode b_M_forget 6 = .ok (.iconst 0, 1) := by decide +kernel
theorem d_M_forget_7 : decode b_M_forget 7 = .ok (.putfield 85, 3) := by decide +kernel
theorem d_M_forget_10 : decode b_M_forget 10 = .ok (.aload_n 0, 1) := by decide +kernel
theorem d_M_forget_11 : decode b_M_forget 11 = .ok (.iconst 0, 1) := by decide +kernel
theorem d_M_forget_12 : decode b_M_forget 12 = .ok (.putfield 88, 3) := by decide +kernel
theorem d_M_forget_15 : decode b_M_forget 15 = .ok (.aload_n 0, 1) := by decide +kernel
theorem d_M_forget_16 : decode b_M_forget 16 = .ok (.iconst 0, 1) := by decide +kernel
theorem d_M_forget_17 : decode b_M_forget 17 = .ok (.putfield 91, 3) := by decide +kernel
theorem d_M_forget_20 : decode b_M_forget 20 = .ok (.aload_n 0, 1) := by decide +kernel
theorem d_M_forget_21 : decode b_M_forget 21 = .ok (.iconst 0, 1) := by decide +kernel
theorem d_M_forget_22 : decode b_M_forget 22 = .ok (.putfield 94, 3) := by decide +kernel
theorem d_M_forget_25 : decode b_M_forget 25 = .ok (.aload_n 0, 1) := by decide +kernel
theorem d_M_forget_26 : decode b_M_forget 26 = .ok (.iconst 0, 1) := by decide +kernel
theorem d_M_forget_27 : decode b_M_forget 27 = .ok (.putfield 97, 3) := by decide +kernel
theorem d_M_forget_30 : decode b_M_forget 30 = .ok (.aload_n 0, 1) := by decide +kernel
theorem d_M_forget_31 : decode b_M_forget 31 = .ok (.iconst (-1), 1) := by decide +kernel
theorem d_M_forget_32 : decode b_M_forget 32 = .ok (.putfield 100, 3) := by decide +kernel
theorem d_M_forget_35 : decode b_M_forget 35 = .ok (.return_, 1) := by decide +kernel
theorem d_M_message_0 : decode b_M_message 0 = .ok (.aload_n 0, 1) := by decide +kernel
theorem d_M_message_1 : decode b_M_message 1 = .ok (.aload_n 0, 1) := by decide +kernel
theorem d_M_message_2 : decode b_M_message 2 = .ok (.getfield 110, 3) := by decide +kernel
theorem d_M_message_5 : decode b_M_message 5 = .ok (.bipush 6, 2) := by decide +kernel
theorem d_M_message_7 : decode b_M_message 7 = .ok (.if_icmp .ne 7, 3) := by decide +kernel
theorem d_M_message_10 : decode b_M_message 10 = .ok (.iconst 1, 1) := by decide +kernel
theorem d_M_message_11 : decode b_M_message 11 = .ok (.goto 4, 3) := by decide +kernel
theorem d_M_message_14 : decode b_M_message 14 = .ok (.iconst 0, 1) := by decide +kernel
theorem d_M_message_15 : decode b_M_message 15 = .ok (.iconst 0, 1) := by decide +kernel
theorem d_M_message_16 : decode b_M_message 16 = .ok (.invokevirtual 103, 3) := by decide +kernel
theorem d_M_message_19 : decode b_M_message 19 = .ok (.ifCond .eq 5, 3) := by decide +kernel
theorem d_M_message_22 : decode b_M_message 22 = .ok (.iconst 0, 1) := by decide +kernel
theorem d_M_message_23 : decode b_M_message 23 = .ok (.ireturn, 1) := by decide +kernel
theorem d_M_message_24 : decode b_M_message 24 = .ok (.aload_n 0, 1) := by decide +kernel
theorem d_M_message_25 : decode b_M_message 25 = .ok (.invokevirtual 107, 3) := by decide +kernel
theorem d_M_message_28 : decode b_M_message 28 = .ok (.aload_n 0, 1) := by decide +kernel
theorem d_M_message_29 : decode b_M_message 29 = .ok (.dup, 1) := by decide +kernel
theorem d_M_message_30 : decode b_M_message 30 = .ok (.getfield 110, 3) := by decide +kernel
theorem d_M_message_33 : decode b_M_message 33 = .ok (.iconst 1, 1) := by decide +kernel
theorem d_M_message_34 : decode b_M_message 34 = .ok (.iadd, 1) := by decide +kernel
theorem d_M_message_35 : decode b_M_message 35 = .ok (.putfield 110, 3) := by decide +kernel
theorem d_M_message_38 : decode b_M_message 38 = .ok (.aload_n 0, 1) := by decide +kernel
theorem d_M_message_39 : decode b_M_message 39 = .ok (.getfield 110, 3) := by decide +kernel
theorem d_M_message_42 : decode b_M_message 42 = .ok (.iconst 1, 1) := by decide +kernel
theorem d_M_message_43 : decode b_M_message 43 = .ok (.isub, 1) := by decide +kernel
theorem d_M_message_44 : decode b_M_message 44 = .ok (.ireturn, 1) := by decide +kernel
theorem d_M_rule_0 : decode b_M_rule 0 = .ok (.aload_n 0, 1) := by decide +kernel
theorem d_M_rule_1 : decode b_M_rule 1 = .ok (.iload_n 1, 1) := by decide +kernel
theorem d_M_rule_2 : decode b_M_rule 2 = .ok (.aload_n 0, 1) := by decide +kernel
theorem d_M_rule_3 : decode b_M_rule 3 = .ok (.getfield 7, 3) := by decide +kernel
theorem d_M_rule_6 : decode b_M_rule 6 = .ok (.invokestatic 113, 3) := by decide +kernel
theorem d_M_rule_9 : decode b_M_rule 9 = .ok (.ifCond .eq 30, 3) := by decide +kernel
theorem d_M_rule_12 : decode b_M_rule 12 = .ok (.iload_n 3, 1) := by decide +kernel
theorem d_M_rule_13 : decode b_M_rule 13 = .ok (.aload_n 0, 1) := by decide +kernel
theorem d_M_rule_14 : decode b_M_rule 14 = .ok (.getfield 7, 3) := by decide +kernel
theorem d_M_rule_17 : decode b_M_rule 17 = .ok (.invokestatic 113, 3) := by decide +kernel
theorem d_M_rule_20 : decode b_M_rule 20 = .ok (.ifCond .eq 19, 3) := by decide +kernel
theorem d_M_rule_23 : decode b_M_rule 23 = .ok (.iload_n 2, 1) := by decide +kernel
theorem d_M_rule_24 : decode b_M_rule 24 = .ok (.iconst (-1), 1) := by decide +kernel
theorem d_M_rule_25 : decode b_M_rule 25 = .ok (.if_icmp .eq 18, 3) := by decide +kernel
theorem d_M_rule_28 : decode b_M_rule 28 = .ok (.iload_n 2, 1) := by decide +kernel
theorem d_M_rule_29 : decode b_M_rule 29 = .ok (.aload_n 0, 1) := by decide +kernel
theorem d_M_rule_30 : decode b_M_rule 30 = .ok (.getfield 110, 3) := by decide +kernel
theorem d_M_rule_33 : decode b_M_rule 33 = .ok (.invokestatic 113, 3) := by decide +kernel
theorem d_M_rule_36 : decode b_M_rule 36 = .ok (.ifCond .ne 7, 3) := by decide +kernel
theorem d_M_rule_39 : decode b_M_rule 39 = .ok (.iconst 1, 1) := by decide +kernel
theorem d_M_rule_40 : decode b_M_rule 40 = .ok (.goto 4, 3) := by decide +kernel
theorem d_M_rule_43 : decode b_M_rule 43 = .ok (.iconst 0, 1) := by decide +kernel
theorem d_M_rule_44 : decode b_M_rule 44 = .ok (.aload_n 0, 1) := by decide +kernel
theorem d_M_rule_45 : decode b_M_rule 45 = .ok (.getfield 117, 3) := by decide +kernel
theorem d_M_rule_48 : decode b_M_rule 48 = .ok (.bipush 40, 2) := by decide +kernel
theorem d_M_rule_50 : decode b_M_rule 50 = .ok (.if_icmp .ne 7, 3) := by decide +kernel
theorem d_M_rule_53 : decode b_M_rule 53 = .ok (.iconst 1, 1) := by decide +kernel
theorem d_M_rule_54 : decode b_M_rule 54 = .ok (.goto 4, 3) := by decide +kernel
theorem d_M_rule_57 : decode b_M_rule 57 = .ok (.iconst 0, 1) := by decide +kernel
theorem d_M_rule_58 : decode b_M_rule 58 = .ok (.invokevirtual 103, 3) := by decide +kernel
theorem d_M_rule_61 : decode b_M_rule 61 = .ok (.ifCond .eq 5, 3) := by decide +kernel
theorem d_M_rule_64 : decode b_M_rule 64 = .ok (.iconst 0, 1) := by decide +kernel
theorem d_M_rule_65 : decode b_M_rule 65 = .ok (.ireturn, 1) := by decide +kernel
theorem d_M_rule_66 : decode b_M_rule 66 = .ok (.aload_n 0, 1) := by decide +kernel
theorem d_M_rule_67 : decode b_M_rule 67 = .ok (.invokevirtual 107, 3) := by decide +kernel
theorem d_M_rule_70 : decode b_M_rule 70 = .ok (.aload_n 0, 1) := by decide +kernel
theorem d_M_rule_71 : decode b_M_rule 71 = .ok (.getfield 13, 3) := by decide +kernel
theorem d_M_rule_74 : decode b_M_rule 74 = .ok (.aload_n 0, 1) := by decide +kernel
theorem d_M_rule_75 : decode b_M_rule 75 = .ok (.getfield 117, 3) := by decide +kernel
theorem d_M_rule_78 : decode b_M_rule 78 = .ok (.iload_n 1, 1) := by decide +kernel
theorem d_M_rule_79 : decode b_M_rule 79 = .ok (.iastore, 1) := by decide +kernel
theorem d_M_rule_80 : decode b_M_rule 80 = .ok (.aload_n 0, 1) := by decide +kernel
theorem d_M_rule_81 : decode b_M_rule 81 = .ok (.getfield 17, 3) := by decide +kernel
theorem d_M_rule_84 : decode b_M_rule 84 = .ok (.aload_n 0, 1) := by decide +kernel
theorem d_M_rule_85 : decode b_M_rule 85 = .ok (.getfield 117, 3) := by decide +kernel
theorem d_M_rule_88 : decode b_M_rule 88 = .ok (.iload_n 2, 1) := by decide +kernel
theorem d_M_rule_89 : decode b_M_rule 89 = .ok (.iastore, 1) := by decide +kernel
theorem d_M_rule_90 : decode b_M_rule 90 = .ok (.aload_n 0, 1) := by decide +kernel
theorem d_M_rule_91 : decode b_M_rule 91 = .ok (.getfield 20, 3) := by decide +kernel
theorem d_M_rule_94 : decode b_M_rule 94 = .ok (.aload_n 0, 1) := by decide +kernel
theorem d_M_rule_95 : decode b_M_rule 95 = .ok (.getfield 117, 3) := by decide +kernel
theorem d_M_rule_98 : decode b_M_rule 98 = .ok (.iload_n 3, 1) := by decide +kernel
theorem d_M_rule_99 : decode b_M_rule 99 = .ok (.iastore, 1) := by decide +kernel
theorem d_M_rule_100 : decode b_M_rule 100 = .ok (.aload_n 0, 1) := by decide +kernel
theorem d_M_rule_101 : decode b_M_rule 101 = .ok (.getfield 23, 3) := by decide +kernel
theorem d_M_rule_104 : decode b_M_rule 104 = .ok (.aload_n 0, 1) := by decide +kernel
theorem d_M_rule_105 : decode b_M_rule 105 = .ok (.getfield 117, 3) := by decide +kernel
theorem d_M_rule_108 : decode b_M_rule 108 = .ok (.iconst 0, 1) := by decide +kernel
theorem d_M_rule_109 : decode b_M_rule 109 = .ok (.iastore, 1) := by decide +kernel
theorem d_M_rule_110 : decode b_M_rule 110 = .ok (.aload_n 0, 1) := by decide +kernel
theorem d_M_rule_111 : decode b_M_rule 111 = .ok (.dup, 1) := by decide +kernel
theorem d_M_rule_112 : decode b_M_rule 112 = .ok (.getfield 117, 3) := by decide +kernel
theorem d_M_rule_115 : decode b_M_rule 115 = .ok (.iconst 1, 1) := by decide +kernel
theorem d_M_rule_116 : decode b_M_rule 116 = .ok (.iadd, 1) := by decide +kernel
theorem d_M_rule_117 : decode b_M_rule 117 = .ok (.putfield 117, 3) := by decide +kernel
theorem d_M_rule_120 : decode b_M_rule 120 = .ok (.aload_n 0, 1) := by decide +kernel
theorem d_M_rule_121 : decode b_M_rule 121 = .ok (.getfield 117, 3) := by decide +kernel
theorem d_M_rule_124 : decode b_M_rule 124 = .ok (.iconst 1, 1) := by decide +kernel
theorem d_M_rule_125 : decode b_M_rule 125 = .ok (.isub, 1) := by decide +kernel
theorem d_M_rule_126 : decode b_M_rule 126 = .ok (.ireturn, 1) := by decide +kernel
theorem d_M_isOf_0 : decode b_M_isOf 0 = .ok (.iload_n 0, 1) := by decide +kernel
theorem d_M_isOf_1 : decode b_M_isOf 1 = .ok (.ifCond .lt 12, 3) := by decide +kernel
theorem d_M_isOf_4 : decode b_M_isOf 4 = .ok (.iload_n 0, 1) := by decide +kernel
theorem d_M_isOf_5 : decode b_M_isOf 5 = .ok (.iload_n 1, 1) := by decide +kernel
theorem d_M_isOf_6 : decode b_M_isOf 6 = .ok (.if_icmp .ge 7, 3) := by decide +kernel
theorem d_M_isOf_9 : decode b_M_isOf 9 = .ok (.iconst 1, 1) := by decide +kernel
theorem d_M_isOf_10 : decode b_M_isOf 10 = .ok (.goto 4, 3) := by decide +kernel
theorem d_M_isOf_13 : decode b_M_isOf 13 = .ok (.iconst 0, 1) := by decide +kernel
theorem d_M_isOf_14 : decode b_M_isOf 14 = .ok (.ireturn, 1) := by decide +kernel
theorem d_M_sends_0 : decode b_M_sends 0 = .ok (.iload_n 1, 1) := by decide +kernel
theorem d_M_sends_1 : decode b_M_sends 1 = .ok (.aload_n 0, 1) := by decide +kernel
theorem d_M_sends_2 : decode b_M_sends 2 = .ok (.getfield 117, 3) := by decide +kernel
theorem d_M_sends_5 : decode b_M_sends 5 = .ok (.invokestatic 113, 3) := by decide +kernel
theorem d_M_sends_8 : decode b_M_sends 8 = .ok (.ifCond .eq 22, 3) := by decide +kernel
theorem d_M_sends_11 : decode b_M_sends 11 = .ok (.iload_n 2, 1) := by decide +kernel
theorem d_M_sends_12 : decode b_M_sends 12 = .ok (.aload_n 0, 1) := by decide +kernel
theorem d_M_sends_13 : decode b_M_sends 13 = .ok (.getfield 110, 3) := by decide +kernel
theorem d_M_sends_16 : decode b_M_sends 16 = .ok (.invokestatic 113, 3) := by decide +kernel
theorem d_M_sends_19 : decode b_M_sends 19 = .ok (.ifCond .eq 11, 3) := by decide +kernel
theorem d_M_sends_22 : decode b_M_sends 22 = .ok (.iload_n 3, 1) := by decide +kernel
theorem d_M_sends_23 : decode b_M_sends 23 = .ok (.iconst 2, 1) := by decide +kernel
theorem d_M_sends_24 : decode b_M_sends 24 = .ok (.invokestatic 113, 3) := by decide +kernel
theorem d_M_sends_27 : decode b_M_sends 27 = .ok (.ifCond .ne 7, 3) := by decide +kernel
theorem d_M_sends_30 : decode b_M_sends 30 = .ok (.iconst 1, 1) := by decide +kernel
theorem d_M_sends_31 : decode b_M_sends 31 = .ok (.goto 4, 3) := by decide +kernel
theorem d_M_sends_34 : decode b_M_sends 34 = .ok (.iconst 0, 1) := by decide +kernel
theorem d_M_sends_35 : decode b_M_sends 35 = .ok (.istore 4, 2) := by decide +kernel
theorem d_M_sends_37 : decode b_M_sends 37 = .ok (.aload_n 0, 1) := by decide +kernel
theorem d_M_sends_38 : decode b_M_sends 38 = .ok (.iload 4, 2) := by decide +kernel
theorem d_M_sends_40 : decode b_M_sends 40 = .ok (.ifCond .ne 17, 3) := by decide +kernel
theorem d_M_sends_43 : decode b_M_sends 43 = .ok (.iload_n 3, 1) := by decide +kernel
theorem d_M_sends_44 : decode b_M_sends 44 = .ok (.ifCond .ne 17, 3) := by decide +kernel
theorem d_M_sends_47 : decode b_M_sends 47 = .ok (.aload_n 0, 1) := by decide +kernel
theorem d_M_sends_48 : decode b_M_sends 48 = .ok (.getfield 17, 3) := by decide +kernel
theorem d_M_sends_51 : decode b_M_sends 51 = .ok (.iload_n 1, 1) := by decide +kernel
theorem d_M_sends_52 : decode b_M_sends 52 = .ok (.iaload, 1) := by decide +kernel
theorem d_M_sends_53 : decode b_M_sends 53 = .ok (.iconst (-1), 1) := by decide +kernel
theorem d_M_sends_54 : decode b_M_sends 54 = .ok (.if_icmp .ne 7, 3) := by decide +kernel
theorem d_M_sends_57 : decode b_M_sends 57 = .ok (.iconst 1, 1) := by decide +kernel
theorem d_M_sends_58 : decode b_M_sends 58 = .ok (.goto 4, 3) := by decide +kernel
theorem d_M_sends_61 : decode b_M_sends 61 = .ok (.iconst 0, 1) := by decide +kernel
theorem d_M_sends_62 : decode b_M_sends 62 = .ok (.iload 4, 2) := by decide +kernel
theorem d_M_sends_64 : decode b_M_sends 64 = .ok (.ifCond .ne 17, 3) := by decide +kernel
theorem d_M_sends_67 : decode b_M_sends 67 = .ok (.aload_n 0, 1) := by decide +kernel
theorem d_M_sends_68 : decode b_M_sends 68 = .ok (.getfield 23, 3) := by decide +kernel
theorem d_M_sends_71 : decode b_M_sends 71 = .ok (.iload_n 1, 1) := by decide +kernel
theorem d_M_sends_72 : decode b_M_sends 72 = .ok (.iaload, 1) := by decide +kernel
theorem d_M_sends_73 : decode b_M_sends 73 = .ok (.iconst 4, 1) := by decide +kernel
theorem d_M_sends_74 : decode b_M_sends 74 = .ok (.if_icmp .ne 7, 3) := by decide +kernel
theorem d_M_sends_77 : decode b_M_sends 77 = .ok (.iconst 1, 1) := by decide +kernel
theorem d_M_sends_78 : decode b_M_sends 78 = .ok (.goto 4, 3) := by decide +kernel
theorem d_M_sends_81 : decode b_M_sends 81 = .ok (.iconst 0, 1) := by decide +kernel
theorem d_M_sends_82 : decode b_M_sends 82 = .ok (.invokevirtual 103, 3) := by decide +kernel
theorem d_M_sends_85 : decode b_M_sends 85 = .ok (.ifCond .eq 5, 3) := by decide +kernel
theorem d_M_sends_88 : decode b_M_sends 88 = .ok (.iconst 0, 1) := by decide +kernel
theorem d_M_sends_89 : decode b_M_sends 89 = .ok (.ireturn, 1) := by decide +kernel
theorem d_M_sends_90 : decode b_M_sends 90 = .ok (.aload_n 0, 1) := by decide +kernel
theorem d_M_sends_91 : decode b_M_sends 91 = .ok (.invokevirtual 107, 3) := by decide +kernel
theorem d_M_sends_94 : decode b_M_sends 94 = .ok (.aload_n 0, 1) := by decide +kernel
theorem d_M_sends_95 : decode b_M_sends 95 = .ok (.getfield 26, 3) := by decide +kernel
theorem d_M_sends_98 : decode b_M_sends 98 = .ok (.iconst 4, 1) := by decide +kernel
theorem d_M_sends_99 : decode b_M_sends 99 = .ok (.iload_n 1, 1) := by decide +kernel
theorem d_M_sends_100 : decode b_M_sends 100 = .ok (.imul, 1) := by decide +kernel
theorem d_M_sends_101 : decode b_M_sends 101 = .ok (.aload_n 0, 1) := by decide +kernel
theorem d_M_sends_102 : decode b_M_sends 102 = .ok (.getfield 23, 3) := by decide +kernel
theorem d_M_sends_105 : decode b_M_sends 105 = .ok (.iload_n 1, 1) := by decide +kernel
theorem d_M_sends_106 : decode b_M_sends 106 = .ok (.iaload, 1) := by decide +kernel
theorem d_M_sends_107 : decode b_M_sends 107 = .ok (.iadd, 1) := by decide +kernel
theorem d_M_sends_108 : decode b_M_sends 108 = .ok (.iload_n 2, 1) := by decide +kernel
theorem d_M_sends_109 : decode b_M_sends 109 = .ok (.iastore, 1) := by decide +kernel
theorem d_M_sends_110 : decode b_M_sends 110 = .ok (.aload_n 0, 1) := by decide +kernel
theorem d_M_sends_111 : decode b_M_sends 111 = .ok (.getfield 29, 3) := by decide +kernel
theorem d_M_sends_114 : decode b_M_sends 114 = .ok (.iconst 4, 1) := by decide +kernel
theorem d_M_sends_115 : decode b_M_sends 115 = .ok (.iload_n 1, 1) := by decide +kernel
theorem d_M_sends_116 : decode b_M_sends 116 = .ok (.imul, 1) := by decide +kernel
theorem d_M_sends_117 : decode b_M_sends 117 = .ok (.aload_n 0, 1) := by decide +kernel
theorem d_M_sends_118 : decode b_M_sends 118 = .ok (.getfield 23, 3) := by decide +kernel
theorem d_M_sends_121 : decode b_M_sends 121 = .ok (.iload_n 1, 1) := by decide +kernel
theorem d_M_sends_122 : decode b_M_sends 122 = .ok (.iaload, 1) := by decide +kernel
theorem d_M_sends_123 : decode b_M_sends 123 = .ok (.iadd, 1) := by decide +kernel
theorem d_M_sends_124 : decode b_M_sends 124 = .ok (.iload_n 3, 1) := by decide +kernel
theorem d_M_sends_125 : decode b_M_sends 125 = .ok (.iastore, 1) := by decide +kernel
theorem d_M_sends_126 : decode b_M_sends 126 = .ok (.aload_n 0, 1) := by decide +kernel
theorem d_M_sends_127 : decode b_M_sends 127 = .ok (.getfield 23, 3) := by decide +kernel
theorem d_M_sends_130 : decode b_M_sends 130 = .ok (.iload_n 1, 1) := by decide +kernel
theorem d_M_sends_131 : decode b_M_sends 131 = .ok (.dup2, 1) := by decide +kernel
theorem d_M_sends_132 : decode b_M_sends 132 = .ok (.iaload, 1) := by decide +kernel
theorem d_M_sends_133 : decode b_M_sends 133 = .ok (.iconst 1, 1) := by decide +kernel
theorem d_M_sends_134 : decode b_M_sends 134 = .ok (.iadd, 1) := by decide +kernel
theorem d_M_sends_135 : decode b_M_sends 135 = .ok (.iastore, 1) := by decide +kernel
theorem d_M_sends_136 : decode b_M_sends 136 = .ok (.aload_n 0, 1) := by decide +kernel
theorem d_M_sends_137 : decode b_M_sends 137 = .ok (.getfield 23, 3) := by decide +kernel
theorem d_M_sends_140 : decode b_M_sends 140 = .ok (.iload_n 1, 1) := by decide +kernel
theorem d_M_sends_141 : decode b_M_sends 141 = .ok (.iaload, 1) := by decide +kernel
theorem d_M_sends_142 : decode b_M_sends 142 = .ok (.ireturn, 1) := by decide +kernel
theorem d_M_bad_0 : decode b_M_bad 0 = .ok (.aload_n 0, 1) := by decide +kernel
theorem d_M_bad_1 : decode b_M_bad 1 = .ok (.iload_n 1, 1) := by decide +kernel
theorem d_M_bad_2 : decode b_M_bad 2 = .ok (.aload_n 0, 1) := by decide +kernel
theorem d_M_bad_3 : decode b_M_bad 3 = .ok (.getfield 7, 3) := by decide +kernel
theorem d_M_bad_6 : decode b_M_bad 6 = .ok (.invokestatic 113, 3) := by decide +kernel
theorem d_M_bad_9 : decode b_M_bad 9 = .ok (.ifCond .eq 14, 3) := by decide +kernel
theorem d_M_bad_12 : decode b_M_bad 12 = .ok (.iload_n 2, 1) := by decide +kernel
theorem d_M_bad_13 : decode b_M_bad 13 = .ok (.aload_n 0, 1) := by decide +kernel
theorem d_M_bad_14 : decode b_M_bad 14 = .ok (.getfield 7, 3) := by decide +kernel
theorem d_M_bad_17 : decode b_M_bad 17 = .ok (.invokestatic 113, 3) := by decide +kernel
theorem d_M_bad_20 : decode b_M_bad 20 = .ok (.ifCond .ne 7, 3) := by decide +kernel
theorem d_M_bad_23 : decode b_M_bad 23 = .ok (.iconst 1, 1) := by decide +kernel
theorem d_M_bad_24 : decode b_M_bad 24 = .ok (.goto 4, 3) := by decide +kernel
theorem d_M_bad_27 : decode b_M_bad 27 = .ok (.iconst 0, 1) := by decide +kernel
theorem d_M_bad_28 : decode b_M_bad 28 = .ok (.iconst 0, 1) := by decide +kernel
theorem d_M_bad_29 : decode b_M_bad 29 = .ok (.invokevirtual 103, 3) := by decide +kernel
theorem d_M_bad_32 : decode b_M_bad 32 = .ok (.ifCond .eq 5, 3) := by decide +kernel
theorem d_M_bad_35 : decode b_M_bad 35 = .ok (.iconst 0, 1) := by decide +kernel
theorem d_M_bad_36 : decode b_M_bad 36 = .ok (.ireturn, 1) := by decide +kernel
theorem d_M_bad_37 : decode b_M_bad 37 = .ok (.aload_n 0, 1) := by decide +kernel
theorem d_M_bad_38 : decode b_M_bad 38 = .ok (.getfield 32, 3) := by decide +kernel
theorem d_M_bad_41 : decode b_M_bad 41 = .ok (.bipush 8, 2) := by decide +kernel
theorem d_M_bad_43 : decode b_M_bad 43 = .ok (.iload_n 1, 1) := by decide +kernel
theorem d_M_bad_44 : decode b_M_bad 44 = .ok (.imul, 1) := by decide +kernel
theorem d_M_bad_45 : decode b_M_bad 45 = .ok (.iload_n 2, 1) := by decide +kernel
theorem d_M_bad_46 : decode b_M_bad 46 = .ok (.iadd, 1) := by decide +kernel
theorem d_M_bad_47 : decode b_M_bad 47 = .ok (.baload, 1) := by decide +kernel
theorem d_M_bad_48 : decode b_M_bad 48 = .ok (.ifCond .eq 5, 3) := by decide +kernel
theorem d_M_bad_51 : decode b_M_bad 51 = .ok (.iconst 0, 1) := by decide +kernel
theorem d_M_bad_52 : decode b_M_bad 52 = .ok (.ireturn, 1) := by decide +kernel
theorem d_M_bad_53 : decode b_M_bad 53 = .ok (.aload_n 0, 1) := by decide +kernel
theorem d_M_bad_54 : decode b_M_bad 54 = .ok (.invokevirtual 107, 3) := by decide +kernel
theorem d_M_bad_57 : decode b_M_bad 57 = .ok (.aload_n 0, 1) := by decide +kernel
theorem d_M_bad_58 : decode b_M_bad 58 = .ok (.getfield 32, 3) := by decide +kernel
theorem d_M_bad_61 : decode b_M_bad 61 = .ok (.bipush 8, 2) := by decide +kernel
theorem d_M_bad_63 : decode b_M_bad 63 = .ok (.iload_n 1, 1) := by decide +kernel
theorem d_M_bad_64 : decode b_M_bad 64 = .ok (.imul, 1) := by decide +kernel
theorem d_M_bad_65 : decode b_M_bad 65 = .ok (.iload_n 2, 1) := by decide +kernel
theorem d_M_bad_66 : decode b_M_bad 66 = .ok (.iadd, 1) := by decide +kernel
theorem d_M_bad_67 : decode b_M_bad 67 = .ok (.iconst 1, 1) := by decide +kernel
theorem d_M_bad_68 : decode b_M_bad 68 = .ok (.bastore, 1) := by decide +kernel
theorem d_M_bad_69 : decode b_M_bad 69 = .ok (.aload_n 0, 1) := by decide +kernel
theorem d_M_bad_70 : decode b_M_bad 70 = .ok (.getfield 32, 3) := by decide +kernel
theorem d_M_bad_73 : decode b_M_bad 73 = .ok (.bipush 8, 2) := by decide +kernel
theorem d_M_bad_75 : decode b_M_bad 75 = .ok (.iload_n 2, 1) := by decide +kernel
theorem d_M_bad_76 : decode b_M_bad 76 = .ok (.imul, 1) := by decide +kernel
theorem d_M_bad_77 : decode b_M_bad 77 = .ok (.iload_n 1, 1) := by decide +kernel
theorem d_M_bad_78 : decode b_M_bad 78 = .ok (.iadd, 1) := by decide +kernel
theorem d_M_bad_79 : decode b_M_bad 79 = .ok (.iconst 1, 1) := by decide +kernel
theorem d_M_bad_80 : decode b_M_bad 80 = .ok (.bastore, 1) := by decide +kernel
theorem d_M_bad_81 : decode b_M_bad 81 = .ok (.iconst 1, 1) := by decide +kernel
theorem d_M_bad_82 : decode b_M_bad 82 = .ok (.ireturn, 1) := by decide +kernel
theorem d_M_run_0 : decode b_M_run 0 = .ok (.aload_n 0, 1) := by decide +kernel
theorem d_M_run_1 : decode b_M_run 1 = .ok (.iconst 0, 1) := by decide +kernel
theorem d_M_run_2 : decode b_M_run 2 = .ok (.putfield 79, 3) := by decide +kernel
theorem d_M_run_5 : decode b_M_run 5 = .ok (.aload_n 0, 1) := by decide +kernel
theorem d_M_run_6 : decode b_M_run 6 = .ok (.invokevirtual 167, 3) := by decide +kernel
theorem d_M_run_9 : decode b_M_run 9 = .ok (.aload_n 0, 1) := by decide +kernel
theorem d_M_run_10 : decode b_M_run 10 = .ok (.getfield 97, 3) := by decide +kernel
theorem d_M_run_13 : decode b_M_run 13 = .ok (.ifCond .ne 21, 3) := by decide +kernel
theorem d_M_run_16 : decode b_M_run 16 = .ok (.aload_n 0, 1) := by decide +kernel
theorem d_M_run_17 : decode b_M_run 17 = .ok (.getfield 85, 3) := by decide +kernel
theorem d_M_run_20 : decode b_M_run 20 = .ok (.aload_n 0, 1) := by decide +kernel
theorem d_M_run_21 : decode b_M_run 21 = .ok (.getfield 82, 3) := by decide +kernel
theorem d_M_run_24 : decode b_M_run 24 = .ok (.if_icmp .ge 10, 3) := by decide +kernel
theorem d_M_run_27 : decode b_M_run 27 = .ok (.aload_n 0, 1) := by decide +kernel
theorem d_M_run_28 : decode b_M_run 28 = .ok (.invokevirtual 170, 3) := by decide +kernel
theorem d_M_run_31 : decode b_M_run 31 = .ok (.goto (-22), 3) := by decide +kernel
theorem d_M_run_34 : decode b_M_run 34 = .ok (.aload_n 0, 1) := by decide +kernel
theorem d_M_run_35 : decode b_M_run 35 = .ok (.getfield 97, 3) := by decide +kernel
theorem d_M_run_38 : decode b_M_run 38 = .ok (.ifCond .ge 10, 3) := by decide +kernel
theorem d_M_run_41 : decode b_M_run 41 = .ok (.aload_n 0, 1) := by decide +kernel
theorem d_M_run_42 : decode b_M_run 42 = .ok (.getfield 97, 3) := by decide +kernel
theorem d_M_run_45 : decode b_M_run 45 = .ok (.goto 7, 3) := by decide +kernel
theorem d_M_run_48 : decode b_M_run 48 = .ok (.aload_n 0, 1) := by decide +kernel
theorem d_M_run_49 : decode b_M_run 49 = .ok (.getfield 82, 3) := by decide +kernel
theorem d_M_run_52 : decode b_M_run 52 = .ok (.ireturn, 1) := by decide +kernel
theorem d_M_begin_0 : decode b_M_begin 0 = .ok (.aload_n 0, 1) := by decide +kernel
theorem d_M_begin_1 : decode b_M_begin 1 = .ok (.getfield 82, 3) := by decide +kernel
theorem d_M_begin_4 : decode b_M_begin 4 = .ok (.ifCond .le 4, 3) := by decide +kernel
theorem d_M_begin_7 : decode b_M_begin 7 = .ok (.return_, 1) := by decide +kernel
theorem d_M_begin_8 : decode b_M_begin 8 = .ok (.aload_n 0, 1) := by decide +kernel
theorem d_M_begin_9 : decode b_M_begin 9 = .ok (.invokevirtual 107, 3) := by decide +kernel
theorem d_M_begin_12 : decode b_M_begin 12 = .ok (.iconst 0, 1) := by decide +kernel
theorem d_M_begin_13 : decode b_M_begin 13 = .ok (.istore_n 1, 1) := by decide +kernel
theorem d_M_begin_14 : decode b_M_begin 14 = .ok (.iload_n 1, 1) := by decide +kernel
theorem d_M_begin_15 : decode b_M_begin 15 = .ok (.bipush 12, 2) := by decide +kernel
theorem d_M_begin_17 : decode b_M_begin 17 = .ok (.if_icmp .ge 16, 3) := by decide +kernel
theorem d_M_begin_20 : decode b_M_begin 20 = .ok (.aload_n 0, 1) := by decide +kernel
theorem d_M_begin_21 : decode b_M_begin 21 = .ok (.getfield 61, 3) := by decide +kernel
theorem d_M_begin_24 : decode b_M_begin 24 = .ok (.iload_n 1, 1) := by decide +kernel
theorem d_M_begin_25 : decode b_M_begin 25 = .ok (.iconst 0, 1) := by decide +kernel
theorem d_M_begin_26 : decode b_M_begin 26 = .ok (.iastore, 1) := by decide +kernel
theorem d_M_begin_27 : decode b_M_begin 27 = .ok (.iinc 1 1, 3) := by decide +kernel
theorem d_M_begin_30 : decode b_M_begin 30 = .ok (.goto (-16), 3) := by decide +kernel
theorem d_M_begin_33 : decode b_M_begin 33 = .ok (.aload_n 0, 1) := by decide +kernel
theorem d_M_begin_34 : decode b_M_begin 34 = .ok (.invokevirtual 146, 3) := by decide +kernel
theorem d_M_begin_37 : decode b_M_begin 37 = .ok (.aload_n 0, 1) := by decide +kernel
theorem d_M_begin_38 : decode b_M_begin 38 = .ok (.iconst 0, 1) := by decide +kernel
theorem d_M_begin_39 : decode b_M_begin 39 = .ok (.putfield 139, 3) := by decide +kernel
theorem d_M_begin_42 : decode b_M_begin 42 = .ok (.aload_n 0, 1) := by decide +kernel
theorem d_M_begin_43 : decode b_M_begin 43 = .ok (.iconst (-1), 1) := by decide +kernel
theorem d_M_begin_44 : decode b_M_begin 44 = .ok (.iconst (-1), 1) := by decide +kernel
theorem d_M_begin_45 : decode b_M_begin 45 = .ok (.invokevirtual 149, 3) := by decide +kernel
theorem d_M_begin_48 : decode b_M_begin 48 = .ok (.return_, 1) := by decide +kernel
theorem d_M_form_0 : decode b_M_form 0 = .ok (.aload_n 0, 1) := by decide +kernel
theorem d_M_form_1 : decode b_M_form 1 = .ok (.iconst 0, 1) := by decide +kernel
theorem d_M_form_2 : decode b_M_form 2 = .ok (.putfield 124, 3) := by decide +kernel
theorem d_M_form_5 : decode b_M_form 5 = .ok (.iconst 0, 1) := by decide +kernel
theorem d_M_form_6 : decode b_M_form 6 = .ok (.istore_n 1, 1) := by decide +kernel
theorem d_M_form_7 : decode b_M_form 7 = .ok (.iload_n 1, 1) := by decide +kernel
theorem d_M_form_8 : decode b_M_form 8 = .ok (.aload_n 0, 1) := by decide +kernel
theorem d_M_form_9 : decode b_M_form 9 = .ok (.getfield 76, 3) := by decide +kernel
theorem d_M_form_12 : decode b_M_form 12 = .ok (.if_icmp .ge 101, 3) := by decide +kernel
theorem d_M_form_15 : decode b_M_form 15 = .ok (.aload_n 0, 1) := by decide +kernel
theorem d_M_form_16 : decode b_M_form 16 = .ok (.iload_n 1, 1) := by decide +kernel
theorem d_M_form_17 : decode b_M_form 17 = .ok (.invokevirtual 127, 3) := by decide +kernel
theorem d_M_form_20 : decode b_M_form 20 = .ok (.iload_n 1, 1) := by decide +kernel
theorem d_M_form_21 : decode b_M_form 21 = .ok (.ifCond .ne 7, 3) := by decide +kernel
theorem d_M_form_24 : decode b_M_form 24 = .ok (.iconst (-1), 1) := by decide +kernel
theorem d_M_form_25 : decode b_M_form 25 = .ok (.goto 22, 3) := by decide +kernel
theorem d_M_form_28 : decode b_M_form 28 = .ok (.aload_n 0, 1) := by decide +kernel
theorem d_M_form_29 : decode b_M_form 29 = .ok (.getfield 64, 3) := by decide +kernel
theorem d_M_form_32 : decode b_M_form 32 = .ok (.aload_n 0, 1) := by decide +kernel
theorem d_M_form_33 : decode b_M_form 33 = .ok (.getfield 67, 3) := by decide +kernel
theorem d_M_form_36 : decode b_M_form 36 = .ok (.iconst 5, 1) := by decide +kernel
theorem d_M_form_37 : decode b_M_form 37 = .ok (.aload_n 0, 1) := by decide +kernel
theorem d_M_form_38 : decode b_M_form 38 = .ok (.getfield 61, 3) := by decide +kernel
theorem d_M_form_41 : decode b_M_form 41 = .ok (.iconst 4, 1) := by decide +kernel
theorem d_M_form_42 : decode b_M_form 42 = .ok (.iaload, 1) := by decide +kernel
theorem d_M_form_43 : decode b_M_form 43 = .ok (.iadd, 1) := by decide +kernel
theorem d_M_form_44 : decode b_M_form 44 = .ok (.invokestatic 131, 3) := by decide +kernel
theorem d_M_form_47 : decode b_M_form 47 = .ok (.istore_n 2, 1) := by decide +kernel
theorem d_M_form_48 : decode b_M_form 48 = .ok (.iload_n 2, 1) := by decide +kernel
theorem d_M_form_49 : decode b_M_form 49 = .ok (.ifCond .ge 8, 3) := by decide +kernel
theorem d_M_form_52 : decode b_M_form 52 = .ok (.aload_n 0, 1) := by decide +kernel
theorem d_M_form_53 : decode b_M_form 53 = .ok (.iconst 0, 1) := by decide +kernel
theorem d_M_form_54 : decode b_M_form 54 = .ok (.putfield 124, 3) := by decide +kernel
theorem d_M_form_57 : decode b_M_form 57 = .ok (.iload_n 2, 1) := by decide +kernel
theorem d_M_form_58 : decode b_M_form 58 = .ok (.ifCond .gt 13, 3) := by decide +kernel
theorem d_M_form_61 : decode b_M_form 61 = .ok (.aload_n 0, 1) := by decide +kernel
theorem d_M_form_62 : decode b_M_form 62 = .ok (.dup, 1) := by decide +kernel
theorem d_M_form_63 : decode b_M_form 63 = .ok (.getfield 124, 3) := by decide +kernel
theorem d_M_form_66 : decode b_M_form 66 = .ok (.iconst 1, 1) := by decide +kernel
theorem d_M_form_67 : decode b_M_form 67 = .ok (.iadd, 1) := by decide +kernel
theorem d_M_form_68 : decode b_M_form 68 = .ok (.putfield 124, 3) := by decide +kernel
theorem d_M_form_71 : decode b_M_form 71 = .ok (.iconst 0, 1) := by decide +kernel
theorem d_M_form_72 : decode b_M_form 72 = .ok (.istore_n 3, 1) := by decide +kernel
theorem d_M_form_73 : decode b_M_form 73 = .ok (.iload_n 3, 1) := by decide +kernel
theorem d_M_form_74 : decode b_M_form 74 = .ok (.iconst 5, 1) := by decide +kernel
theorem d_M_form_75 : decode b_M_form 75 = .ok (.aload_n 0, 1) := by decide +kernel
theorem d_M_form_76 : decode b_M_form 76 = .ok (.getfield 61, 3) := by decide +kernel
theorem d_M_form_79 : decode b_M_form 79 = .ok (.iconst 4, 1) := by decide +kernel
theorem d_M_form_80 : decode b_M_form 80 = .ok (.iaload, 1) := by decide +kernel
theorem d_M_form_81 : decode b_M_form 81 = .ok (.iadd, 1) := by decide +kernel
theorem d_M_form_82 : decode b_M_form 82 = .ok (.if_icmp .ge 25, 3) := by decide +kernel
theorem d_M_form_85 : decode b_M_form 85 = .ok (.iload_n 2, 1) := by decide +kernel
theorem d_M_form_86 : decode b_M_form 86 = .ok (.ifCond .ge 21, 3) := by decide +kernel
theorem d_M_form_89 : decode b_M_form 89 = .ok (.aload_n 0, 1) := by decide +kernel
theorem d_M_form_90 : decode b_M_form 90 = .ok (.getfield 67, 3) := by decide +kernel
theorem d_M_form_93 : decode b_M_form 93 = .ok (.iload_n 3, 1) := by decide +kernel
theorem d_M_form_94 : decode b_M_form 94 = .ok (.aload_n 0, 1) := by decide +kernel
theorem d_M_form_95 : decode b_M_form 95 = .ok (.getfield 64, 3) := by decide +kernel
theorem d_M_form_98 : decode b_M_form 98 = .ok (.iload_n 3, 1) := by decide +kernel
theorem d_M_form_99 : decode b_M_form 99 = .ok (.iaload, 1) := by decide +kernel
theorem d_M_form_100 : decode b_M_form 100 = .ok (.iastore, 1) := by decide +kernel
theorem d_M_form_101 : decode b_M_form 101 = .ok (.iinc 3 1, 3) := by decide +kernel
theorem d_M_form_104 : decode b_M_form 104 = .ok (.goto (-31), 3) := by decide +kernel
theorem d_M_form_107 : decode b_M_form 107 = .ok (.iinc 1 1, 3) := by decide +kernel
theorem d_M_form_110 : decode b_M_form 110 = .ok (.goto (-103), 3) := by decide +kernel
theorem d_M_form_113 : decode b_M_form 113 = .ok (.return_, 1) := by decide +kernel
theorem d_M_number_0 : decode b_M_number 0 = .ok (.iconst 0, 1) := by decide +kernel
theorem d_M_number_1 : decode b_M_number 1 = .ok (.istore_n 2, 1) := by decide +kernel
theorem d_M_number_2 : decode b_M_number 2 = .ok (.iload_n 2, 1) := by decide +kernel
theorem d_M_number_3 : decode b_M_number 3 = .ok (.iconst 5, 1) := by decide +kernel
theorem d_M_number_4 : decode b_M_number 4 = .ok (.if_icmp .ge 16, 3) := by decide +kernel
theorem d_M_number_7 : decode b_M_number 7 = .ok (.aload_n 0, 1) := by decide +kernel
theorem d_M_number_8 : decode b_M_number 8 = .ok (.getfield 64, 3) := by decide +kernel
theorem d_M_number_11 : decode b_M_number 11 = .ok (.iload_n 2, 1) := by decide +kernel
theorem d_M_number_12 : decode b_M_number 12 = .ok (.iconst 0, 1) := by decide +kernel
theorem d_M_number_13 : decode b_M_number 13 = .ok (.iastore, 1) := by decide +kernel
theorem d_M_number_14 : decode b_M_number 14 = .ok (.iinc 2 1, 3) := by decide +kernel
theorem d_M_number_17 : decode b_M_number 17 = .ok (.goto (-15), 3) := by decide +kernel
theorem d_M_number_20 : decode b_M_number 20 = .ok (.iconst 0, 1) := by decide +kernel
theorem d_M_number_21 : decode b_M_number 21 = .ok (.istore_n 2, 1) := by decide +kernel
theorem d_M_number_22 : decode b_M_number 22 = .ok (.iload_n 2, 1) := by decide +kernel
theorem d_M_number_23 : decode b_M_number 23 = .ok (.aload_n 0, 1) := by decide +kernel
theorem d_M_number_24 : decode b_M_number 24 = .ok (.getfield 70, 3) := by decide +kernel
theorem d_M_number_27 : decode b_M_number 27 = .ok (.if_icmp .ge 30, 3) := by decide +kernel
theorem d_M_number_30 : decode b_M_number 30 = .ok (.aload_n 0, 1) := by decide +kernel
theorem d_M_number_31 : decode b_M_number 31 = .ok (.getfield 64, 3) := by decide +kernel
theorem d_M_number_34 : decode b_M_number 34 = .ok (.aload_n 0, 1) := by decide +kernel
theorem d_M_number_35 : decode b_M_number 35 = .ok (.getfield 36, 3) := by decide +kernel
theorem d_M_number_38 : decode b_M_number 38 = .ok (.iconst 4, 1) := by decide +kernel
theorem d_M_number_39 : decode b_M_number 39 = .ok (.iload_n 1, 1) := by decide +kernel
theorem d_M_number_40 : decode b_M_number 40 = .ok (.imul, 1) := by decide +kernel
theorem d_M_number_41 : decode b_M_number 41 = .ok (.iload_n 2, 1) := by decide +kernel
theorem d_M_number_42 : decode b_M_number 42 = .ok (.iadd, 1) := by decide +kernel
theorem d_M_number_43 : decode b_M_number 43 = .ok (.iaload, 1) := by decide +kernel
theorem d_M_number_44 : decode b_M_number 44 = .ok (.aload_n 0, 1) := by decide +kernel
theorem d_M_number_45 : decode b_M_number 45 = .ok (.getfield 61, 3) := by decide +kernel
theorem d_M_number_48 : decode b_M_number 48 = .ok (.iload_n 2, 1) := by decide +kernel
theorem d_M_number_49 : decode b_M_number 49 = .ok (.iaload, 1) := by decide +kernel
theorem d_M_number_50 : decode b_M_number 50 = .ok (.iastore, 1) := by decide +kernel
theorem d_M_number_51 : decode b_M_number 51 = .ok (.iinc 2 1, 3) := by decide +kernel
theorem d_M_number_54 : decode b_M_number 54 = .ok (.goto (-32), 3) := by decide +kernel
theorem d_M_number_57 : decode b_M_number 57 = .ok (.iconst 0, 1) := by decide +kernel
theorem d_M_number_58 : decode b_M_number 58 = .ok (.istore_n 2, 1) := by decide +kernel
theorem d_M_number_59 : decode b_M_number 59 = .ok (.iload_n 2, 1) := by decide +kernel
theorem d_M_number_60 : decode b_M_number 60 = .ok (.aload_n 0, 1) := by decide +kernel
theorem d_M_number_61 : decode b_M_number 61 = .ok (.getfield 61, 3) := by decide +kernel
theorem d_M_number_64 : decode b_M_number 64 = .ok (.iconst 4, 1) := by decide +kernel
theorem d_M_number_65 : decode b_M_number 65 = .ok (.iaload, 1) := by decide +kernel
theorem d_M_number_66 : decode b_M_number 66 = .ok (.if_icmp .ge 63, 3) := by decide +kernel
theorem d_M_number_69 : decode b_M_number 69 = .ok (.aload_n 0, 1) := by decide +kernel
theorem d_M_number_70 : decode b_M_number 70 = .ok (.getfield 61, 3) := by decide +kernel
theorem d_M_number_73 : decode b_M_number 73 = .ok (.iconst 5, 1) := by decide +kernel
theorem d_M_number_74 : decode b_M_number 74 = .ok (.iload_n 2, 1) := by decide +kernel
theorem d_M_number_75 : decode b_M_number 75 = .ok (.iadd, 1) := by decide +kernel
theorem d_M_number_76 : decode b_M_number 76 = .ok (.iaload, 1) := by decide +kernel
theorem d_M_number_77 : decode b_M_number 77 = .ok (.istore_n 3, 1) := by decide +kernel
theorem d_M_number_78 : decode b_M_number 78 = .ok (.aload_n 0, 1) := by decide +kernel
theorem d_M_number_79 : decode b_M_number 79 = .ok (.aload_n 0, 1) := by decide +kernel
theorem d_M_number_80 : decode b_M_number 80 = .ok (.getfield 64, 3) := by decide +kernel
theorem d_M_number_83 : decode b_M_number 83 = .ok (.bipush 16, 2) := by decide +kernel
theorem d_M_number_85 : decode b_M_number 85 = .ok (.iload_n 3, 1) := by decide +kernel
theorem d_M_number_86 : decode b_M_number 86 = .ok (.bipush 16, 2) := by decide +kernel
theorem d_M_number_88 : decode b_M_number 88 = .ok (.idiv, 1) := by decide +kernel
theorem d_M_number_89 : decode b_M_number 89 = .ok (.imul, 1) := by decide +kernel
theorem d_M_number_90 : decode b_M_number 90 = .ok (.iconst 4, 1) := by decide +kernel
theorem d_M_number_91 : decode b_M_number 91 = .ok (.aload_n 0, 1) := by decide +kernel
theorem d_M_number_92 : decode b_M_number 92 = .ok (.getfield 36, 3) := by decide +kernel
theorem d_M_number_95 : decode b_M_number 95 = .ok (.iconst 4, 1) := by decide +kernel
theorem d_M_number_96 : decode b_M_number 96 = .ok (.iload_n 1, 1) := by decide +kernel
theorem d_M_number_97 : decode b_M_number 97 = .ok (.imul, 1) := by decide +kernel
theorem d_M_number_98 : decode b_M_number 98 = .ok (.iload_n 3, 1) := by decide +kernel
theorem d_M_number_99 : decode b_M_number 99 = .ok (.iconst 4, 1) := by decide +kernel
theorem d_M_number_100 : decode b_M_number 100 = .ok (.idiv, 1) := by decide +kernel
theorem d_M_number_101 : decode b_M_number 101 = .ok (.iconst 4, 1) := by decide +kernel
theorem d_M_number_102 : decode b_M_number 102 = .ok (.irem, 1) := by decide +kernel
theorem d_M_number_103 : decode b_M_number 103 = .ok (.iadd, 1) := by decide +kernel
theorem d_M_number_104 : decode b_M_number 104 = .ok (.iaload, 1) := by decide +kernel
theorem d_M_number_105 : decode b_M_number 105 = .ok (.imul, 1) := by decide +kernel
theorem d_M_number_106 : decode b_M_number 106 = .ok (.iadd, 1) := by decide +kernel
theorem d_M_number_107 : decode b_M_number 107 = .ok (.aload_n 0, 1) := by decide +kernel
theorem d_M_number_108 : decode b_M_number 108 = .ok (.getfield 36, 3) := by decide +kernel
theorem d_M_number_111 : decode b_M_number 111 = .ok (.iconst 4, 1) := by decide +kernel
theorem d_M_number_112 : decode b_M_number 112 = .ok (.iload_n 1, 1) := by decide +kernel
theorem d_M_number_113 : decode b_M_number 113 = .ok (.imul, 1) := by decide +kernel
theorem d_M_number_114 : decode b_M_number 114 = .ok (.iload_n 3, 1) := by decide +kernel
theorem d_M_number_115 : decode b_M_number 115 = .ok (.iconst 4, 1) := by decide +kernel
theorem d_M_number_116 : decode b_M_number 116 = .ok (.irem, 1) := by decide +kernel
theorem d_M_number_117 : decode b_M_number 117 = .ok (.iadd, 1) := by decide +kernel
theorem d_M_number_118 : decode b_M_number 118 = .ok (.iaload, 1) := by decide +kernel
theorem d_M_number_119 : decode b_M_number 119 = .ok (.iadd, 1) := by decide +kernel
theorem d_M_number_120 : decode b_M_number 120 = .ok (.invokevirtual 120, 3) := by decide +kernel
theorem d_M_number_123 : decode b_M_number 123 = .ok (.iinc 2 1, 3) := by decide +kernel
theorem d_M_number_126 : decode b_M_number 126 = .ok (.goto (-67), 3) := by decide +kernel
theorem d_M_number_129 : decode b_M_number 129 = .ok (.return_, 1) := by decide +kernel
theorem d_M_add_0 : decode b_M_add 0 = .ok (.aload_n 1, 1) := by decide +kernel
theorem d_M_add_1 : decode b_M_add 1 = .ok (.iconst 4, 1) := by decide +kernel
theorem d_M_add_2 : decode b_M_add 2 = .ok (.iaload, 1) := by decide +kernel
theorem d_M_add_3 : decode b_M_add 3 = .ok (.istore_n 3, 1) := by decide +kernel
theorem d_M_add_4 : decode b_M_add 4 = .ok (.iload_n 3, 1) := by decide +kernel
theorem d_M_add_5 : decode b_M_add 5 = .ok (.istore 4, 2) := by decide +kernel
theorem d_M_add_7 : decode b_M_add 7 = .ok (.iload 4, 2) := by decide +kernel
theorem d_M_add_9 : decode b_M_add 9 = .ok (.ifCond .le 31, 3) := by decide +kernel
theorem d_M_add_12 : decode b_M_add 12 = .ok (.aload_n 1, 1) := by decide +kernel
theorem d_M_add_13 : decode b_M_add 13 = .ok (.iconst 4, 1) := by decide +kernel
theorem d_M_add_14 : decode b_M_add 14 = .ok (.iload 4, 2) := by decide +kernel
theorem d_M_add_16 : decode b_M_add 16 = .ok (.iadd, 1) := by decide +kernel
theorem d_M_add_17 : decode b_M_add 17 = .ok (.iaload, 1) := by decide +kernel
theorem d_M_add_18 : decode b_M_add 18 = .ok (.iload_n 2, 1) := by decide +kernel
theorem d_M_add_19 : decode b_M_add 19 = .ok (.if_icmp .le 21, 3) := by decide +kernel
theorem d_M_add_22 : decode b_M_add 22 = .ok (.aload_n 1, 1) := by decide +kernel
theorem d_M_add_23 : decode b_M_add 23 = .ok (.iconst 5, 1) := by decide +kernel
theorem d_M_add_24 : decode b_M_add 24 = .ok (.iload 4, 2) := by decide +kernel
theorem d_M_add_26 : decode b_M_add 26 = .ok (.iadd, 1) := by decide +kernel
theorem d_M_add_27 : decode b_M_add 27 = .ok (.aload_n 1, 1) := by decide +kernel
theorem d_M_add_28 : decode b_M_add 28 = .ok (.iconst 4, 1) := by decide +kernel
theorem d_M_add_29 : decode b_M_add 29 = .ok (.iload 4, 2) := by decide +kernel
theorem d_M_add_31 : decode b_M_add 31 = .ok (.iadd, 1) := by decide +kernel
theorem d_M_add_32 : decode b_M_add 32 = .ok (.iaload, 1) := by decide +kernel
theorem d_M_add_33 : decode b_M_add 33 = .ok (.iastore, 1) := by decide +kernel
theorem d_M_add_34 : decode b_M_add 34 = .ok (.iinc 4 (-1), 3) := by decide +kernel
theorem d_M_add_37 : decode b_M_add 37 = .ok (.goto (-30), 3) := by decide +kernel
theorem d_M_add_40 : decode b_M_add 40 = .ok (.aload_n 1, 1) := by decide +kernel
theorem d_M_add_41 : decode b_M_add 41 = .ok (.iconst 5, 1) := by decide +kernel
theorem d_M_add_42 : decode b_M_add 42 = .ok (.iload 4, 2) := by decide +kernel
theorem d_M_add_44 : decode b_M_add 44 = .ok (.iadd, 1) := by decide +kernel
theorem d_M_add_45 : decode b_M_add 45 = .ok (.iload_n 2, 1) := by decide +kernel
theorem d_M_add_46 : decode b_M_add 46 = .ok (.iastore, 1) := by decide +kernel
theorem d_M_add_47 : decode b_M_add 47 = .ok (.aload_n 1, 1) := by decide +kernel
theorem d_M_add_48 : decode b_M_add 48 = .ok (.iconst 4, 1) := by decide +kernel
theorem d_M_add_49 : decode b_M_add 49 = .ok (.iload_n 3, 1) := by decide +kernel
theorem d_M_add_50 : decode b_M_add 50 = .ok (.iconst 1, 1) := by decide +kernel
theorem d_M_add_51 : decode b_M_add 51 = .ok (.iadd, 1) := by decide +kernel
theorem d_M_add_52 : decode b_M_add 52 = .ok (.iastore, 1) := by decide +kernel
theorem d_M_add_53 : decode b_M_add 53 = .ok (.return_, 1) := by decide +kernel
theorem d_M_compare_0 : decode b_M_compare 0 = .ok (.iconst 0, 1) := by decide +kernel
theorem d_M_compare_1 : decode b_M_compare 1 = .ok (.istore_n 3, 1) := by decide +kernel
theorem d_M_compare_2 : decode b_M_compare 2 = .ok (.iload_n 3, 1) := by decide +kernel
theorem d_M_compare_3 : decode b_M_compare 3 = .ok (.iload_n 2, 1) := by decide +kernel
theorem d_M_compare_4 : decode b_M_compare 4 = .ok (.if_icmp .ge 33, 3) := by decide +kernel
theorem d_M_compare_7 : decode b_M_compare 7 = .ok (.aload_n 0, 1) := by decide +kernel
theorem d_M_compare_8 : decode b_M_compare 8 = .ok (.iload_n 3, 1) := by decide +kernel
theorem d_M_compare_9 : decode b_M_compare 9 = .ok (.iaload, 1) := by decide +kernel
theorem d_M_compare_10 : decode b_M_compare 10 = .ok (.aload_n 1, 1) := by decide +kernel
theorem d_M_compare_11 : decode b_M_compare 11 = .ok (.iload_n 3, 1) := by decide +kernel
theorem d_M_compare_12 : decode b_M_compare 12 = .ok (.iaload, 1) := by decide +kernel
theorem d_M_compare_13 : decode b_M_compare 13 = .ok (.if_icmp .eq 18, 3) := by decide +kernel
theorem d_M_compare_16 : decode b_M_compare 16 = .ok (.aload_n 0, 1) := by decide +kernel
theorem d_M_compare_17 : decode b_M_compare 17 = .ok (.iload_n 3, 1) := by decide +kernel
theorem d_M_compare_18 : decode b_M_compare 18 = .ok (.iaload, 1) := by decide +kernel
theorem d_M_compare_19 : decode b_M_compare 19 = .ok (.aload_n 1, 1) := by decide +kernel
theorem d_M_compare_20 : decode b_M_compare 20 = .ok (.iload_n 3, 1) := by decide +kernel
theorem d_M_compare_21 : decode b_M_compare 21 = .ok (.iaload, 1) := by decide +kernel
theorem d_M_compare_22 : decode b_M_compare 22 = .ok (.if_icmp .ge 7, 3) := by decide +kernel
theorem d_M_compare_25 : decode b_M_compare 25 = .ok (.iconst (-1), 1) := by decide +kernel
theorem d_M_compare_26 : decode b_M_compare 26 = .ok (.goto 4, 3) := by decide +kernel
theorem d_M_compare_29 : decode b_M_compare 29 = .ok (.iconst 1, 1) := by decide +kernel
theorem d_M_compare_30 : decode b_M_compare 30 = .ok (.ireturn, 1) := by decide +kernel
theorem d_M_compare_31 : decode b_M_compare 31 = .ok (.iinc 3 1, 3) := by decide +kernel
theorem d_M_compare_34 : decode b_M_compare 34 = .ok (.goto (-32), 3) := by decide +kernel
theorem d_M_compare_37 : decode b_M_compare 37 = .ok (.iconst 0, 1) := by decide +kernel
theorem d_M_compare_38 : decode b_M_compare 38 = .ok (.ireturn, 1) := by decide +kernel
theorem d_M_come_0 : decode b_M_come 0 = .ok (.aload_n 0, 1) := by decide +kernel
theorem d_M_come_1 : decode b_M_come 1 = .ok (.getfield 82, 3) := by decide +kernel
theorem d_M_come_4 : decode b_M_come 4 = .ok (.istore_n 3, 1) := by decide +kernel
theorem d_M_come_5 : decode b_M_come 5 = .ok (.iload_n 3, 1) := by decide +kernel
theorem d_M_come_6 : decode b_M_come 6 = .ok (.aload_n 0, 1) := by decide +kernel
theorem d_M_come_7 : decode b_M_come 7 = .ok (.getfield 139, 3) := by decide +kernel
theorem d_M_come_10 : decode b_M_come 10 = .ok (.if_icmp .le 23, 3) := by decide +kernel
theorem d_M_come_13 : decode b_M_come 13 = .ok (.aload_n 0, 1) := by decide +kernel
theorem d_M_come_14 : decode b_M_come 14 = .ok (.getfield 43, 3) := by decide +kernel
theorem d_M_come_17 : decode b_M_come 17 = .ok (.iload_n 3, 1) := by decide +kernel
theorem d_M_come_18 : decode b_M_come 18 = .ok (.aload_n 0, 1) := by decide +kernel
theorem d_M_come_19 : decode b_M_come 19 = .ok (.getfield 43, 3) := by decide +kernel
theorem d_M_come_22 : decode b_M_come 22 = .ok (.iload_n 3, 1) := by decide +kernel
theorem d_M_come_23 : decode b_M_come 23 = .ok (.iconst 1, 1) := by decide +kernel
theorem d_M_come_24 : decode b_M_come 24 = .ok (.isub, 1) := by decide +kernel
theorem d_M_come_25 : decode b_M_come 25 = .ok (.iaload, 1) := by decide +kernel
theorem d_M_come_26 : decode b_M_come 26 = .ok (.iastore, 1) := by decide +kernel
theorem d_M_come_27 : decode b_M_come 27 = .ok (.iinc 3 (-1), 3) := by decide +kernel
theorem d_M_come_30 : decode b_M_come 30 = .ok (.goto (-25), 3) := by decide +kernel
theorem d_M_come_33 : decode b_M_come 33 = .ok (.aload_n 0, 1) := by decide +kernel
theorem d_M_come_34 : decode b_M_come 34 = .ok (.getfield 43, 3) := by decide +kernel
theorem d_M_come_37 : decode b_M_come 37 = .ok (.aload_n 0, 1) := by decide +kernel
theorem d_M_come_38 : decode b_M_come 38 = .ok (.getfield 139, 3) := by decide +kernel
theorem d_M_come_41 : decode b_M_come 41 = .ok (.aload_n 0, 1) := by decide +kernel
theorem d_M_come_42 : decode b_M_come 42 = .ok (.getfield 82, 3) := by decide +kernel
theorem d_M_come_45 : decode b_M_come 45 = .ok (.iastore, 1) := by decide +kernel
theorem d_M_come_46 : decode b_M_come 46 = .ok (.iconst 0, 1) := by decide +kernel
theorem d_M_come_47 : decode b_M_come 47 = .ok (.istore_n 3, 1) := by decide +kernel
theorem d_M_come_48 : decode b_M_come 48 = .ok (.iload_n 3, 1) := by decide +kernel
theorem d_M_come_49 : decode b_M_come 49 = .ok (.iconst 5, 1) := by decide +kernel
theorem d_M_come_50 : decode b_M_come 50 = .ok (.aload_n 0, 1) := by decide +kernel
theorem d_M_come_51 : decode b_M_come 51 = .ok (.getfield 67, 3) := by decide +kernel
theorem d_M_come_54 : decode b_M_come 54 = .ok (.iconst 4, 1) := by decide +kernel
theorem d_M_come_55 : decode b_M_come 55 = .ok (.iaload, 1) := by decide +kernel
theorem d_M_come_56 : decode b_M_come 56 = .ok (.iadd, 1) := by decide +kernel
theorem d_M_come_57 : decode b_M_come 57 = .ok (.if_icmp .ge 29, 3) := by decide +kernel
theorem d_M_come_60 : decode b_M_come 60 = .ok (.aload_n 0, 1) := by decide +kernel
theorem d_M_come_61 : decode b_M_come 61 = .ok (.getfield 40, 3) := by decide +kernel
theorem d_M_come_64 : decode b_M_come 64 = .ok (.bipush 12, 2) := by decide +kernel
theorem d_M_come_66 : decode b_M_come 66 = .ok (.aload_n 0, 1) := by decide +kernel
theorem d_M_come_67 : decode b_M_come 67 = .ok (.getfield 82, 3) := by decide +kernel
theorem d_M_come_70 : decode b_M_come 70 = .ok (.imul, 1) := by decide +kernel
theorem d_M_come_71 : decode b_M_come 71 = .ok (.iload_n 3, 1) := by decide +kernel
theorem d_M_come_72 : decode b_M_come 72 = .ok (.iadd, 1) := by decide +kernel
theorem d_M_come_73 : decode b_M_come 73 = .ok (.aload_n 0, 1) := by decide +kernel
theorem d_M_come_74 : decode b_M_come 74 = .ok (.getfield 67, 3) := by decide +kernel
theorem d_M_come_77 : decode b_M_come 77 = .ok (.iload_n 3, 1) := by decide +kernel
theorem d_M_come_78 : decode b_M_come 78 = .ok (.iaload, 1) := by decide +kernel
theorem d_M_come_79 : decode b_M_come 79 = .ok (.iastore, 1) := by decide +kernel
theorem d_M_come_80 : decode b_M_come 80 = .ok (.iinc 3 1, 3) := by decide +kernel
theorem d_M_come_83 : decode b_M_come 83 = .ok (.goto (-35), 3) := by decide +kernel
theorem d_M_come_86 : decode b_M_come 86 = .ok (.aload_n 0, 1) := by decide +kernel
theorem d_M_come_87 : decode b_M_come 87 = .ok (.getfield 46, 3) := by decide +kernel
theorem d_M_come_90 : decode b_M_come 90 = .ok (.aload_n 0, 1) := by decide +kernel
theorem d_M_come_91 : decode b_M_come 91 = .ok (.getfield 82, 3) := by decide +kernel
theorem d_M_come_94 : decode b_M_come 94 = .ok (.iload_n 1, 1) := by decide +kernel
theorem d_M_come_95 : decode b_M_come 95 = .ok (.ifCond .ge 7, 3) := by decide +kernel
theorem d_M_come_98 : decode b_M_come 98 = .ok (.iconst 0, 1) := by decide +kernel
theorem d_M_come_99 : decode b_M_come 99 = .ok (.goto 11, 3) := by decide +kernel
theorem d_M_come_102 : decode b_M_come 102 = .ok (.aload_n 0, 1) := by decide +kernel
theorem d_M_come_103 : decode b_M_come 103 = .ok (.getfield 46, 3) := by decide +kernel
theorem d_M_come_106 : decode b_M_come 106 = .ok (.iload_n 1, 1) := by decide +kernel
theorem d_M_come_107 : decode b_M_come 107 = .ok (.iaload, 1) := by decide +kernel
theorem d_M_come_108 : decode b_M_come 108 = .ok (.iconst 1, 1) := by decide +kernel
theorem d_M_come_109 : decode b_M_come 109 = .ok (.iadd, 1) := by decide +kernel
theorem d_M_come_110 : decode b_M_come 110 = .ok (.iastore, 1) := by decide +kernel
theorem d_M_come_111 : decode b_M_come 111 = .ok (.aload_n 0, 1) := by decide +kernel
theorem d_M_come_112 : decode b_M_come 112 = .ok (.getfield 49, 3) := by decide +kernel
theorem d_M_come_115 : decode b_M_come 115 = .ok (.aload_n 0, 1) := by decide +kernel
theorem d_M_come_116 : decode b_M_come 116 = .ok (.getfield 82, 3) := by decide +kernel
theorem d_M_come_119 : decode b_M_come 119 = .ok (.iload_n 1, 1) := by decide +kernel
theorem d_M_come_120 : decode b_M_come 120 = .ok (.iastore, 1) := by decide +kernel
theorem d_M_come_121 : decode b_M_come 121 = .ok (.aload_n 0, 1) := by decide +kernel
theorem d_M_come_122 : decode b_M_come 122 = .ok (.getfield 52, 3) := by decide +kernel
theorem d_M_come_125 : decode b_M_come 125 = .ok (.aload_n 0, 1) := by decide +kernel
theorem d_M_come_126 : decode b_M_come 126 = .ok (.getfield 82, 3) := by decide +kernel
theorem d_M_come_129 : decode b_M_come 129 = .ok (.iload_n 2, 1) := by decide +kernel
theorem d_M_come_130 : decode b_M_come 130 = .ok (.iastore, 1) := by decide +kernel
theorem d_M_come_131 : decode b_M_come 131 = .ok (.aload_n 0, 1) := by decide +kernel
theorem d_M_come_132 : decode b_M_come 132 = .ok (.getfield 55, 3) := by decide +kernel
theorem d_M_come_135 : decode b_M_come 135 = .ok (.aload_n 0, 1) := by decide +kernel
theorem d_M_come_136 : decode b_M_come 136 = .ok (.getfield 82, 3) := by decide +kernel
theorem d_M_come_139 : decode b_M_come 139 = .ok (.iconst (-1), 1) := by decide +kernel
theorem d_M_come_140 : decode b_M_come 140 = .ok (.iastore, 1) := by decide +kernel
theorem d_M_come_141 : decode b_M_come 141 = .ok (.aload_n 0, 1) := by decide +kernel
theorem d_M_come_142 : decode b_M_come 142 = .ok (.getfield 58, 3) := by decide +kernel
theorem d_M_come_145 : decode b_M_come 145 = .ok (.aload_n 0, 1) := by decide +kernel
theorem d_M_come_146 : decode b_M_come 146 = .ok (.getfield 82, 3) := by decide +kernel
theorem d_M_come_149 : decode b_M_come 149 = .ok (.aload_n 0, 1) := by decide +kernel
theorem d_M_come_150 : decode b_M_come 150 = .ok (.getfield 124, 3) := by decide +kernel
theorem d_M_come_153 : decode b_M_come 153 = .ok (.iastore, 1) := by decide +kernel
theorem d_M_come_154 : decode b_M_come 154 = .ok (.aload_n 0, 1) := by decide +kernel
theorem d_M_come_155 : decode b_M_come 155 = .ok (.invokevirtual 142, 3) := by decide +kernel
theorem d_M_come_158 : decode b_M_come 158 = .ok (.ifCond .eq 17, 3) := by decide +kernel
theorem d_M_come_161 : decode b_M_come 161 = .ok (.aload_n 0, 1) := by decide +kernel
theorem d_M_come_162 : decode b_M_come 162 = .ok (.aload_n 0, 1) := by decide +kernel
theorem d_M_come_163 : decode b_M_come 163 = .ok (.getfield 82, 3) := by decide +kernel
theorem d_M_come_166 : decode b_M_come 166 = .ok (.putfield 100, 3) := by decide +kernel
theorem d_M_come_169 : decode b_M_come 169 = .ok (.aload_n 0, 1) := by decide +kernel
theorem d_M_come_170 : decode b_M_come 170 = .ok (.bipush (-2), 2) := by decide +kernel
theorem d_M_come_172 : decode b_M_come 172 = .ok (.putfield 97, 3) := by decide +kernel
theorem d_M_come_175 : decode b_M_come 175 = .ok (.aload_n 0, 1) := by decide +kernel
theorem d_M_come_176 : decode b_M_come 176 = .ok (.dup, 1) := by decide +kernel
theorem d_M_come_177 : decode b_M_come 177 = .ok (.getfield 82, 3) := by decide +kernel
theorem d_M_come_180 : decode b_M_come 180 = .ok (.iconst 1, 1) := by decide +kernel
theorem d_M_come_181 : decode b_M_come 181 = .ok (.iadd, 1) := by decide +kernel
theorem d_M_come_182 : decode b_M_come 182 = .ok (.putfield 82, 3) := by decide +kernel
theorem d_M_come_185 : decode b_M_come 185 = .ok (.return_, 1) := by decide +kernel
theorem d_M_isBad_0 : decode b_M_isBad 0 = .ok (.iconst 0, 1) := by decide +kernel
theorem d_M_isBad_1 : decode b_M_isBad 1 = .ok (.istore_n 1, 1) := by decide +kernel
theorem d_M_isBad_2 : decode b_M_isBad 2 = .ok (.iconst 0, 1) := by decide +kernel
theorem d_M_isBad_3 : decode b_M_isBad 3 = .ok (.istore_n 2, 1) := by decide +kernel
theorem d_M_isBad_4 : decode b_M_isBad 4 = .ok (.iload_n 2, 1) := by decide +kernel
theorem d_M_isBad_5 : decode b_M_isBad 5 = .ok (.aload_n 0, 1) := by decide +kernel
theorem d_M_isBad_6 : decode b_M_isBad 6 = .ok (.getfield 70, 3) := by decide +kernel
theorem d_M_isBad_9 : decode b_M_isBad 9 = .ok (.if_icmp .ge 56, 3) := by decide +kernel
theorem d_M_isBad_12 : decode b_M_isBad 12 = .ok (.iconst 0, 1) := by decide +kernel
theorem d_M_isBad_13 : decode b_M_isBad 13 = .ok (.istore_n 3, 1) := by decide +kernel
theorem d_M_isBad_14 : decode b_M_isBad 14 = .ok (.iload_n 3, 1) := by decide +kernel
theorem d_M_isBad_15 : decode b_M_isBad 15 = .ok (.iload_n 2, 1) := by decide +kernel
theorem d_M_isBad_16 : decode b_M_isBad 16 = .ok (.if_icmp .ge 43, 3) := by decide +kernel
theorem d_M_isBad_19 : decode b_M_isBad 19 = .ok (.iload_n 1, 1) := by decide +kernel
theorem d_M_isBad_20 : decode b_M_isBad 20 = .ok (.ifCond .ne 27, 3) := by decide +kernel
theorem d_M_isBad_23 : decode b_M_isBad 23 = .ok (.aload_n 0, 1) := by decide +kernel
theorem d_M_isBad_24 : decode b_M_isBad 24 = .ok (.getfield 32, 3) := by decide +kernel
theorem d_M_isBad_27 : decode b_M_isBad 27 = .ok (.bipush 8, 2) := by decide +kernel
theorem d_M_isBad_29 : decode b_M_isBad 29 = .ok (.aload_n 0, 1) := by decide +kernel
theorem d_M_isBad_30 : decode b_M_isBad 30 = .ok (.getfield 67, 3) := by decide +kernel
theorem d_M_isBad_33 : decode b_M_isBad 33 = .ok (.iload_n 2, 1) := by decide +kernel
theorem d_M_isBad_34 : decode b_M_isBad 34 = .ok (.iaload, 1) := by decide +kernel
theorem d_M_isBad_35 : decode b_M_isBad 35 = .ok (.imul, 1) := by decide +kernel
theorem d_M_isBad_36 : decode b_M_isBad 36 = .ok (.aload_n 0, 1) := by decide +kernel
theorem d_M_isBad_37 : decode b_M_isBad 37 = .ok (.getfield 67, 3) := by decide +kernel
theorem d_M_isBad_40 : decode b_M_isBad 40 = .ok (.iload_n 3, 1) := by decide +kernel
theorem d_M_isBad_41 : decode b_M_isBad 41 = .ok (.iaload, 1) := by decide +kernel
theorem d_M_isBad_42 : decode b_M_isBad 42 = .ok (.iadd, 1) := by decide +kernel
theorem d_M_isBad_43 : decode b_M_isBad 43 = .ok (.baload, 1) := by decide +kernel
theorem d_M_isBad_44 : decode b_M_isBad 44 = .ok (.ifCond .eq 7, 3) := by decide +kernel
theorem d_M_isBad_47 : decode b_M_isBad 47 = .ok (.iconst 1, 1) := by decide +kernel
theorem d_M_isBad_48 : decode b_M_isBad 48 = .ok (.goto 4, 3) := by decide +kernel
theorem d_M_isBad_51 : decode b_M_isBad 51 = .ok (.iconst 0, 1) := by decide +kernel
theorem d_M_isBad_52 : decode b_M_isBad 52 = .ok (.istore_n 1, 1) := by decide +kernel
theorem d_M_isBad_53 : decode b_M_isBad 53 = .ok (.iinc 3 1, 3) := by decide +kernel
theorem d_M_isBad_56 : decode b_M_isBad 56 = .ok (.goto (-42), 3) := by decide +kernel
theorem d_M_isBad_59 : decode b_M_isBad 59 = .ok (.iinc 2 1, 3) := by decide +kernel
theorem d_M_isBad_62 : decode b_M_isBad 62 = .ok (.goto (-58), 3) := by decide +kernel
theorem d_M_isBad_65 : decode b_M_isBad 65 = .ok (.iload_n 1, 1) := by decide +kernel
theorem d_M_isBad_66 : decode b_M_isBad 66 = .ok (.ireturn, 1) := by decide +kernel
theorem d_M_goThrough_0 : decode b_M_goThrough 0 = .ok (.aload_n 0, 1) := by decide +kernel
theorem d_M_goThrough_1 : decode b_M_goThrough 1 = .ok (.getfield 85, 3) := by decide +kernel
theorem d_M_goThrough_4 : decode b_M_goThrough 4 = .ok (.istore_n 1, 1) := by decide +kernel
theorem d_M_goThrough_5 : decode b_M_goThrough 5 = .ok (.iconst 0, 1) := by decide +kernel
theorem d_M_goThrough_6 : decode b_M_goThrough 6 = .ok (.istore_n 2, 1) := by decide +kernel
theorem d_M_goThrough_7 : decode b_M_goThrough 7 = .ok (.iconst 0, 1) := by decide +kernel
theorem d_M_goThrough_8 : decode b_M_goThrough 8 = .ok (.istore_n 3, 1) := by decide +kernel
theorem d_M_goThrough_9 : decode b_M_goThrough 9 = .ok (.iload_n 3, 1) := by decide +kernel
theorem d_M_goThrough_10 : decode b_M_goThrough 10 = .ok (.aload_n 0, 1) := by decide +kernel
theorem d_M_goThrough_11 : decode b_M_goThrough 11 = .ok (.getfield 70, 3) := by decide +kernel
theorem d_M_goThrough_14 : decode b_M_goThrough 14 = .ok (.if_icmp .ge 72, 3) := by decide +kernel
theorem d_M_goThrough_17 : decode b_M_goThrough 17 = .ok (.iconst 0, 1) := by decide +kernel
theorem d_M_goThrough_18 : decode b_M_goThrough 18 = .ok (.istore 4, 2) := by decide +kernel
theorem d_M_goThrough_20 : decode b_M_goThrough 20 = .ok (.iload 4, 2) := by decide +kernel
theorem d_M_goThrough_22 : decode b_M_goThrough 22 = .ok (.aload_n 0, 1) := by decide +kernel
theorem d_M_goThrough_23 : decode b_M_goThrough 23 = .ok (.getfield 117, 3) := by decide +kernel
theorem d_M_goThrough_26 : decode b_M_goThrough 26 = .ok (.if_icmp .ge 54, 3) := by decide +kernel
theorem d_M_goThrough_29 : decode b_M_goThrough 29 = .ok (.aload_n 0, 1) := by decide +kernel
theorem d_M_goThrough_30 : decode b_M_goThrough 30 = .ok (.getfield 40, 3) := by decide +kernel
theorem d_M_goThrough_33 : decode b_M_goThrough 33 = .ok (.bipush 12, 2) := by decide +kernel
theorem d_M_goThrough_35 : decode b_M_goThrough 35 = .ok (.iload_n 1, 1) := by decide +kernel
theorem d_M_goThrough_36 : decode b_M_goThrough 36 = .ok (.imul, 1) := by decide +kernel
theorem d_M_goThrough_37 : decode b_M_goThrough 37 = .ok (.iload_n 3, 1) := by decide +kernel
theorem d_M_goThrough_38 : decode b_M_goThrough 38 = .ok (.iadd, 1) := by decide +kernel
theorem d_M_goThrough_39 : decode b_M_goThrough 39 = .ok (.iaload, 1) := by decide +kernel
theorem d_M_goThrough_40 : decode b_M_goThrough 40 = .ok (.aload_n 0, 1) := by decide +kernel
theorem d_M_goThrough_41 : decode b_M_goThrough 41 = .ok (.getfield 13, 3) := by decide +kernel
theorem d_M_goThrough_44 : decode b_M_goThrough 44 = .ok (.iload 4, 2) := by decide +kernel
theorem d_M_goThrough_46 : decode b_M_goThrough 46 = .ok (.iaload, 1) := by decide +kernel
theorem d_M_goThrough_47 : decode b_M_goThrough 47 = .ok (.if_icmp .eq 6, 3) := by decide +kernel
theorem d_M_goThrough_50 : decode b_M_goThrough 50 = .ok (.goto 24, 3) := by decide +kernel
theorem d_M_goThrough_53 : decode b_M_goThrough 53 = .ok (.aload_n 0, 1) := by decide +kernel
theorem d_M_goThrough_54 : decode b_M_goThrough 54 = .ok (.iload_n 1, 1) := by decide +kernel
theorem d_M_goThrough_55 : decode b_M_goThrough 55 = .ok (.iload_n 3, 1) := by decide +kernel
theorem d_M_goThrough_56 : decode b_M_goThrough 56 = .ok (.iload 4, 2) := by decide +kernel
theorem d_M_goThrough_58 : decode b_M_goThrough 58 = .ok (.invokevirtual 163, 3) := by decide +kernel
theorem d_M_goThrough_61 : decode b_M_goThrough 61 = .ok (.istore 5, 2) := by decide +kernel
theorem d_M_goThrough_63 : decode b_M_goThrough 63 = .ok (.iload 5, 2) := by decide +kernel
theorem d_M_goThrough_65 : decode b_M_goThrough 65 = .ok (.ifCond .ge 4, 3) := by decide +kernel
theorem d_M_goThrough_68 : decode b_M_goThrough 68 = .ok (.return_, 1) := by decide +kernel
theorem d_M_goThrough_69 : decode b_M_goThrough 69 = .ok (.iload_n 2, 1) := by decide +kernel
theorem d_M_goThrough_70 : decode b_M_goThrough 70 = .ok (.iload 5, 2) := by decide +kernel
theorem d_M_goThrough_72 : decode b_M_goThrough 72 = .ok (.iadd, 1) := by decide +kernel
theorem d_M_goThrough_73 : decode b_M_goThrough 73 = .ok (.istore_n 2, 1) := by decide +kernel
theorem d_M_goThrough_74 : decode b_M_goThrough 74 = .ok (.iinc 4 1, 3) := by decide +kernel
theorem d_M_goThrough_77 : decode b_M_goThrough 77 = .ok (.goto (-57), 3) := by decide +kernel
theorem d_M_goThrough_80 : decode b_M_goThrough 80 = .ok (.iinc 3 1, 3) := by decide +kernel
theorem d_M_goThrough_83 : decode b_M_goThrough 83 = .ok (.goto (-74), 3) := by decide +kernel
theorem d_M_goThrough_86 : decode b_M_goThrough 86 = .ok (.aload_n 0, 1) := by decide +kernel
theorem d_M_goThrough_87 : decode b_M_goThrough 87 = .ok (.getfield 55, 3) := by decide +kernel
theorem d_M_goThrough_90 : decode b_M_goThrough 90 = .ok (.iload_n 1, 1) := by decide +kernel
theorem d_M_goThrough_91 : decode b_M_goThrough 91 = .ok (.iload_n 2, 1) := by decide +kernel
theorem d_M_goThrough_92 : decode b_M_goThrough 92 = .ok (.iastore, 1) := by decide +kernel
theorem d_M_goThrough_93 : decode b_M_goThrough 93 = .ok (.aload_n 0, 1) := by decide +kernel
theorem d_M_goThrough_94 : decode b_M_goThrough 94 = .ok (.dup, 1) := by decide +kernel
theorem d_M_goThrough_95 : decode b_M_goThrough 95 = .ok (.getfield 94, 3) := by decide +kernel
theorem d_M_goThrough_98 : decode b_M_goThrough 98 = .ok (.iload_n 2, 1) := by decide +kernel
theorem d_M_goThrough_99 : decode b_M_goThrough 99 = .ok (.ifCond .ne 7, 3) := by decide +kernel
theorem d_M_goThrough_102 : decode b_M_goThrough 102 = .ok (.iconst 1, 1) := by decide +kernel
theorem d_M_goThrough_103 : decode b_M_goThrough 103 = .ok (.goto 4, 3) := by decide +kernel
theorem d_M_goThrough_106 : decode b_M_goThrough 106 = .ok (.iconst 0, 1) := by decide +kernel
theorem d_M_goThrough_107 : decode b_M_goThrough 107 = .ok (.iadd, 1) := by decide +kernel
theorem d_M_goThrough_108 : decode b_M_goThrough 108 = .ok (.putfield 94, 3) := by decide +kernel
theorem d_M_goThrough_111 : decode b_M_goThrough 111 = .ok (.aload_n 0, 1) := by decide +kernel
theorem d_M_goThrough_112 : decode b_M_goThrough 112 = .ok (.dup, 1) := by decide +kernel
theorem d_M_goThrough_113 : decode b_M_goThrough 113 = .ok (.getfield 85, 3) := by decide +kernel
theorem d_M_goThrough_116 : decode b_M_goThrough 116 = .ok (.iconst 1, 1) := by decide +kernel
theorem d_M_goThrough_117 : decode b_M_goThrough 117 = .ok (.iadd, 1) := by decide +kernel
theorem d_M_goThrough_118 : decode b_M_goThrough 118 = .ok (.putfield 85, 3) := by decide +kernel
theorem d_M_goThrough_121 : decode b_M_goThrough 121 = .ok (.return_, 1) := by decide +kernel
theorem d_M_allSteps_0 : decode b_M_allSteps 0 = .ok (.aload_n 0, 1) := by decide +kernel
theorem d_M_allSteps_1 : decode b_M_allSteps 1 = .ok (.getfield 17, 3) := by decide +kernel
theorem d_M_allSteps_4 : decode b_M_allSteps 4 = .ok (.iload_n 3, 1) := by decide +kernel
theorem d_M_allSteps_5 : decode b_M_allSteps 5 = .ok (.iaload, 1) := by decide +kernel
theorem d_M_allSteps_6 : decode b_M_allSteps 6 = .ok (.iconst (-1), 1) := by decide +kernel
theorem d_M_allSteps_7 : decode b_M_allSteps 7 = .ok (.if_icmp .ne 31, 3) := by decide +kernel
theorem d_M_allSteps_10 : decode b_M_allSteps 10 = .ok (.aload_n 0, 1) := by decide +kernel
theorem d_M_allSteps_11 : decode b_M_allSteps 11 = .ok (.iload_n 1, 1) := by decide +kernel
theorem d_M_allSteps_12 : decode b_M_allSteps 12 = .ok (.iload_n 2, 1) := by decide +kernel
theorem d_M_allSteps_13 : decode b_M_allSteps 13 = .ok (.iload_n 3, 1) := by decide +kernel
theorem d_M_allSteps_14 : decode b_M_allSteps 14 = .ok (.iconst (-1), 1) := by decide +kernel
theorem d_M_allSteps_15 : decode b_M_allSteps 15 = .ok (.invokevirtual 156, 3) := by decide +kernel
theorem d_M_allSteps_18 : decode b_M_allSteps 18 = .ok (.ifCond .ne 5, 3) := by decide +kernel
theorem d_M_allSteps_21 : decode b_M_allSteps 21 = .ok (.iconst 0, 1) := by decide +kernel
theorem d_M_allSteps_22 : decode b_M_allSteps 22 = .ok (.ireturn, 1) := by decide +kernel
theorem d_M_allSteps_23 : decode b_M_allSteps 23 = .ok (.aload_n 0, 1) := by decide +kernel
theorem d_M_allSteps_24 : decode b_M_allSteps 24 = .ok (.iload_n 1, 1) := by decide +kernel
theorem d_M_allSteps_25 : decode b_M_allSteps 25 = .ok (.iload_n 3, 1) := by decide +kernel
theorem d_M_allSteps_26 : decode b_M_allSteps 26 = .ok (.invokevirtual 160, 3) := by decide +kernel
theorem d_M_allSteps_29 : decode b_M_allSteps 29 = .ok (.ifCond .eq 7, 3) := by decide +kernel
theorem d_M_allSteps_32 : decode b_M_allSteps 32 = .ok (.iconst 1, 1) := by decide +kernel
theorem d_M_allSteps_33 : decode b_M_allSteps 33 = .ok (.goto 4, 3) := by decide +kernel
theorem d_M_allSteps_36 : decode b_M_allSteps 36 = .ok (.iconst (-1), 1) := by decide +kernel
theorem d_M_allSteps_37 : decode b_M_allSteps 37 = .ok (.ireturn, 1) := by decide +kernel
theorem d_M_allSteps_38 : decode b_M_allSteps 38 = .ok (.iconst 0, 1) := by decide +kernel
theorem d_M_allSteps_39 : decode b_M_allSteps 39 = .ok (.istore 4, 2) := by decide +kernel
theorem d_M_allSteps_41 : decode b_M_allSteps 41 = .ok (.iconst 0, 1) := by decide +kernel
theorem d_M_allSteps_42 : decode b_M_allSteps 42 = .ok (.istore 5, 2) := by decide +kernel
theorem d_M_allSteps_44 : decode b_M_allSteps 44 = .ok (.iload 5, 2) := by decide +kernel
theorem d_M_allSteps_46 : decode b_M_allSteps 46 = .ok (.aload_n 0, 1) := by decide +kernel
theorem d_M_allSteps_47 : decode b_M_allSteps 47 = .ok (.getfield 40, 3) := by decide +kernel
theorem d_M_allSteps_50 : decode b_M_allSteps 50 = .ok (.bipush 12, 2) := by decide +kernel
theorem d_M_allSteps_52 : decode b_M_allSteps 52 = .ok (.iload_n 1, 1) := by decide +kernel
theorem d_M_allSteps_53 : decode b_M_allSteps 53 = .ok (.imul, 1) := by decide +kernel
theorem d_M_allSteps_54 : decode b_M_allSteps 54 = .ok (.iconst 4, 1) := by decide +kernel
theorem d_M_allSteps_55 : decode b_M_allSteps 55 = .ok (.iadd, 1) := by decide +kernel
theorem d_M_allSteps_56 : decode b_M_allSteps 56 = .ok (.iaload, 1) := by decide +kernel
theorem d_M_allSteps_57 : decode b_M_allSteps 57 = .ok (.if_icmp .ge 112, 3) := by decide +kernel
theorem d_M_allSteps_60 : decode b_M_allSteps 60 = .ok (.aload_n 0, 1) := by decide +kernel
theorem d_M_allSteps_61 : decode b_M_allSteps 61 = .ok (.getfield 40, 3) := by decide +kernel
theorem d_M_allSteps_64 : decode b_M_allSteps 64 = .ok (.bipush 12, 2) := by decide +kernel
theorem d_M_allSteps_66 : decode b_M_allSteps 66 = .ok (.iload_n 1, 1) := by decide +kernel
theorem d_M_allSteps_67 : decode b_M_allSteps 67 = .ok (.imul, 1) := by decide +kernel
theorem d_M_allSteps_68 : decode b_M_allSteps 68 = .ok (.iconst 5, 1) := by decide +kernel
theorem d_M_allSteps_69 : decode b_M_allSteps 69 = .ok (.iadd, 1) := by decide +kernel
theorem d_M_allSteps_70 : decode b_M_allSteps 70 = .ok (.iload 5, 2) := by decide +kernel
theorem d_M_allSteps_72 : decode b_M_allSteps 72 = .ok (.iadd, 1) := by decide +kernel
theorem d_M_allSteps_73 : decode b_M_allSteps 73 = .ok (.iaload, 1) := by decide +kernel
theorem d_M_allSteps_74 : decode b_M_allSteps 74 = .ok (.istore 6, 2) := by decide +kernel
theorem d_M_allSteps_76 : decode b_M_allSteps 76 = .ok (.iload 5, 2) := by decide +kernel
theorem d_M_allSteps_78 : decode b_M_allSteps 78 = .ok (.ifCond .le 26, 3) := by decide +kernel
theorem d_M_allSteps_81 : decode b_M_allSteps 81 = .ok (.aload_n 0, 1) := by decide +kernel
theorem d_M_allSteps_82 : decode b_M_allSteps 82 = .ok (.getfield 40, 3) := by decide +kernel
theorem d_M_allSteps_85 : decode b_M_allSteps 85 = .ok (.bipush 12, 2) := by decide +kernel
theorem d_M_allSteps_87 : decode b_M_allSteps 87 = .ok (.iload_n 1, 1) := by decide +kernel
theorem d_M_allSteps_88 : decode b_M_allSteps 88 = .ok (.imul, 1) := by decide +kernel
theorem d_M_allSteps_89 : decode b_M_allSteps 89 = .ok (.iconst 4, 1) := by decide +kernel
theorem d_M_allSteps_90 : decode b_M_allSteps 90 = .ok (.iadd, 1) := by decide +kernel
theorem d_M_allSteps_91 : decode b_M_allSteps 91 = .ok (.iload 5, 2) := by decide +kernel
theorem d_M_allSteps_93 : decode b_M_allSteps 93 = .ok (.iadd, 1) := by decide +kernel
theorem d_M_allSteps_94 : decode b_M_allSteps 94 = .ok (.iaload, 1) := by decide +kernel
theorem d_M_allSteps_95 : decode b_M_allSteps 95 = .ok (.iload 6, 2) := by decide +kernel
theorem d_M_allSteps_97 : decode b_M_allSteps 97 = .ok (.if_icmp .ne 7, 3) := by decide +kernel
theorem d_M_allSteps_100 : decode b_M_allSteps 100 = .ok (.iconst 1, 1) := by decide +kernel
theorem d_M_allSteps_101 : decode b_M_allSteps 101 = .ok (.goto 4, 3) := by decide +kernel
theorem d_M_allSteps_104 : decode b_M_allSteps 104 = .ok (.iconst 0, 1) := by decide +kernel
theorem d_M_allSteps_105 : decode b_M_allSteps 105 = .ok (.istore 7, 2) := by decide +kernel
theorem d_M_allSteps_107 : decode b_M_allSteps 107 = .ok (.iload 7, 2) := by decide +kernel
theorem d_M_allSteps_109 : decode b_M_allSteps 109 = .ok (.ifCond .ne 54, 3) := by decide +kernel
theorem d_M_allSteps_112 : decode b_M_allSteps 112 = .ok (.iload 6, 2) := by decide +kernel
theorem d_M_allSteps_114 : decode b_M_allSteps 114 = .ok (.bipush 16, 2) := by decide +kernel
theorem d_M_allSteps_116 : decode b_M_allSteps 116 = .ok (.idiv, 1) := by decide +kernel
theorem d_M_allSteps_117 : decode b_M_allSteps 117 = .ok (.aload_n 0, 1) := by decide +kernel
theorem d_M_allSteps_118 : decode b_M_allSteps 118 = .ok (.getfield 17, 3) := by decide +kernel
theorem d_M_allSteps_121 : decode b_M_allSteps 121 = .ok (.iload_n 3, 1) := by decide +kernel
theorem d_M_allSteps_122 : decode b_M_allSteps 122 = .ok (.iaload, 1) := by decide +kernel
theorem d_M_allSteps_123 : decode b_M_allSteps 123 = .ok (.if_icmp .ne 40, 3) := by decide +kernel
theorem d_M_allSteps_126 : decode b_M_allSteps 126 = .ok (.iload 6, 2) := by decide +kernel
theorem d_M_allSteps_128 : decode b_M_allSteps 128 = .ok (.iconst 4, 1) := by decide +kernel
theorem d_M_allSteps_129 : decode b_M_allSteps 129 = .ok (.irem, 1) := by decide +kernel
theorem d_M_allSteps_130 : decode b_M_allSteps 130 = .ok (.iload_n 2, 1) := by decide +kernel
theorem d_M_allSteps_131 : decode b_M_allSteps 131 = .ok (.if_icmp .ne 32, 3) := by decide +kernel
theorem d_M_allSteps_134 : decode b_M_allSteps 134 = .ok (.aload_n 0, 1) := by decide +kernel
theorem d_M_allSteps_135 : decode b_M_allSteps 135 = .ok (.iload_n 1, 1) := by decide +kernel
theorem d_M_allSteps_136 : decode b_M_allSteps 136 = .ok (.iload_n 2, 1) := by decide +kernel
theorem d_M_allSteps_137 : decode b_M_allSteps 137 = .ok (.iload_n 3, 1) := by decide +kernel
theorem d_M_allSteps_138 : decode b_M_allSteps 138 = .ok (.iload 6, 2) := by decide +kernel
theorem d_M_allSteps_140 : decode b_M_allSteps 140 = .ok (.invokevirtual 156, 3) := by decide +kernel
theorem d_M_allSteps_143 : decode b_M_allSteps 143 = .ok (.ifCond .ne 6, 3) := by decide +kernel
theorem d_M_allSteps_146 : decode b_M_allSteps 146 = .ok (.goto 17, 3) := by decide +kernel
theorem d_M_allSteps_149 : decode b_M_allSteps 149 = .ok (.aload_n 0, 1) := by decide +kernel
theorem d_M_allSteps_150 : decode b_M_allSteps 150 = .ok (.iload_n 1, 1) := by decide +kernel
theorem d_M_allSteps_151 : decode b_M_allSteps 151 = .ok (.iload_n 3, 1) := by decide +kernel
theorem d_M_allSteps_152 : decode b_M_allSteps 152 = .ok (.invokevirtual 160, 3) := by decide +kernel
theorem d_M_allSteps_155 : decode b_M_allSteps 155 = .ok (.ifCond .ne 5, 3) := by decide +kernel
theorem d_M_allSteps_158 : decode b_M_allSteps 158 = .ok (.iconst (-1), 1) := by decide +kernel
theorem d_M_allSteps_159 : decode b_M_allSteps 159 = .ok (.ireturn, 1) := by decide +kernel
theorem d_M_allSteps_160 : decode b_M_allSteps 160 = .ok (.iinc 4 1, 3) := by decide +kernel
theorem d_M_allSteps_163 : decode b_M_allSteps 163 = .ok (.iinc 5 1, 3) := by decide +kernel
theorem d_M_allSteps_166 : decode b_M_allSteps 166 = .ok (.goto (-122), 3) := by decide +kernel
theorem d_M_allSteps_169 : decode b_M_allSteps 169 = .ok (.iload 4, 2) := by decide +kernel
theorem d_M_allSteps_171 : decode b_M_allSteps 171 = .ok (.ireturn, 1) := by decide +kernel
theorem d_M_make_0 : decode b_M_make 0 = .ok (.iconst 0, 1) := by decide +kernel
theorem d_M_make_1 : decode b_M_make 1 = .ok (.istore 5, 2) := by decide +kernel
theorem d_M_make_3 : decode b_M_make 3 = .ok (.iconst 0, 1) := by decide +kernel
theorem d_M_make_4 : decode b_M_make 4 = .ok (.istore 6, 2) := by decide +kernel
theorem d_M_make_6 : decode b_M_make 6 = .ok (.iload 6, 2) := by decide +kernel
theorem d_M_make_8 : decode b_M_make 8 = .ok (.aload_n 0, 1) := by decide +kernel
theorem d_M_make_9 : decode b_M_make 9 = .ok (.getfield 23, 3) := by decide +kernel
theorem d_M_make_12 : decode b_M_make 12 = .ok (.iload_n 3, 1) := by decide +kernel
theorem d_M_make_13 : decode b_M_make 13 = .ok (.iaload, 1) := by decide +kernel
theorem d_M_make_14 : decode b_M_make 14 = .ok (.if_icmp .ge 38, 3) := by decide +kernel
theorem d_M_make_17 : decode b_M_make 17 = .ok (.iload 5, 2) := by decide +kernel
theorem d_M_make_19 : decode b_M_make 19 = .ok (.aload_n 0, 1) := by decide +kernel
theorem d_M_make_20 : decode b_M_make 20 = .ok (.getfield 29, 3) := by decide +kernel
theorem d_M_make_23 : decode b_M_make 23 = .ok (.iconst 4, 1) := by decide +kernel
theorem d_M_make_24 : decode b_M_make 24 = .ok (.iload_n 3, 1) := by decide +kernel
theorem d_M_make_25 : decode b_M_make 25 = .ok (.imul, 1) := by decide +kernel
theorem d_M_make_26 : decode b_M_make 26 = .ok (.iload 6, 2) := by decide +kernel
theorem d_M_make_28 : decode b_M_make 28 = .ok (.iadd, 1) := by decide +kernel
theorem d_M_make_29 : decode b_M_make 29 = .ok (.iaload, 1) := by decide +kernel
theorem d_M_make_30 : decode b_M_make 30 = .ok (.ifCond .ne 7, 3) := by decide +kernel
theorem d_M_make_33 : decode b_M_make 33 = .ok (.iconst 1, 1) := by decide +kernel
theorem d_M_make_34 : decode b_M_make 34 = .ok (.goto 9, 3) := by decide +kernel
theorem d_M_make_37 : decode b_M_make 37 = .ok (.aload_n 0, 1) := by decide +kernel
theorem d_M_make_38 : decode b_M_make 38 = .ok (.getfield 70, 3) := by decide +kernel
theorem d_M_make_41 : decode b_M_make 41 = .ok (.iconst 1, 1) := by decide +kernel
theorem d_M_make_42 : decode b_M_make 42 = .ok (.isub, 1) := by decide +kernel
theorem d_M_make_43 : decode b_M_make 43 = .ok (.iadd, 1) := by decide +kernel
theorem d_M_make_44 : decode b_M_make 44 = .ok (.istore 5, 2) := by decide +kernel
theorem d_M_make_46 : decode b_M_make 46 = .ok (.iinc 6 1, 3) := by decide +kernel
theorem d_M_make_49 : decode b_M_make 49 = .ok (.goto (-43), 3) := by decide +kernel
theorem d_M_make_52 : decode b_M_make 52 = .ok (.aload_n 0, 1) := by decide +kernel
theorem d_M_make_53 : decode b_M_make 53 = .ok (.getfield 40, 3) := by decide +kernel
theorem d_M_make_56 : decode b_M_make 56 = .ok (.bipush 12, 2) := by decide +kernel
theorem d_M_make_58 : decode b_M_make 58 = .ok (.iload_n 1, 1) := by decide +kernel
theorem d_M_make_59 : decode b_M_make 59 = .ok (.imul, 1) := by decide +kernel
theorem d_M_make_60 : decode b_M_make 60 = .ok (.iconst 4, 1) := by decide +kernel
theorem d_M_make_61 : decode b_M_make 61 = .ok (.iadd, 1) := by decide +kernel
theorem d_M_make_62 : decode b_M_make 62 = .ok (.iaload, 1) := by decide +kernel
theorem d_M_make_63 : decode b_M_make 63 = .ok (.iload 4, 2) := by decide +kernel
theorem d_M_make_65 : decode b_M_make 65 = .ok (.ifCond .ge 7, 3) := by decide +kernel
theorem d_M_make_68 : decode b_M_make 68 = .ok (.iconst 0, 1) := by decide +kernel
theorem d_M_make_69 : decode b_M_make 69 = .ok (.goto 4, 3) := by decide +kernel
theorem d_M_make_72 : decode b_M_make 72 = .ok (.iconst 1, 1) := by decide +kernel
theorem d_M_make_73 : decode b_M_make 73 = .ok (.isub, 1) := by decide +kernel
theorem d_M_make_74 : decode b_M_make 74 = .ok (.iload 5, 2) := by decide +kernel
theorem d_M_make_76 : decode b_M_make 76 = .ok (.iadd, 1) := by decide +kernel
theorem d_M_make_77 : decode b_M_make 77 = .ok (.bipush 7, 2) := by decide +kernel
theorem d_M_make_79 : decode b_M_make 79 = .ok (.if_icmp .le 5, 3) := by decide +kernel
theorem d_M_make_82 : decode b_M_make 82 = .ok (.iconst 0, 1) := by decide +kernel
theorem d_M_make_83 : decode b_M_make 83 = .ok (.ireturn, 1) := by decide +kernel
theorem d_M_make_84 : decode b_M_make 84 = .ok (.iconst 0, 1) := by decide +kernel
theorem d_M_make_85 : decode b_M_make 85 = .ok (.istore 6, 2) := by decide +kernel
theorem d_M_make_87 : decode b_M_make 87 = .ok (.iload 6, 2) := by decide +kernel
theorem d_M_make_89 : decode b_M_make 89 = .ok (.iconst 4, 1) := by decide +kernel
theorem d_M_make_90 : decode b_M_make 90 = .ok (.if_icmp .ge 28, 3) := by decide +kernel
theorem d_M_make_93 : decode b_M_make 93 = .ok (.aload_n 0, 1) := by decide +kernel
theorem d_M_make_94 : decode b_M_make 94 = .ok (.getfield 61, 3) := by decide +kernel
theorem d_M_make_97 : decode b_M_make 97 = .ok (.iload 6, 2) := by decide +kernel
theorem d_M_make_99 : decode b_M_make 99 = .ok (.aload_n 0, 1) := by decide +kernel
theorem d_M_make_100 : decode b_M_make 100 = .ok (.getfield 40, 3) := by decide +kernel
theorem d_M_make_103 : decode b_M_make 103 = .ok (.bipush 12, 2) := by decide +kernel
theorem d_M_make_105 : decode b_M_make 105 = .ok (.iload_n 1, 1) := by decide +kernel
theorem d_M_make_106 : decode b_M_make 106 = .ok (.imul, 1) := by decide +kernel
theorem d_M_make_107 : decode b_M_make 107 = .ok (.iload 6, 2) := by decide +kernel
theorem d_M_make_109 : decode b_M_make 109 = .ok (.iadd, 1) := by decide +kernel
theorem d_M_make_110 : decode b_M_make 110 = .ok (.iaload, 1) := by decide +kernel
theorem d_M_make_111 : decode b_M_make 111 = .ok (.iastore, 1) := by decide +kernel
theorem d_M_make_112 : decode b_M_make 112 = .ok (.iinc 6 1, 3) := by decide +kernel
theorem d_M_make_115 : decode b_M_make 115 = .ok (.goto (-28), 3) := by decide +kernel
theorem d_M_make_118 : decode b_M_make 118 = .ok (.aload_n 0, 1) := by decide +kernel
theorem d_M_make_119 : decode b_M_make 119 = .ok (.getfield 61, 3) := by decide +kernel
theorem d_M_make_122 : decode b_M_make 122 = .ok (.iload_n 2, 1) := by decide +kernel
theorem d_M_make_123 : decode b_M_make 123 = .ok (.aload_n 0, 1) := by decide +kernel
theorem d_M_make_124 : decode b_M_make 124 = .ok (.getfield 20, 3) := by decide +kernel
theorem d_M_make_127 : decode b_M_make 127 = .ok (.iload_n 3, 1) := by decide +kernel
theorem d_M_make_128 : decode b_M_make 128 = .ok (.iaload, 1) := by decide +kernel
theorem d_M_make_129 : decode b_M_make 129 = .ok (.iastore, 1) := by decide +kernel
theorem d_M_make_130 : decode b_M_make 130 = .ok (.aload_n 0, 1) := by decide +kernel
theorem d_M_make_131 : decode b_M_make 131 = .ok (.getfield 61, 3) := by decide +kernel
theorem d_M_make_134 : decode b_M_make 134 = .ok (.iconst 4, 1) := by decide +kernel
theorem d_M_make_135 : decode b_M_make 135 = .ok (.iconst 0, 1) := by decide +kernel
theorem d_M_make_136 : decode b_M_make 136 = .ok (.iastore, 1) := by decide +kernel
theorem d_M_make_137 : decode b_M_make 137 = .ok (.iload 4, 2) := by decide +kernel
theorem d_M_make_139 : decode b_M_make 139 = .ok (.ifCond .ge 7, 3) := by decide +kernel
theorem d_M_make_142 : decode b_M_make 142 = .ok (.iconst 1, 1) := by decide +kernel
theorem d_M_make_143 : decode b_M_make 143 = .ok (.goto 4, 3) := by decide +kernel
theorem d_M_make_146 : decode b_M_make 146 = .ok (.iconst 0, 1) := by decide +kernel
theorem d_M_make_147 : decode b_M_make 147 = .ok (.istore 6, 2) := by decide +kernel
theorem d_M_make_149 : decode b_M_make 149 = .ok (.iconst 0, 1) := by decide +kernel
theorem d_M_make_150 : decode b_M_make 150 = .ok (.istore 7, 2) := by decide +kernel
theorem d_M_make_152 : decode b_M_make 152 = .ok (.iload 7, 2) := by decide +kernel
theorem d_M_make_154 : decode b_M_make 154 = .ok (.aload_n 0, 1) := by decide +kernel
theorem d_M_make_155 : decode b_M_make 155 = .ok (.getfield 40, 3) := by decide +kernel
theorem d_M_make_158 : decode b_M_make 158 = .ok (.bipush 12, 2) := by decide +kernel
theorem d_M_make_160 : decode b_M_make 160 = .ok (.iload_n 1, 1) := by decide +kernel
theorem d_M_make_161 : decode b_M_make 161 = .ok (.imul, 1) := by decide +kernel
theorem d_M_make_162 : decode b_M_make 162 = .ok (.iconst 4, 1) := by decide +kernel
theorem d_M_make_163 : decode b_M_make 163 = .ok (.iadd, 1) := by decide +kernel
theorem d_M_make_164 : decode b_M_make 164 = .ok (.iaload, 1) := by decide +kernel
theorem d_M_make_165 : decode b_M_make 165 = .ok (.if_icmp .ge 53, 3) := by decide +kernel
theorem d_M_make_168 : decode b_M_make 168 = .ok (.aload_n 0, 1) := by decide +kernel
theorem d_M_make_169 : decode b_M_make 169 = .ok (.getfield 40, 3) := by decide +kernel
theorem d_M_make_172 : decode b_M_make 172 = .ok (.bipush 12, 2) := by decide +kernel
theorem d_M_make_174 : decode b_M_make 174 = .ok (.iload_n 1, 1) := by decide +kernel
theorem d_M_make_175 : decode b_M_make 175 = .ok (.imul, 1) := by decide +kernel
theorem d_M_make_176 : decode b_M_make 176 = .ok (.iconst 5, 1) := by decide +kernel
theorem d_M_make_177 : decode b_M_make 177 = .ok (.iadd, 1) := by decide +kernel
theorem d_M_make_178 : decode b_M_make 178 = .ok (.iload 7, 2) := by decide +kernel
theorem d_M_make_180 : decode b_M_make 180 = .ok (.iadd, 1) := by decide +kernel
theorem d_M_make_181 : decode b_M_make 181 = .ok (.iaload, 1) := by decide +kernel
theorem d_M_make_182 : decode b_M_make 182 = .ok (.istore 8, 2) := by decide +kernel
theorem d_M_make_184 : decode b_M_make 184 = .ok (.iload 6, 2) := by decide +kernel
theorem d_M_make_186 : decode b_M_make 186 = .ok (.ifCond .ne 16, 3) := by decide +kernel
theorem d_M_make_189 : decode b_M_make 189 = .ok (.iload 8, 2) := by decide +kernel
theorem d_M_make_191 : decode b_M_make 191 = .ok (.iload 4, 2) := by decide +kernel
theorem d_M_make_193 : decode b_M_make 193 = .ok (.if_icmp .ne 9, 3) := by decide +kernel
theorem d_M_make_196 : decode b_M_make 196 = .ok (.iconst 1, 1) := by decide +kernel
theorem d_M_make_197 : decode b_M_make 197 = .ok (.istore 6, 2) := by decide +kernel
theorem d_M_make_199 : decode b_M_make 199 = .ok (.goto 13, 3) := by decide +kernel
theorem d_M_make_202 : decode b_M_make 202 = .ok (.aload_n 0, 1) := by decide +kernel
theorem d_M_make_203 : decode b_M_make 203 = .ok (.aload_n 0, 1) := by decide +kernel
theorem d_M_make_204 : decode b_M_make 204 = .ok (.getfield 61, 3) := by decide +kernel
theorem d_M_make_207 : decode b_M_make 207 = .ok (.iload 8, 2) := by decide +kernel
theorem d_M_make_209 : decode b_M_make 209 = .ok (.invokevirtual 120, 3) := by decide +kernel
theorem d_M_make_212 : decode b_M_make 212 = .ok (.iinc 7 1, 3) := by decide +kernel
theorem d_M_make_215 : decode b_M_make 215 = .ok (.goto (-63), 3) := by decide +kernel
theorem d_M_make_218 : decode b_M_make 218 = .ok (.iconst 0, 1) := by decide +kernel
theorem d_M_make_219 : decode b_M_make 219 = .ok (.istore 7, 2) := by decide +kernel
theorem d_M_make_221 : decode b_M_make 221 = .ok (.iload 7, 2) := by decide +kernel
theorem d_M_make_223 : decode b_M_make 223 = .ok (.aload_n 0, 1) := by decide +kernel
theorem d_M_make_224 : decode b_M_make 224 = .ok (.getfield 23, 3) := by decide +kernel
theorem d_M_make_227 : decode b_M_make 227 = .ok (.iload_n 3, 1) := by decide +kernel
theorem d_M_make_228 : decode b_M_make 228 = .ok (.iaload, 1) := by decide +kernel
theorem d_M_make_229 : decode b_M_make 229 = .ok (.if_icmp .ge 112, 3) := by decide +kernel
theorem d_M_make_232 : decode b_M_make 232 = .ok (.bipush 16, 2) := by decide +kernel
theorem d_M_make_234 : decode b_M_make 234 = .ok (.aload_n 0, 1) := by decide +kernel
theorem d_M_make_235 : decode b_M_make 235 = .ok (.getfield 26, 3) := by decide +kernel
theorem d_M_make_238 : decode b_M_make 238 = .ok (.iconst 4, 1) := by decide +kernel
theorem d_M_make_239 : decode b_M_make 239 = .ok (.iload_n 3, 1) := by decide +kernel
theorem d_M_make_240 : decode b_M_make 240 = .ok (.imul, 1) := by decide +kernel
theorem d_M_make_241 : decode b_M_make 241 = .ok (.iload 7, 2) := by decide +kernel
theorem d_M_make_243 : decode b_M_make 243 = .ok (.iadd, 1) := by decide +kernel
theorem d_M_make_244 : decode b_M_make 244 = .ok (.iaload, 1) := by decide +kernel
theorem d_M_make_245 : decode b_M_make 245 = .ok (.imul, 1) := by decide +kernel
theorem d_M_make_246 : decode b_M_make 246 = .ok (.iconst 4, 1) := by decide +kernel
theorem d_M_make_247 : decode b_M_make 247 = .ok (.iload_n 2, 1) := by decide +kernel
theorem d_M_make_248 : decode b_M_make 248 = .ok (.imul, 1) := by decide +kernel
theorem d_M_make_249 : decode b_M_make 249 = .ok (.iadd, 1) := by decide +kernel
theorem d_M_make_250 : decode b_M_make 250 = .ok (.istore 8, 2) := by decide +kernel
theorem d_M_make_252 : decode b_M_make 252 = .ok (.aload_n 0, 1) := by decide +kernel
theorem d_M_make_253 : decode b_M_make 253 = .ok (.getfield 29, 3) := by decide +kernel
theorem d_M_make_256 : decode b_M_make 256 = .ok (.iconst 4, 1) := by decide +kernel
theorem d_M_make_257 : decode b_M_make 257 = .ok (.iload_n 3, 1) := by decide +kernel
theorem d_M_make_258 : decode b_M_make 258 = .ok (.imul, 1) := by decide +kernel
theorem d_M_make_259 : decode b_M_make 259 = .ok (.iload 7, 2) := by decide +kernel
theorem d_M_make_261 : decode b_M_make 261 = .ok (.iadd, 1) := by decide +kernel
theorem d_M_make_262 : decode b_M_make 262 = .ok (.iaload, 1) := by decide +kernel
theorem d_M_make_263 : decode b_M_make 263 = .ok (.ifCond .ne 20, 3) := by decide +kernel
theorem d_M_make_266 : decode b_M_make 266 = .ok (.aload_n 0, 1) := by decide +kernel
theorem d_M_make_267 : decode b_M_make 267 = .ok (.aload_n 0, 1) := by decide +kernel
theorem d_M_make_268 : decode b_M_make 268 = .ok (.getfield 61, 3) := by decide +kernel
theorem d_M_make_271 : decode b_M_make 271 = .ok (.iload 8, 2) := by decide +kernel
theorem d_M_make_273 : decode b_M_make 273 = .ok (.iload 4, 2) := by decide +kernel
theorem d_M_make_275 : decode b_M_make 275 = .ok (.iconst 4, 1) := by decide +kernel
theorem d_M_make_276 : decode b_M_make 276 = .ok (.idiv, 1) := by decide +kernel
theorem d_M_make_277 : decode b_M_make 277 = .ok (.iconst 4, 1) := by decide +kernel
theorem d_M_make_278 : decode b_M_make 278 = .ok (.irem, 1) := by decide +kernel
theorem d_M_make_279 : decode b_M_make 279 = .ok (.iadd, 1) := by decide +kernel
theorem d_M_make_280 : decode b_M_make 280 = .ok (.invokevirtual 120, 3) := by decide +kernel
theorem d_M_make_283 : decode b_M_make 283 = .ok (.iconst 0, 1) := by decide +kernel
theorem d_M_make_284 : decode b_M_make 284 = .ok (.istore 9, 2) := by decide +kernel
theorem d_M_make_286 : decode b_M_make 286 = .ok (.iload 9, 2) := by decide +kernel
theorem d_M_make_288 : decode b_M_make 288 = .ok (.aload_n 0, 1) := by decide +kernel
theorem d_M_make_289 : decode b_M_make 289 = .ok (.getfield 70, 3) := by decide +kernel
theorem d_M_make_292 : decode b_M_make 292 = .ok (.if_icmp .ge 43, 3) := by decide +kernel
theorem d_M_make_295 : decode b_M_make 295 = .ok (.aload_n 0, 1) := by decide +kernel
theorem d_M_make_296 : decode b_M_make 296 = .ok (.getfield 29, 3) := by decide +kernel
theorem d_M_make_299 : decode b_M_make 299 = .ok (.iconst 4, 1) := by decide +kernel
theorem d_M_make_300 : decode b_M_make 300 = .ok (.iload_n 3, 1) := by decide +kernel
theorem d_M_make_301 : decode b_M_make 301 = .ok (.imul, 1) := by decide +kernel
theorem d_M_make_302 : decode b_M_make 302 = .ok (.iload 7, 2) := by decide +kernel
theorem d_M_make_304 : decode b_M_make 304 = .ok (.iadd, 1) := by decide +kernel
theorem d_M_make_305 : decode b_M_make 305 = .ok (.iaload, 1) := by decide +kernel
theorem d_M_make_306 : decode b_M_make 306 = .ok (.iconst 1, 1) := by decide +kernel
theorem d_M_make_307 : decode b_M_make 307 = .ok (.if_icmp .ne 28, 3) := by decide +kernel
theorem d_M_make_310 : decode b_M_make 310 = .ok (.iload 9, 2) := by decide +kernel
theorem d_M_make_312 : decode b_M_make 312 = .ok (.iload_n 2, 1) := by decide +kernel
theorem d_M_make_313 : decode b_M_make 313 = .ok (.if_icmp .eq 16, 3) := by decide +kernel
theorem d_M_make_316 : decode b_M_make 316 = .ok (.aload_n 0, 1) := by decide +kernel
theorem d_M_make_317 : decode b_M_make 317 = .ok (.aload_n 0, 1) := by decide +kernel
theorem d_M_make_318 : decode b_M_make 318 = .ok (.getfield 61, 3) := by decide +kernel
theorem d_M_make_321 : decode b_M_make 321 = .ok (.iload 8, 2) := by decide +kernel
theorem d_M_make_323 : decode b_M_make 323 = .ok (.iload 9, 2) := by decide +kernel
theorem d_M_make_325 : decode b_M_make 325 = .ok (.iadd, 1) := by decide +kernel
theorem d_M_make_326 : decode b_M_make 326 = .ok (.invokevirtual 120, 3) := by decide +kernel
theorem d_M_make_329 : decode b_M_make 329 = .ok (.iinc 9 1, 3) := by decide +kernel
theorem d_M_make_332 : decode b_M_make 332 = .ok (.goto (-46), 3) := by decide +kernel
theorem d_M_make_335 : decode b_M_make 335 = .ok (.iinc 7 1, 3) := by decide +kernel
theorem d_M_make_338 : decode b_M_make 338 = .ok (.goto (-117), 3) := by decide +kernel
theorem d_M_make_341 : decode b_M_make 341 = .ok (.iconst 1, 1) := by decide +kernel
theorem d_M_make_342 : decode b_M_make 342 = .ok (.ireturn, 1) := by decide +kernel
theorem d_M_step_0 : decode b_M_step 0 = .ok (.aload_n 0, 1) := by decide +kernel
theorem d_M_step_1 : decode b_M_step 1 = .ok (.dup, 1) := by decide +kernel
theorem d_M_step_2 : decode b_M_step 2 = .ok (.getfield 88, 3) := by decide +kernel
theorem d_M_step_5 : decode b_M_step 5 = .ok (.iconst 1, 1) := by decide +kernel
theorem d_M_step_6 : decode b_M_step 6 = .ok (.iadd, 1) := by decide +kernel
theorem d_M_step_7 : decode b_M_step 7 = .ok (.putfield 88, 3) := by decide +kernel
theorem d_M_step_10 : decode b_M_step 10 = .ok (.aload_n 0, 1) := by decide +kernel
theorem d_M_step_11 : decode b_M_step 11 = .ok (.invokevirtual 146, 3) := by decide +kernel
theorem d_M_step_14 : decode b_M_step 14 = .ok (.aload_n 0, 1) := by decide +kernel
theorem d_M_step_15 : decode b_M_step 15 = .ok (.invokevirtual 153, 3) := by decide +kernel
theorem d_M_step_18 : decode b_M_step 18 = .ok (.ifCond .eq 15, 3) := by decide +kernel
theorem d_M_step_21 : decode b_M_step 21 = .ok (.aload_n 0, 1) := by decide +kernel
theorem d_M_step_22 : decode b_M_step 22 = .ok (.dup, 1) := by decide +kernel
theorem d_M_step_23 : decode b_M_step 23 = .ok (.getfield 91, 3) := by decide +kernel
theorem d_M_step_26 : decode b_M_step 26 = .ok (.iconst 1, 1) := by decide +kernel
theorem d_M_step_27 : decode b_M_step 27 = .ok (.iadd, 1) := by decide +kernel
theorem d_M_step_28 : decode b_M_step 28 = .ok (.putfield 91, 3) := by decide +kernel
theorem d_M_step_31 : decode b_M_step 31 = .ok (.iconst 1, 1) := by decide +kernel
theorem d_M_step_32 : decode b_M_step 32 = .ok (.ireturn, 1) := by decide +kernel
theorem d_M_step_33 : decode b_M_step 33 = .ok (.aload_n 0, 1) := by decide +kernel
theorem d_M_step_34 : decode b_M_step 34 = .ok (.getfield 82, 3) := by decide +kernel
theorem d_M_step_37 : decode b_M_step 37 = .ok (.aload_n 0, 1) := by decide +kernel
theorem d_M_step_38 : decode b_M_step 38 = .ok (.getfield 73, 3) := by decide +kernel
theorem d_M_step_41 : decode b_M_step 41 = .ok (.if_icmp .ne 10, 3) := by decide +kernel
theorem d_M_step_44 : decode b_M_step 44 = .ok (.aload_n 0, 1) := by decide +kernel
theorem d_M_step_45 : decode b_M_step 45 = .ok (.iconst (-1), 1) := by decide +kernel
theorem d_M_step_46 : decode b_M_step 46 = .ok (.putfield 97, 3) := by decide +kernel
theorem d_M_step_49 : decode b_M_step 49 = .ok (.iconst 0, 1) := by decide +kernel
theorem d_M_step_50 : decode b_M_step 50 = .ok (.ireturn, 1) := by decide +kernel
theorem d_M_step_51 : decode b_M_step 51 = .ok (.aload_n 0, 1) := by decide +kernel
theorem d_M_step_52 : decode b_M_step 52 = .ok (.iload_n 1, 1) := by decide +kernel
theorem d_M_step_53 : decode b_M_step 53 = .ok (.iload_n 2, 1) := by decide +kernel
theorem d_M_step_54 : decode b_M_step 54 = .ok (.invokevirtual 149, 3) := by decide +kernel
theorem d_M_step_57 : decode b_M_step 57 = .ok (.aload_n 0, 1) := by decide +kernel
theorem d_M_step_58 : decode b_M_step 58 = .ok (.getfield 97, 3) := by decide +kernel
theorem d_M_step_61 : decode b_M_step 61 = .ok (.ifCond .ne 7, 3) := by decide +kernel
theorem d_M_step_64 : decode b_M_step 64 = .ok (.iconst 1, 1) := by decide +kernel
theorem d_M_step_65 : decode b_M_step 65 = .ok (.goto 4, 3) := by decide +kernel
theorem d_M_step_68 : decode b_M_step 68 = .ok (.iconst 0, 1) := by decide +kernel
theorem d_M_step_69 : decode b_M_step 69 = .ok (.ireturn, 1) := by decide +kernel
theorem d_M_isThere_0 : decode b_M_isThere 0 = .ok (.iconst 0, 1) := by decide +kernel
theorem d_M_isThere_1 : decode b_M_isThere 1 = .ok (.istore_n 1, 1) := by decide +kernel
theorem d_M_isThere_2 : decode b_M_isThere 2 = .ok (.aload_n 0, 1) := by decide +kernel
theorem d_M_isThere_3 : decode b_M_isThere 3 = .ok (.getfield 82, 3) := by decide +kernel
theorem d_M_isThere_6 : decode b_M_isThere 6 = .ok (.istore_n 2, 1) := by decide +kernel
theorem d_M_isThere_7 : decode b_M_isThere 7 = .ok (.iload_n 1, 1) := by decide +kernel
theorem d_M_isThere_8 : decode b_M_isThere 8 = .ok (.iload_n 2, 1) := by decide +kernel
theorem d_M_isThere_9 : decode b_M_isThere 9 = .ok (.if_icmp .ge 34, 3) := by decide +kernel
theorem d_M_isThere_12 : decode b_M_isThere 12 = .ok (.iload_n 1, 1) := by decide +kernel
theorem d_M_isThere_13 : decode b_M_isThere 13 = .ok (.iload_n 2, 1) := by decide +kernel
theorem d_M_isThere_14 : decode b_M_isThere 14 = .ok (.iadd, 1) := by decide +kernel
theorem d_M_isThere_15 : decode b_M_isThere 15 = .ok (.iconst 2, 1) := by decide +kernel
theorem d_M_isThere_16 : decode b_M_isThere 16 = .ok (.idiv, 1) := by decide +kernel
theorem d_M_isThere_17 : decode b_M_isThere 17 = .ok (.istore_n 3, 1) := by decide +kernel
theorem d_M_isThere_18 : decode b_M_isThere 18 = .ok (.aload_n 0, 1) := by decide +kernel
theorem d_M_isThere_19 : decode b_M_isThere 19 = .ok (.aload_n 0, 1) := by decide +kernel
theorem d_M_isThere_20 : decode b_M_isThere 20 = .ok (.getfield 43, 3) := by decide +kernel
theorem d_M_isThere_23 : decode b_M_isThere 23 = .ok (.iload_n 3, 1) := by decide +kernel
theorem d_M_isThere_24 : decode b_M_isThere 24 = .ok (.iaload, 1) := by decide +kernel
theorem d_M_isThere_25 : decode b_M_isThere 25 = .ok (.invokevirtual 135, 3) := by decide +kernel
theorem d_M_isThere_28 : decode b_M_isThere 28 = .ok (.ifCond .ge 10, 3) := by decide +kernel
theorem d_M_isThere_31 : decode b_M_isThere 31 = .ok (.iload_n 3, 1) := by decide +kernel
theorem d_M_isThere_32 : decode b_M_isThere 32 = .ok (.iconst 1, 1) := by decide +kernel
theorem d_M_isThere_33 : decode b_M_isThere 33 = .ok (.iadd, 1) := by decide +kernel
theorem d_M_isThere_34 : decode b_M_isThere 34 = .ok (.istore_n 1, 1) := by decide +kernel
theorem d_M_isThere_35 : decode b_M_isThere 35 = .ok (.goto 5, 3) := by decide +kernel
theorem d_M_isThere_38 : decode b_M_isThere 38 = .ok (.iload_n 3, 1) := by decide +kernel
theorem d_M_isThere_39 : decode b_M_isThere 39 = .ok (.istore_n 2, 1) := by decide +kernel
theorem d_M_isThere_40 : decode b_M_isThere 40 = .ok (.goto (-33), 3) := by decide +kernel
theorem d_M_isThere_43 : decode b_M_isThere 43 = .ok (.aload_n 0, 1) := by decide +kernel
theorem d_M_isThere_44 : decode b_M_isThere 44 = .ok (.iload_n 1, 1) := by decide +kernel
theorem d_M_isThere_45 : decode b_M_isThere 45 = .ok (.putfield 139, 3) := by decide +kernel
theorem d_M_isThere_48 : decode b_M_isThere 48 = .ok (.iload_n 1, 1) := by decide +kernel
theorem d_M_isThere_49 : decode b_M_isThere 49 = .ok (.aload_n 0, 1) := by decide +kernel
theorem d_M_isThere_50 : decode b_M_isThere 50 = .ok (.getfield 82, 3) := by decide +kernel
theorem d_M_isThere_53 : decode b_M_isThere 53 = .ok (.if_icmp .ge 20, 3) := by decide +kernel
theorem d_M_isThere_56 : decode b_M_isThere 56 = .ok (.aload_n 0, 1) := by decide +kernel
theorem d_M_isThere_57 : decode b_M_isThere 57 = .ok (.aload_n 0, 1) := by decide +kernel
theorem d_M_isThere_58 : decode b_M_isThere 58 = .ok (.getfield 43, 3) := by decide +kernel
theorem d_M_isThere_61 : decode b_M_isThere 61 = .ok (.iload_n 1, 1) := by decide +kernel
theorem d_M_isThere_62 : decode b_M_isThere 62 = .ok (.iaload, 1) := by decide +kernel
theorem d_M_isThere_63 : decode b_M_isThere 63 = .ok (.invokevirtual 135, 3) := by decide +kernel
theorem d_M_isThere_66 : decode b_M_isThere 66 = .ok (.ifCond .ne 7, 3) := by decide +kernel
theorem d_M_isThere_69 : decode b_M_isThere 69 = .ok (.iconst 1, 1) := by decide +kernel
theorem d_M_isThere_70 : decode b_M_isThere 70 = .ok (.goto 4, 3) := by decide +kernel
theorem d_M_isThere_73 : decode b_M_isThere 73 = .ok (.iconst 0, 1) := by decide +kernel
theorem d_M_isThere_74 : decode b_M_isThere 74 = .ok (.ireturn, 1) := by decide +kernel
theorem d_M_compareRow_0 : decode b_M_compareRow 0 = .ok (.iconst 0, 1) := by decide +kernel
theorem d_M_compareRow_1 : decode b_M_compareRow 1 = .ok (.istore_n 2, 1) := by decide +kernel
theorem d_M_compareRow_2 : decode b_M_compareRow 2 = .ok (.iload_n 2, 1) := by decide +kernel
theorem d_M_compareRow_3 : decode b_M_compareRow 3 = .ok (.iconst 5, 1) := by decide +kernel
theorem d_M_compareRow_4 : decode b_M_compareRow 4 = .ok (.if_icmp .ge 55, 3) := by decide +kernel
theorem d_M_compareRow_7 : decode b_M_compareRow 7 = .ok (.aload_n 0, 1) := by decide +kernel
theorem d_M_compareRow_8 : decode b_M_compareRow 8 = .ok (.getfield 40, 3) := by decide +kernel
theorem d_M_compareRow_11 : decode b_M_compareRow 11 = .ok (.bipush 12, 2) := by decide +kernel
theorem d_M_compareRow_13 : decode b_M_compareRow 13 = .ok (.iload_n 1, 1) := by decide +kernel
theorem d_M_compareRow_14 : decode b_M_compareRow 14 = .ok (.imul, 1) := by decide +kernel
theorem d_M_compareRow_15 : decode b_M_compareRow 15 = .ok (.iload_n 2, 1) := by decide +kernel
theorem d_M_compareRow_16 : decode b_M_compareRow 16 = .ok (.iadd, 1) := by decide +kernel
theorem d_M_compareRow_17 : decode b_M_compareRow 17 = .ok (.iaload, 1) := by decide +kernel
theorem d_M_compareRow_18 : decode b_M_compareRow 18 = .ok (.aload_n 0, 1) := by decide +kernel
theorem d_M_compareRow_19 : decode b_M_compareRow 19 = .ok (.getfield 67, 3) := by decide +kernel
theorem d_M_compareRow_22 : decode b_M_compareRow 22 = .ok (.iload_n 2, 1) := by decide +kernel
theorem d_M_compareRow_23 : decode b_M_compareRow 23 = .ok (.iaload, 1) := by decide +kernel
theorem d_M_compareRow_24 : decode b_M_compareRow 24 = .ok (.if_icmp .eq 29, 3) := by decide +kernel
theorem d_M_compareRow_27 : decode b_M_compareRow 27 = .ok (.aload_n 0, 1) := by decide +kernel
theorem d_M_compareRow_28 : decode b_M_compareRow 28 = .ok (.getfield 40, 3) := by decide +kernel
theorem d_M_compareRow_31 : decode b_M_compareRow 31 = .ok (.bipush 12, 2) := by decide +kernel
theorem d_M_compareRow_33 : decode b_M_compareRow 33 = .ok (.iload_n 1, 1) := by decide +kernel
theorem d_M_compareRow_34 : decode b_M_compareRow 34 = .ok (.imul, 1) := by decide +kernel
theorem d_M_compareRow_35 : decode b_M_compareRow 35 = .ok (.iload_n 2, 1) := by decide +kernel
theorem d_M_compareRow_36 : decode b_M_compareRow 36 = .ok (.iadd, 1) := by decide +kernel
theorem d_M_compareRow_37 : decode b_M_compareRow 37 = .ok (.iaload, 1) := by decide +kernel
theorem d_M_compareRow_38 : decode b_M_compareRow 38 = .ok (.aload_n 0, 1) := by decide +kernel
theorem d_M_compareRow_39 : decode b_M_compareRow 39 = .ok (.getfield 67, 3) := by decide +kernel
theorem d_M_compareRow_42 : decode b_M_compareRow 42 = .ok (.iload_n 2, 1) := by decide +kernel
theorem d_M_compareRow_43 : decode b_M_compareRow 43 = .ok (.iaload, 1) := by decide +kernel
theorem d_M_compareRow_44 : decode b_M_compareRow 44 = .ok (.if_icmp .ge 7, 3) := by decide +kernel
theorem d_M_compareRow_47 : decode b_M_compareRow 47 = .ok (.iconst (-1), 1) := by decide +kernel
theorem d_M_compareRow_48 : decode b_M_compareRow 48 = .ok (.goto 4, 3) := by decide +kernel
theorem d_M_compareRow_51 : decode b_M_compareRow 51 = .ok (.iconst 1, 1) := by decide +kernel
theorem d_M_compareRow_52 : decode b_M_compareRow 52 = .ok (.ireturn, 1) := by decide +kernel
theorem d_M_compareRow_53 : decode b_M_compareRow 53 = .ok (.iinc 2 1, 3) := by decide +kernel
theorem d_M_compareRow_56 : decode b_M_compareRow 56 = .ok (.goto (-54), 3) := by decide +kernel
theorem d_M_compareRow_59 : decode b_M_compareRow 59 = .ok (.iconst 0, 1) := by decide +kernel
theorem d_M_compareRow_60 : decode b_M_compareRow 60 = .ok (.istore_n 2, 1) := by decide +kernel
theorem d_M_compareRow_61 : decode b_M_compareRow 61 = .ok (.iload_n 2, 1) := by decide +kernel
theorem d_M_compareRow_62 : decode b_M_compareRow 62 = .ok (.aload_n 0, 1) := by decide +kernel
theorem d_M_compareRow_63 : decode b_M_compareRow 63 = .ok (.getfield 67, 3) := by decide +kernel
theorem d_M_compareRow_66 : decode b_M_compareRow 66 = .ok (.iconst 4, 1) := by decide +kernel
theorem d_M_compareRow_67 : decode b_M_compareRow 67 = .ok (.iaload, 1) := by decide +kernel
theorem d_M_compareRow_68 : decode b_M_compareRow 68 = .ok (.if_icmp .ge 63, 3) := by decide +kernel
theorem d_M_compareRow_71 : decode b_M_compareRow 71 = .ok (.aload_n 0, 1) := by decide +kernel
theorem d_M_compareRow_72 : decode b_M_compareRow 72 = .ok (.getfield 40, 3) := by decide +kernel
theorem d_M_compareRow_75 : decode b_M_compareRow 75 = .ok (.bipush 12, 2) := by decide +kernel
theorem d_M_compareRow_77 : decode b_M_compareRow 77 = .ok (.iload_n 1, 1) := by decide +kernel
theorem d_M_compareRow_78 : decode b_M_compareRow 78 = .ok (.imul, 1) := by decide +kernel
theorem d_M_compareRow_79 : decode b_M_compareRow 79 = .ok (.iconst 5, 1) := by decide +kernel
theorem d_M_compareRow_80 : decode b_M_compareRow 80 = .ok (.iadd, 1) := by decide +kernel
theorem d_M_compareRow_81 : decode b_M_compareRow 81 = .ok (.iload_n 2, 1) := by decide +kernel
theorem d_M_compareRow_82 : decode b_M_compareRow 82 = .ok (.iadd, 1) := by decide +kernel
theorem d_M_compareRow_83 : decode b_M_compareRow 83 = .ok (.iaload, 1) := by decide +kernel
theorem d_M_compareRow_84 : decode b_M_compareRow 84 = .ok (.aload_n 0, 1) := by decide +kernel
theorem d_M_compareRow_85 : decode b_M_compareRow 85 = .ok (.getfield 67, 3) := by decide +kernel
theorem d_M_compareRow_88 : decode b_M_compareRow 88 = .ok (.iconst 5, 1) := by decide +kernel
theorem d_M_compareRow_89 : decode b_M_compareRow 89 = .ok (.iload_n 2, 1) := by decide +kernel
theorem d_M_compareRow_90 : decode b_M_compareRow 90 = .ok (.iadd, 1) := by decide +kernel
theorem d_M_compareRow_91 : decode b_M_compareRow 91 = .ok (.iaload, 1) := by decide +kernel
theorem d_M_compareRow_92 : decode b_M_compareRow 92 = .ok (.if_icmp .eq 33, 3) := by decide +kernel
theorem d_M_compareRow_95 : decode b_M_compareRow 95 = .ok (.aload_n 0, 1) := by decide +kernel
theorem d_M_compareRow_96 : decode b_M_compareRow 96 = .ok (.getfield 40, 3) := by decide +kernel
theorem d_M_compareRow_99 : decode b_M_compareRow 99 = .ok (.bipush 12, 2) := by decide +kernel
theorem d_M_compareRow_101 : decode b_M_compareRow 101 = .ok (.iload_n 1, 1) := by decide +kernel
theorem d_M_compareRow_102 : decode b_M_compareRow 102 = .ok (.imul, 1) := by decide +kernel
theorem d_M_compareRow_103 : decode b_M_compareRow 103 = .ok (.iconst 5, 1) := by decide +kernel
theorem d_M_compareRow_104 : decode b_M_compareRow 104 = .ok (.iadd, 1) := by decide +kernel
theorem d_M_compareRow_105 : decode b_M_compareRow 105 = .ok (.iload_n 2, 1) := by decide +kernel
theorem d_M_compareRow_106 : decode b_M_compareRow 106 = .ok (.iadd, 1) := by decide +kernel
theorem d_M_compareRow_107 : decode b_M_compareRow 107 = .ok (.iaload, 1) := by decide +kernel
theorem d_M_compareRow_108 : decode b_M_compareRow 108 = .ok (.aload_n 0, 1) := by decide +kernel
theorem d_M_compareRow_109 : decode b_M_compareRow 109 = .ok (.getfield 67, 3) := by decide +kernel
theorem d_M_compareRow_112 : decode b_M_compareRow 112 = .ok (.iconst 5, 1) := by decide +kernel
theorem d_M_compareRow_113 : decode b_M_compareRow 113 = .ok (.iload_n 2, 1) := by decide +kernel
theorem d_M_compareRow_114 : decode b_M_compareRow 114 = .ok (.iadd, 1) := by decide +kernel
theorem d_M_compareRow_115 : decode b_M_compareRow 115 = .ok (.iaload, 1) := by decide +kernel
theorem d_M_compareRow_116 : decode b_M_compareRow 116 = .ok (.if_icmp .ge 7, 3) := by decide +kernel
theorem d_M_compareRow_119 : decode b_M_compareRow 119 = .ok (.iconst (-1), 1) := by decide +kernel
theorem d_M_compareRow_120 : decode b_M_compareRow 120 = .ok (.goto 4, 3) := by decide +kernel
theorem d_M_compareRow_123 : decode b_M_compareRow 123 = .ok (.iconst 1, 1) := by decide +kernel
theorem d_M_compareRow_124 : decode b_M_compareRow 124 = .ok (.ireturn, 1) := by decide +kernel
theorem d_M_compareRow_125 : decode b_M_compareRow 125 = .ok (.iinc 2 1, 3) := by decide +kernel
theorem d_M_compareRow_128 : decode b_M_compareRow 128 = .ok (.goto (-67), 3) := by decide +kernel
theorem d_M_compareRow_131 : decode b_M_compareRow 131 = .ok (.iconst 0, 1) := by decide +kernel
theorem d_M_compareRow_132 : decode b_M_compareRow 132 = .ok (.ireturn, 1) := by decide +kernel
theorem d_M_go_0 : decode b_M_go 0 = .ok (.aload_n 0, 1) := by decide +kernel
theorem d_M_go_1 : decode b_M_go 1 = .ok (.iload_n 1, 1) := by decide +kernel
theorem d_M_go_2 : decode b_M_go 2 = .ok (.iconst 1, 1) := by decide +kernel
theorem d_M_go_3 : decode b_M_go 3 = .ok (.if_icmp .lt 10, 3) := by decide +kernel
theorem d_M_go_6 : decode b_M_go 6 = .ok (.iload_n 1, 1) := by decide +kernel
theorem d_M_go_7 : decode b_M_go 7 = .ok (.sipush 1000, 3) := by decide +kernel
theorem d_M_go_10 : decode b_M_go 10 = .ok (.if_icmp .le 7, 3) := by decide +kernel
theorem d_M_go_13 : decode b_M_go 13 = .ok (.iconst 1, 1) := by decide +kernel
theorem d_M_go_14 : decode b_M_go 14 = .ok (.goto 4, 3) := by decide +kernel
theorem d_M_go_17 : decode b_M_go 17 = .ok (.iconst 0, 1) := by decide +kernel
theorem d_M_go_18 : decode b_M_go 18 = .ok (.iconst 0, 1) := by decide +kernel
theorem d_M_go_19 : decode b_M_go 19 = .ok (.invokevirtual 103, 3) := by decide +kernel
theorem d_M_go_22 : decode b_M_go 22 = .ok (.ifCond .eq 5, 3) := by decide +kernel
theorem d_M_go_25 : decode b_M_go 25 = .ok (.iconst 0, 1) := by decide +kernel
theorem d_M_go_26 : decode b_M_go 26 = .ok (.ireturn, 1) := by decide +kernel
theorem d_M_go_27 : decode b_M_go 27 = .ok (.aload_n 0, 1) := by decide +kernel
theorem d_M_go_28 : decode b_M_go 28 = .ok (.invokevirtual 167, 3) := by decide +kernel
theorem d_M_go_31 : decode b_M_go 31 = .ok (.iconst 0, 1) := by decide +kernel
theorem d_M_go_32 : decode b_M_go 32 = .ok (.istore_n 2, 1) := by decide +kernel
theorem d_M_go_33 : decode b_M_go 33 = .ok (.iload_n 2, 1) := by decide +kernel
theorem d_M_go_34 : decode b_M_go 34 = .ok (.iload_n 1, 1) := by decide +kernel
theorem d_M_go_35 : decode b_M_go 35 = .ok (.if_icmp .ge 31, 3) := by decide +kernel
theorem d_M_go_38 : decode b_M_go 38 = .ok (.aload_n 0, 1) := by decide +kernel
theorem d_M_go_39 : decode b_M_go 39 = .ok (.getfield 97, 3) := by decide +kernel
theorem d_M_go_42 : decode b_M_go 42 = .ok (.ifCond .ne 24, 3) := by decide +kernel
theorem d_M_go_45 : decode b_M_go 45 = .ok (.aload_n 0, 1) := by decide +kernel
theorem d_M_go_46 : decode b_M_go 46 = .ok (.getfield 85, 3) := by decide +kernel
theorem d_M_go_49 : decode b_M_go 49 = .ok (.aload_n 0, 1) := by decide +kernel
theorem d_M_go_50 : decode b_M_go 50 = .ok (.getfield 82, 3) := by decide +kernel
theorem d_M_go_53 : decode b_M_go 53 = .ok (.if_icmp .ge 13, 3) := by decide +kernel
theorem d_M_go_56 : decode b_M_go 56 = .ok (.aload_n 0, 1) := by decide +kernel
theorem d_M_go_57 : decode b_M_go 57 = .ok (.invokevirtual 170, 3) := by decide +kernel
theorem d_M_go_60 : decode b_M_go 60 = .ok (.iinc 2 1, 3) := by decide +kernel
theorem d_M_go_63 : decode b_M_go 63 = .ok (.goto (-30), 3) := by decide +kernel
theorem d_M_go_66 : decode b_M_go 66 = .ok (.aload_n 0, 1) := by decide +kernel
theorem d_M_go_67 : decode b_M_go 67 = .ok (.getfield 82, 3) := by decide +kernel
theorem d_M_go_70 : decode b_M_go 70 = .ok (.ireturn, 1) := by decide +kernel
theorem d_M_node_0 : decode b_M_node 0 = .ok (.aload_n 0, 1) := by decide +kernel
theorem d_M_node_1 : decode b_M_node 1 = .ok (.iload_n 1, 1) := by decide +kernel
theorem d_M_node_2 : decode b_M_node 2 = .ok (.aload_n 0, 1) := by decide +kernel
theorem d_M_node_3 : decode b_M_node 3 = .ok (.getfield 82, 3) := by decide +kernel
theorem d_M_node_6 : decode b_M_node 6 = .ok (.invokestatic 113, 3) := by decide +kernel
theorem d_M_node_9 : decode b_M_node 9 = .ok (.ifCond .eq 14, 3) := by decide +kernel
theorem d_M_node_12 : decode b_M_node 12 = .ok (.iload_n 2, 1) := by decide +kernel
theorem d_M_node_13 : decode b_M_node 13 = .ok (.aload_n 0, 1) := by decide +kernel
theorem d_M_node_14 : decode b_M_node 14 = .ok (.getfield 70, 3) := by decide +kernel
theorem d_M_node_17 : decode b_M_node 17 = .ok (.invokestatic 113, 3) := by decide +kernel
theorem d_M_node_20 : decode b_M_node 20 = .ok (.ifCond .ne 7, 3) := by decide +kernel
theorem d_M_node_23 : decode b_M_node 23 = .ok (.iconst 1, 1) := by decide +kernel
theorem d_M_node_24 : decode b_M_node 24 = .ok (.goto 4, 3) := by decide +kernel
theorem d_M_node_27 : decode b_M_node 27 = .ok (.iconst 0, 1) := by decide +kernel
theorem d_M_node_28 : decode b_M_node 28 = .ok (.iconst 0, 1) := by decide +kernel
theorem d_M_node_29 : decode b_M_node 29 = .ok (.invokevirtual 103, 3) := by decide +kernel
theorem d_M_node_32 : decode b_M_node 32 = .ok (.ifCond .eq 5, 3) := by decide +kernel
theorem d_M_node_35 : decode b_M_node 35 = .ok (.iconst 0, 1) := by decide +kernel
theorem d_M_node_36 : decode b_M_node 36 = .ok (.ireturn, 1) := by decide +kernel
theorem d_M_node_37 : decode b_M_node 37 = .ok (.aload_n 0, 1) := by decide +kernel
theorem d_M_node_38 : decode b_M_node 38 = .ok (.getfield 40, 3) := by decide +kernel
theorem d_M_node_41 : decode b_M_node 41 = .ok (.bipush 12, 2) := by decide +kernel
theorem d_M_node_43 : decode b_M_node 43 = .ok (.iload_n 1, 1) := by decide +kernel
theorem d_M_node_44 : decode b_M_node 44 = .ok (.imul, 1) := by decide +kernel
theorem d_M_node_45 : decode b_M_node 45 = .ok (.iload_n 2, 1) := by decide +kernel
theorem d_M_node_46 : decode b_M_node 46 = .ok (.iadd, 1) := by decide +kernel
theorem d_M_node_47 : decode b_M_node 47 = .ok (.iaload, 1) := by decide +kernel
theorem d_M_node_48 : decode b_M_node 48 = .ok (.ireturn, 1) := by decide +kernel
theorem d_M_code_0 : decode b_M_code 0 = .ok (.aload_n 0, 1) := by decide +kernel
theorem d_M_code_1 : decode b_M_code 1 = .ok (.iload_n 1, 1) := by decide +kernel
theorem d_M_code_2 : decode b_M_code 2 = .ok (.aload_n 0, 1) := by decide +kernel
theorem d_M_code_3 : decode b_M_code 3 = .ok (.getfield 82, 3) := by decide +kernel
theorem d_M_code_6 : decode b_M_code 6 = .ok (.invokestatic 113, 3) := by decide +kernel
theorem d_M_code_9 : decode b_M_code 9 = .ok (.ifCond .eq 36, 3) := by decide +kernel
theorem d_M_code_12 : decode b_M_code 12 = .ok (.iload_n 2, 1) := by decide +kernel
theorem d_M_code_13 : decode b_M_code 13 = .ok (.iload_n 1, 1) := by decide +kernel
theorem d_M_code_14 : decode b_M_code 14 = .ok (.aload_n 0, 1) := by decide +kernel
theorem d_M_code_15 : decode b_M_code 15 = .ok (.getfield 82, 3) := by decide +kernel
theorem d_M_code_18 : decode b_M_code 18 = .ok (.invokestatic 113, 3) := by decide +kernel
theorem d_M_code_21 : decode b_M_code 21 = .ok (.ifCond .eq 17, 3) := by decide +kernel
theorem d_M_code_24 : decode b_M_code 24 = .ok (.aload_n 0, 1) := by decide +kernel
theorem d_M_code_25 : decode b_M_code 25 = .ok (.getfield 40, 3) := by decide +kernel
theorem d_M_code_28 : decode b_M_code 28 = .ok (.bipush 12, 2) := by decide +kernel
theorem d_M_code_30 : decode b_M_code 30 = .ok (.iload_n 1, 1) := by decide +kernel
theorem d_M_code_31 : decode b_M_code 31 = .ok (.imul, 1) := by decide +kernel
theorem d_M_code_32 : decode b_M_code 32 = .ok (.iconst 4, 1) := by decide +kernel
theorem d_M_code_33 : decode b_M_code 33 = .ok (.iadd, 1) := by decide +kernel
theorem d_M_code_34 : decode b_M_code 34 = .ok (.iaload, 1) := by decide +kernel
theorem d_M_code_35 : decode b_M_code 35 = .ok (.goto 4, 3) := by decide +kernel
theorem d_M_code_38 : decode b_M_code 38 = .ok (.iconst 0, 1) := by decide +kernel
theorem d_M_code_39 : decode b_M_code 39 = .ok (.invokestatic 113, 3) := by decide +kernel
theorem d_M_code_42 : decode b_M_code 42 = .ok (.ifCond .ne 7, 3) := by decide +kernel
theorem d_M_code_45 : decode b_M_code 45 = .ok (.iconst 1, 1) := by decide +kernel
theorem d_M_code_46 : decode b_M_code 46 = .ok (.goto 4, 3) := by decide +kernel
theorem d_M_code_49 : decode b_M_code 49 = .ok (.iconst 0, 1) := by decide +kernel
theorem d_M_code_50 : decode b_M_code 50 = .ok (.iconst 0, 1) := by decide +kernel
theorem d_M_code_51 : decode b_M_code 51 = .ok (.invokevirtual 103, 3) := by decide +kernel
theorem d_M_code_54 : decode b_M_code 54 = .ok (.ifCond .eq 5, 3) := by decide +kernel
theorem d_M_code_57 : decode b_M_code 57 = .ok (.iconst 0, 1) := by decide +kernel
theorem d_M_code_58 : decode b_M_code 58 = .ok (.ireturn, 1) := by decide +kernel
theorem d_M_code_59 : decode b_M_code 59 = .ok (.aload_n 0, 1) := by decide +kernel
theorem d_M_code_60 : decode b_M_code 60 = .ok (.getfield 40, 3) := by decide +kernel
theorem d_M_code_63 : decode b_M_code 63 = .ok (.bipush 12, 2) := by decide +kernel
theorem d_M_code_65 : decode b_M_code 65 = .ok (.iload_n 1, 1) := by decide +kernel
theorem d_M_code_66 : decode b_M_code 66 = .ok (.imul, 1) := by decide +kernel
theorem d_M_code_67 : decode b_M_code 67 = .ok (.iconst 5, 1) := by decide +kernel
theorem d_M_code_68 : decode b_M_code 68 = .ok (.iadd, 1) := by decide +kernel
theorem d_M_code_69 : decode b_M_code 69 = .ok (.iload_n 2, 1) := by decide +kernel
theorem d_M_code_70 : decode b_M_code 70 = .ok (.iadd, 1) := by decide +kernel
theorem d_M_code_71 : decode b_M_code 71 = .ok (.iaload, 1) := by decide +kernel
theorem d_M_code_72 : decode b_M_code 72 = .ok (.ireturn, 1) := by decide +kernel
theorem d_M_whole_0 : decode b_M_whole 0 = .ok (.aload_n 0, 1) := by decide +kernel
theorem d_M_whole_1 : decode b_M_whole 1 = .ok (.iload_n 1, 1) := by decide +kernel
theorem d_M_whole_2 : decode b_M_whole 2 = .ok (.aload_n 0, 1) := by decide +kernel
theorem d_M_whole_3 : decode b_M_whole 3 = .ok (.getfield 82, 3) := by decide +kernel
theorem d_M_whole_6 : decode b_M_whole 6 = .ok (.invokestatic 113, 3) := by decide +kernel
theorem d_M_whole_9 : decode b_M_whole 9 = .ok (.ifCond .eq 12, 3) := by decide +kernel
theorem d_M_whole_12 : decode b_M_whole 12 = .ok (.iload_n 2, 1) := by decide +kernel
theorem d_M_whole_13 : decode b_M_whole 13 = .ok (.bipush 6, 2) := by decide +kernel
theorem d_M_whole_15 : decode b_M_whole 15 = .ok (.invokestatic 113, 3) := by decide +kernel
theorem d_M_whole_18 : decode b_M_whole 18 = .ok (.ifCond .ne 7, 3) := by decide +kernel
theorem d_M_whole_21 : decode b_M_whole 21 = .ok (.iconst 1, 1) := by decide +kernel
theorem d_M_whole_22 : decode b_M_whole 22 = .ok (.goto 4, 3) := by decide +kernel
theorem d_M_whole_25 : decode b_M_whole 25 = .ok (.iconst 0, 1) := by decide +kernel
theorem d_M_whole_26 : decode b_M_whole 26 = .ok (.iconst 0, 1) := by decide +kernel
theorem d_M_whole_27 : decode b_M_whole 27 = .ok (.invokevirtual 103, 3) := by decide +kernel
theorem d_M_whole_30 : decode b_M_whole 30 = .ok (.ifCond .eq 5, 3) := by decide +kernel
theorem d_M_whole_33 : decode b_M_whole 33 = .ok (.iconst 0, 1) := by decide +kernel
theorem d_M_whole_34 : decode b_M_whole 34 = .ok (.ireturn, 1) := by decide +kernel
theorem d_M_whole_35 : decode b_M_whole 35 = .ok (.iload_n 2, 1) := by decide +kernel
theorem d_M_whole_36 : decode b_M_whole 36 = .ok (.tableswitch 76 0 4 #[36, 48, 55, 62, 69], 36) := by decide +kernel
theorem d_M_whole_72 : decode b_M_whole 72 = .ok (.aload_n 0, 1) := by decide +kernel
theorem d_M_whole_73 : decode b_M_whole 73 = .ok (.getfield 40, 3) := by decide +kernel
theorem d_M_whole_76 : decode b_M_whole 76 = .ok (.bipush 12, 2) := by decide +kernel
theorem d_M_whole_78 : decode b_M_whole 78 = .ok (.iload_n 1, 1) := by decide +kernel
theorem d_M_whole_79 : decode b_M_whole 79 = .ok (.imul, 1) := by decide +kernel
theorem d_M_whole_80 : decode b_M_whole 80 = .ok (.iconst 4, 1) := by decide +kernel
theorem d_M_whole_81 : decode b_M_whole 81 = .ok (.iadd, 1) := by decide +kernel
theorem d_M_whole_82 : decode b_M_whole 82 = .ok (.iaload, 1) := by decide +kernel
theorem d_M_whole_83 : decode b_M_whole 83 = .ok (.ireturn, 1) := by decide +kernel
theorem d_M_whole_84 : decode b_M_whole 84 = .ok (.aload_n 0, 1) := by decide +kernel
theorem d_M_whole_85 : decode b_M_whole 85 = .ok (.getfield 46, 3) := by decide +kernel
theorem d_M_whole_88 : decode b_M_whole 88 = .ok (.iload_n 1, 1) := by decide +kernel
theorem d_M_whole_89 : decode b_M_whole 89 = .ok (.iaload, 1) := by decide +kernel
theorem d_M_whole_90 : decode b_M_whole 90 = .ok (.ireturn, 1) := by decide +kernel
theorem d_M_whole_91 : decode b_M_whole 91 = .ok (.aload_n 0, 1) := by decide +kernel
theorem d_M_whole_92 : decode b_M_whole 92 = .ok (.getfield 49, 3) := by decide +kernel
theorem d_M_whole_95 : decode b_M_whole 95 = .ok (.iload_n 1, 1) := by decide +kernel
theorem d_M_whole_96 : decode b_M_whole 96 = .ok (.iaload, 1) := by decide +kernel
theorem d_M_whole_97 : decode b_M_whole 97 = .ok (.ireturn, 1) := by decide +kernel
theorem d_M_whole_98 : decode b_M_whole 98 = .ok (.aload_n 0, 1) := by decide +kernel
theorem d_M_whole_99 : decode b_M_whole 99 = .ok (.getfield 52, 3) := by decide +kernel
theorem d_M_whole_102 : decode b_M_whole 102 = .ok (.iload_n 1, 1) := by decide +kernel
theorem d_M_whole_103 : decode b_M_whole 103 = .ok (.iaload, 1) := by decide +kernel
theorem d_M_whole_104 : decode b_M_whole 104 = .ok (.ireturn, 1) := by decide +kernel
theorem d_M_whole_105 : decode b_M_whole 105 = .ok (.aload_n 0, 1) := by decide +kernel
theorem d_M_whole_106 : decode b_M_whole 106 = .ok (.getfield 55, 3) := by decide +kernel
theorem d_M_whole_109 : decode b_M_whole 109 = .ok (.iload_n 1, 1) := by decide +kernel
theorem d_M_whole_110 : decode b_M_whole 110 = .ok (.iaload, 1) := by decide +kernel
theorem d_M_whole_111 : decode b_M_whole 111 = .ok (.ireturn, 1) := by decide +kernel
theorem d_M_whole_112 : decode b_M_whole 112 = .ok (.aload_n 0, 1) := by decide +kernel
theorem d_M_whole_113 : decode b_M_whole 113 = .ok (.getfield 58, 3) := by decide +kernel
theorem d_M_whole_116 : decode b_M_whole 116 = .ok (.iload_n 1, 1) := by decide +kernel
theorem d_M_whole_117 : decode b_M_whole 117 = .ok (.iaload, 1) := by decide +kernel
theorem d_M_whole_118 : decode b_M_whole 118 = .ok (.ireturn, 1) := by decide +kernel
theorem d_M_way_0 : decode b_M_way 0 = .ok (.aload_n 0, 1) := by decide +kernel
theorem d_M_way_1 : decode b_M_way 1 = .ok (.iconst 0, 1) := by decide +kernel
theorem d_M_way_2 : decode b_M_way 2 = .ok (.putfield 79, 3) := by decide +kernel
theorem d_M_way_5 : decode b_M_way 5 = .ok (.aload_n 0, 1) := by decide +kernel
theorem d_M_way_6 : decode b_M_way 6 = .ok (.getfield 97, 3) := by decide +kernel
theorem d_M_way_9 : decode b_M_way 9 = .ok (.bipush (-2), 2) := by decide +kernel
theorem d_M_way_11 : decode b_M_way 11 = .ok (.if_icmp .ne 15, 3) := by decide +kernel
theorem d_M_way_14 : decode b_M_way 14 = .ok (.aload_n 0, 1) := by decide +kernel
theorem d_M_way_15 : decode b_M_way 15 = .ok (.getfield 46, 3) := by decide +kernel
theorem d_M_way_18 : decode b_M_way 18 = .ok (.aload_n 0, 1) := by decide +kernel
theorem d_M_way_19 : decode b_M_way 19 = .ok (.getfield 100, 3) := by decide +kernel
theorem d_M_way_22 : decode b_M_way 22 = .ok (.iaload, 1) := by decide +kernel
theorem d_M_way_23 : decode b_M_way 23 = .ok (.goto 4, 3) := by decide +kernel
theorem d_M_way_26 : decode b_M_way 26 = .ok (.iconst (-1), 1) := by decide +kernel
theorem d_M_way_27 : decode b_M_way 27 = .ok (.ireturn, 1) := by decide +kernel
theorem d_M_wayAt_0 : decode b_M_wayAt 0 = .ok (.aload_n 0, 1) := by decide +kernel
theorem d_M_wayAt_1 : decode b_M_wayAt 1 = .ok (.aload_n 0, 1) := by decide +kernel
theorem d_M_wayAt_2 : decode b_M_wayAt 2 = .ok (.getfield 97, 3) := by decide +kernel
theorem d_M_wayAt_5 : decode b_M_wayAt 5 = .ok (.bipush (-2), 2) := by decide +kernel
theorem d_M_wayAt_7 : decode b_M_wayAt 7 = .ok (.if_icmp .ne 34, 3) := by decide +kernel
theorem d_M_wayAt_10 : decode b_M_wayAt 10 = .ok (.iload_n 1, 1) := by decide +kernel
theorem d_M_wayAt_11 : decode b_M_wayAt 11 = .ok (.aload_n 0, 1) := by decide +kernel
theorem d_M_wayAt_12 : decode b_M_wayAt 12 = .ok (.getfield 97, 3) := by decide +kernel
theorem d_M_wayAt_15 : decode b_M_wayAt 15 = .ok (.bipush (-2), 2) := by decide +kernel
theorem d_M_wayAt_17 : decode b_M_wayAt 17 = .ok (.if_icmp .ne 17, 3) := by decide +kernel
theorem d_M_wayAt_20 : decode b_M_wayAt 20 = .ok (.aload_n 0, 1) := by decide +kernel
theorem d_M_wayAt_21 : decode b_M_wayAt 21 = .ok (.getfield 46, 3) := by decide +kernel
theorem d_M_wayAt_24 : decode b_M_wayAt 24 = .ok (.aload_n 0, 1) := by decide +kernel
theorem d_M_wayAt_25 : decode b_M_wayAt 25 = .ok (.getfield 100, 3) := by decide +kernel
theorem d_M_wayAt_28 : decode b_M_wayAt 28 = .ok (.iaload, 1) := by decide +kernel
theorem d_M_wayAt_29 : decode b_M_wayAt 29 = .ok (.iconst 1, 1) := by decide +kernel
theorem d_M_wayAt_30 : decode b_M_wayAt 30 = .ok (.iadd, 1) := by decide +kernel
theorem d_M_wayAt_31 : decode b_M_wayAt 31 = .ok (.goto 4, 3) := by decide +kernel
theorem d_M_wayAt_34 : decode b_M_wayAt 34 = .ok (.iconst 0, 1) := by decide +kernel
theorem d_M_wayAt_35 : decode b_M_wayAt 35 = .ok (.invokestatic 113, 3) := by decide +kernel
theorem d_M_wayAt_38 : decode b_M_wayAt 38 = .ok (.ifCond .ne 7, 3) := by decide +kernel
theorem d_M_wayAt_41 : decode b_M_wayAt 41 = .ok (.iconst 1, 1) := by decide +kernel
theorem d_M_wayAt_42 : decode b_M_wayAt 42 = .ok (.goto 4, 3) := by decide +kernel
theorem d_M_wayAt_45 : decode b_M_wayAt 45 = .ok (.iconst 0, 1) := by decide +kernel
theorem d_M_wayAt_46 : decode b_M_wayAt 46 = .ok (.iconst 0, 1) := by decide +kernel
theorem d_M_wayAt_47 : decode b_M_wayAt 47 = .ok (.invokevirtual 103, 3) := by decide +kernel
theorem d_M_wayAt_50 : decode b_M_wayAt 50 = .ok (.ifCond .eq 5, 3) := by decide +kernel
theorem d_M_wayAt_53 : decode b_M_wayAt 53 = .ok (.iconst 0, 1) := by decide +kernel
theorem d_M_wayAt_54 : decode b_M_wayAt 54 = .ok (.ireturn, 1) := by decide +kernel
theorem d_M_wayAt_55 : decode b_M_wayAt 55 = .ok (.aload_n 0, 1) := by decide +kernel
theorem d_M_wayAt_56 : decode b_M_wayAt 56 = .ok (.getfield 100, 3) := by decide +kernel
theorem d_M_wayAt_59 : decode b_M_wayAt 59 = .ok (.istore_n 2, 1) := by decide +kernel
theorem d_M_wayAt_60 : decode b_M_wayAt 60 = .ok (.aload_n 0, 1) := by decide +kernel
theorem d_M_wayAt_61 : decode b_M_wayAt 61 = .ok (.getfield 46, 3) := by decide +kernel
theorem d_M_wayAt_64 : decode b_M_wayAt 64 = .ok (.iload_n 2, 1) := by decide +kernel
theorem d_M_wayAt_65 : decode b_M_wayAt 65 = .ok (.iaload, 1) := by decide +kernel
theorem d_M_wayAt_66 : decode b_M_wayAt 66 = .ok (.iload_n 1, 1) := by decide +kernel
theorem d_M_wayAt_67 : decode b_M_wayAt 67 = .ok (.if_icmp .le 13, 3) := by decide +kernel
theorem d_M_wayAt_70 : decode b_M_wayAt 70 = .ok (.aload_n 0, 1) := by decide +kernel
theorem d_M_wayAt_71 : decode b_M_wayAt 71 = .ok (.getfield 49, 3) := by decide +kernel
theorem d_M_wayAt_74 : decode b_M_wayAt 74 = .ok (.iload_n 2, 1) := by decide +kernel
theorem d_M_wayAt_75 : decode b_M_wayAt 75 = .ok (.iaload, 1) := by decide +kernel
theorem d_M_wayAt_76 : decode b_M_wayAt 76 = .ok (.istore_n 2, 1) := by decide +kernel
theorem d_M_wayAt_77 : decode b_M_wayAt 77 = .ok (.goto (-17), 3) := by decide +kernel
theorem d_M_wayAt_80 : decode b_M_wayAt 80 = .ok (.iload_n 2, 1) := by decide +kernel
theorem d_M_wayAt_81 : decode b_M_wayAt 81 = .ok (.ireturn, 1) := by decide +kernel
theorem d_M_count_0 : decode b_M_count 0 = .ok (.aload_n 0, 1) := by decide +kernel
theorem d_M_count_1 : decode b_M_count 1 = .ok (.iconst 0, 1) := by decide +kernel
theorem d_M_count_2 : decode b_M_count 2 = .ok (.putfield 79, 3) := by decide +kernel
theorem d_M_count_5 : decode b_M_count 5 = .ok (.iload_n 1, 1) := by decide +kernel
theorem d_M_count_6 : decode b_M_count 6 = .ok (.tableswitch 113 0 10 #[58, 63, 68, 73, 78, 83, 88, 93, 98, 103, 108], 58) := by decide +kernel
theorem d_M_count_64 : decode b_M_count 64 = .ok (.aload_n 0, 1) := by decide +kernel
theorem d_M_count_65 : decode b_M_count 65 = .ok (.getfield 70, 3) := by decide +kernel
theorem d_M_count_68 : decode b_M_count 68 = .ok (.ireturn, 1) := by decide +kernel
theorem d_M_count_69 : decode b_M_count 69 = .ok (.aload_n 0, 1) := by decide +kernel
theorem d_M_count_70 : decode b_M_count 70 = .ok (.getfield 7, 3) := by decide +kernel
theorem d_M_count_73 : decode b_M_count 73 = .ok (.ireturn, 1) := by decide +kernel
theorem d_M_count_74 : decode b_M_count 74 = .ok (.aload_n 0, 1) := by decide +kernel
theorem d_M_count_75 : decode b_M_count 75 = .ok (.getfield 110, 3) := by decide +kernel
theorem d_M_count_78 : decode b_M_count 78 = .ok (.ireturn, 1) := by decide +kernel
theorem d_M_count_79 : decode b_M_count 79 = .ok (.aload_n 0, 1) := by decide +kernel
theorem d_M_count_80 : decode b_M_count 80 = .ok (.getfield 117, 3) := by decide +kernel
theorem d_M_count_83 : decode b_M_count 83 = .ok (.ireturn, 1) := by decide +kernel
theorem d_M_count_84 : decode b_M_count 84 = .ok (.aload_n 0, 1) := by decide +kernel
theorem d_M_count_85 : decode b_M_count 85 = .ok (.getfield 82, 3) := by decide +kernel
theorem d_M_count_88 : decode b_M_count 88 = .ok (.ireturn, 1) := by decide +kernel
theorem d_M_count_89 : decode b_M_count 89 = .ok (.aload_n 0, 1) := by decide +kernel
theorem d_M_count_90 : decode b_M_count 90 = .ok (.getfield 85, 3) := by decide +kernel
theorem d_M_count_93 : decode b_M_count 93 = .ok (.ireturn, 1) := by decide +kernel
theorem d_M_count_94 : decode b_M_count 94 = .ok (.aload_n 0, 1) := by decide +kernel
theorem d_M_count_95 : decode b_M_count 95 = .ok (.invokevirtual 173, 3) := by decide +kernel
theorem d_M_count_98 : decode b_M_count 98 = .ok (.ireturn, 1) := by decide +kernel
theorem d_M_count_99 : decode b_M_count 99 = .ok (.aload_n 0, 1) := by decide +kernel
theorem d_M_count_100 : decode b_M_count 100 = .ok (.getfield 88, 3) := by decide +kernel
theorem d_M_count_103 : decode b_M_count 103 = .ok (.ireturn, 1) := by decide +kernel
theorem d_M_count_104 : decode b_M_count 104 = .ok (.aload_n 0, 1) := by decide +kernel
theorem d_M_count_105 : decode b_M_count 105 = .ok (.getfield 91, 3) := by decide +kernel
theorem d_M_count_108 : decode b_M_count 108 = .ok (.ireturn, 1) := by decide +kernel
theorem d_M_count_109 : decode b_M_count 109 = .ok (.aload_n 0, 1) := by decide +kernel
theorem d_M_count_110 : decode b_M_count 110 = .ok (.getfield 94, 3) := by decide +kernel
theorem d_M_count_113 : decode b_M_count 113 = .ok (.ireturn, 1) := by decide +kernel
theorem d_M_count_114 : decode b_M_count 114 = .ok (.aload_n 0, 1) := by decide +kernel
theorem d_M_count_115 : decode b_M_count 115 = .ok (.invokevirtual 177, 3) := by decide +kernel
theorem d_M_count_118 : decode b_M_count 118 = .ok (.ireturn, 1) := by decide +kernel
theorem d_M_count_119 : decode b_M_count 119 = .ok (.iconst (-1), 1) := by decide +kernel
theorem d_M_count_120 : decode b_M_count 120 = .ok (.ireturn, 1) := by decide +kernel
theorem d_M_greatestLevel_0 : decode b_M_greatestLevel 0 = .ok (.iconst (-1), 1) := by decide +kernel
theorem d_M_greatestLevel_1 : decode b_M_greatestLevel 1 = .ok (.istore_n 1, 1) := by decide +kernel
theorem d_M_greatestLevel_2 : decode b_M_greatestLevel 2 = .ok (.iconst 0, 1) := by decide +kernel
theorem d_M_greatestLevel_3 : decode b_M_greatestLevel 3 = .ok (.istore_n 2, 1) := by decide +kernel
theorem d_M_greatestLevel_4 : decode b_M_greatestLevel 4 = .ok (.iload_n 2, 1) := by decide +kernel
theorem d_M_greatestLevel_5 : decode b_M_greatestLevel 5 = .ok (.aload_n 0, 1) := by decide +kernel
theorem d_M_greatestLevel_6 : decode b_M_greatestLevel 6 = .ok (.getfield 82, 3) := by decide +kernel
theorem d_M_greatestLevel_9 : decode b_M_greatestLevel 9 = .ok (.if_icmp .ge 30, 3) := by decide +kernel
theorem d_M_greatestLevel_12 : decode b_M_greatestLevel 12 = .ok (.aload_n 0, 1) := by decide +kernel
theorem d_M_greatestLevel_13 : decode b_M_greatestLevel 13 = .ok (.getfield 46, 3) := by decide +kernel
theorem d_M_greatestLevel_16 : decode b_M_greatestLevel 16 = .ok (.iload_n 2, 1) := by decide +kernel
theorem d_M_greatestLevel_17 : decode b_M_greatestLevel 17 = .ok (.iaload, 1) := by decide +kernel
theorem d_M_greatestLevel_18 : decode b_M_greatestLevel 18 = .ok (.iload_n 1, 1) := by decide +kernel
theorem d_M_greatestLevel_19 : decode b_M_greatestLevel 19 = .ok (.if_icmp .le 12, 3) := by decide +kernel
theorem d_M_greatestLevel_22 : decode b_M_greatestLevel 22 = .ok (.aload_n 0, 1) := by decide +kernel
theorem d_M_greatestLevel_23 : decode b_M_greatestLevel 23 = .ok (.getfield 46, 3) := by decide +kernel
theorem d_M_greatestLevel_26 : decode b_M_greatestLevel 26 = .ok (.iload_n 2, 1) := by decide +kernel
theorem d_M_greatestLevel_27 : decode b_M_greatestLevel 27 = .ok (.iaload, 1) := by decide +kernel
theorem d_M_greatestLevel_28 : decode b_M_greatestLevel 28 = .ok (.goto 4, 3) := by decide +kernel
theorem d_M_greatestLevel_31 : decode b_M_greatestLevel 31 = .ok (.iload_n 1, 1) := by decide +kernel
theorem d_M_greatestLevel_32 : decode b_M_greatestLevel 32 = .ok (.istore_n 1, 1) := by decide +kernel
theorem d_M_greatestLevel_33 : decode b_M_greatestLevel 33 = .ok (.iinc 2 1, 3) := by decide +kernel
theorem d_M_greatestLevel_36 : decode b_M_greatestLevel 36 = .ok (.goto (-32), 3) := by decide +kernel
theorem d_M_greatestLevel_39 : decode b_M_greatestLevel 39 = .ok (.iload_n 1, 1) := by decide +kernel
theorem d_M_greatestLevel_40 : decode b_M_greatestLevel 40 = .ok (.ireturn, 1) := by decide +kernel
theorem d_M_sums_0 : decode b_M_sums 0 = .ok (.iconst 0, 1) := by decide +kernel
theorem d_M_sums_1 : decode b_M_sums 1 = .ok (.istore_n 1, 1) := by decide +kernel
theorem d_M_sums_2 : decode b_M_sums 2 = .ok (.iconst 0, 1) := by decide +kernel
theorem d_M_sums_3 : decode b_M_sums 3 = .ok (.istore_n 2, 1) := by decide +kernel
theorem d_M_sums_4 : decode b_M_sums 4 = .ok (.iload_n 2, 1) := by decide +kernel
theorem d_M_sums_5 : decode b_M_sums 5 = .ok (.aload_n 0, 1) := by decide +kernel
theorem d_M_sums_6 : decode b_M_sums 6 = .ok (.getfield 82, 3) := by decide +kernel
theorem d_M_sums_9 : decode b_M_sums 9 = .ok (.if_icmp .ge 23, 3) := by decide +kernel
theorem d_M_sums_12 : decode b_M_sums 12 = .ok (.iload_n 1, 1) := by decide +kernel
theorem d_M_sums_13 : decode b_M_sums 13 = .ok (.aload_n 0, 1) := by decide +kernel
theorem d_M_sums_14 : decode b_M_sums 14 = .ok (.getfield 76, 3) := by decide +kernel
theorem d_M_sums_17 : decode b_M_sums 17 = .ok (.aload_n 0, 1) := by decide +kernel
theorem d_M_sums_18 : decode b_M_sums 18 = .ok (.getfield 58, 3) := by decide +kernel
theorem d_M_sums_21 : decode b_M_sums 21 = .ok (.iload_n 2, 1) := by decide +kernel
theorem d_M_sums_22 : decode b_M_sums 22 = .ok (.iaload, 1) := by decide +kernel
theorem d_M_sums_23 : decode b_M_sums 23 = .ok (.idiv, 1) := by decide +kernel
theorem d_M_sums_24 : decode b_M_sums 24 = .ok (.iadd, 1) := by decide +kernel
theorem d_M_sums_25 : decode b_M_sums 25 = .ok (.istore_n 1, 1) := by decide +kernel
theorem d_M_sums_26 : decode b_M_sums 26 = .ok (.iinc 2 1, 3) := by decide +kernel
theorem d_M_sums_29 : decode b_M_sums 29 = .ok (.goto (-25), 3) := by decide +kernel
theorem d_M_sums_32 : decode b_M_sums 32 = .ok (.iload_n 1, 1) := by decide +kernel
theorem d_M_sums_33 : decode b_M_sums 33 = .ok (.ireturn, 1) := by decide +kernel
