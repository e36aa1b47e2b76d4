set_option maxRecDepth 100000
theorem eX2_plan_0 : Dc cX2_plan 0 (.iload 4) 2 2 := ⟨by decide +kernel, rfl⟩
theorem eX2_plan_2 : Dc cX2_plan 2 (.iconst 0) 1 3 := ⟨by decide +kernel, rfl⟩
theorem eX2_plan_3 : Dc cX2_plan 3 (.iconst 1) 1 4 := ⟨by decide +kernel, rfl⟩
theorem eX2_plan_4 : Dc cX2_plan 4 (.invokestatic 58) 3 7 := ⟨by decide +kernel, rfl⟩
theorem eX2_plan_7 : Db cX2_plan 7 (fun o => .ifCond .ne o) 12 10 := ⟨5, by decide +kernel, by decide, rfl⟩
theorem eX2_plan_10 : Dc cX2_plan 10 (.iconst (-1)) 1 11 := ⟨by decide +kernel, rfl⟩
theorem eX2_plan_11 : Dc cX2_plan 11 (.ireturn) 1 12 := ⟨by decide +kernel, rfl⟩
theorem eX2_plan_12 : Dc cX2_plan 12 (.iload_n 1) 1 13 := ⟨by decide +kernel, rfl⟩
theorem eX2_plan_13 : Dc cX2_plan 13 (.iconst 0) 1 14 := ⟨by decide +kernel, rfl⟩
theorem eX2_plan_14 : Dc cX2_plan 14 (.iconst 1) 1 15 := ⟨by decide +kernel, rfl⟩
theorem eX2_plan_15 : Dc cX2_plan 15 (.aload_n 0) 1 16 := ⟨by decide +kernel, rfl⟩
theorem eX2_plan_16 : Dc cX2_plan 16 (.getfield 8) 3 19 := ⟨by decide +kernel, rfl⟩
theorem eX2_plan_19 : Dc cX2_plan 19 (.iconst 1) 1 20 := ⟨by decide +kernel, rfl⟩
theorem eX2_plan_20 : Dc cX2_plan 20 (.iaload) 1 21 := ⟨by decide +kernel, rfl⟩
theorem eX2_plan_21 : Dc cX2_plan 21 (.ishl) 1 22 := ⟨by decide +kernel, rfl⟩
theorem eX2_plan_22 : Dc cX2_plan 22 (.iconst 1) 1 23 := ⟨by decide +kernel, rfl⟩
theorem eX2_plan_23 : Dc cX2_plan 23 (.isub) 1 24 := ⟨by decide +kernel, rfl⟩
theorem eX2_plan_24 : Dc cX2_plan 24 (.invokestatic 58) 3 27 := ⟨by decide +kernel, rfl⟩
theorem eX2_plan_27 : Db cX2_plan 27 (fun o => .ifCond .eq o) 51 30 := ⟨24, by decide +kernel, by decide, rfl⟩
theorem eX2_plan_30 : Dc cX2_plan 30 (.iload_n 2) 1 31 := ⟨by decide +kernel, rfl⟩
theorem eX2_plan_31 : Dc cX2_plan 31 (.iconst 0) 1 32 := ⟨by decide +kernel, rfl⟩
theorem eX2_plan_32 : Dc cX2_plan 32 (.ldc 72) 2 34 := ⟨by decide +kernel, rfl⟩
theorem eX2_plan_34 : Dc cX2_plan 34 (.invokestatic 58) 3 37 := ⟨by decide +kernel, rfl⟩
theorem eX2_plan_37 : Db cX2_plan 37 (fun o => .ifCond .eq o) 51 40 := ⟨14, by decide +kernel, by decide, rfl⟩
theorem eX2_plan_40 : Dc cX2_plan 40 (.iload_n 3) 1 41 := ⟨by decide +kernel, rfl⟩
theorem eX2_plan_41 : Dc cX2_plan 41 (.iconst 0) 1 42 := ⟨by decide +kernel, rfl⟩
theorem eX2_plan_42 : Dc cX2_plan 42 (.ldc_w 275) 3 45 := ⟨by decide +kernel, rfl⟩
theorem eX2_plan_45 : Dc cX2_plan 45 (.invokestatic 58) 3 48 := ⟨by decide +kernel, rfl⟩
theorem eX2_plan_48 : Db cX2_plan 48 (fun o => .ifCond .ne o) 54 51 := ⟨6, by decide +kernel, by decide, rfl⟩
theorem eX2_plan_51 : Dc cX2_plan 51 (.bipush (-2)) 2 53 := ⟨by decide +kernel, rfl⟩
theorem eX2_plan_53 : Dc cX2_plan 53 (.ireturn) 1 54 := ⟨by decide +kernel, rfl⟩
theorem eX2_plan_54 : Dc cX2_plan 54 (.iconst 0) 1 55 := ⟨by decide +kernel, rfl⟩
theorem eX2_plan_55 : Dc cX2_plan 55 (.istore 5) 2 57 := ⟨by decide +kernel, rfl⟩
theorem eX2_plan_57 : Dc cX2_plan 57 (.iconst 0) 1 58 := ⟨by decide +kernel, rfl⟩
theorem eX2_plan_58 : Dc cX2_plan 58 (.istore 6) 2 60 := ⟨by decide +kernel, rfl⟩
theorem eX2_plan_60 : Dc cX2_plan 60 (.iload 6) 2 62 := ⟨by decide +kernel, rfl⟩
theorem eX2_plan_62 : Dc cX2_plan 62 (.aload_n 0) 1 63 := ⟨by decide +kernel, rfl⟩
theorem eX2_plan_63 : Dc cX2_plan 63 (.getfield 8) 3 66 := ⟨by decide +kernel, rfl⟩
theorem eX2_plan_66 : Dc cX2_plan 66 (.iconst 2) 1 67 := ⟨by decide +kernel, rfl⟩
theorem eX2_plan_67 : Dc cX2_plan 67 (.iaload) 1 68 := ⟨by decide +kernel, rfl⟩
theorem eX2_plan_68 : Db cX2_plan 68 (fun o => .if_icmp .ge o) 140 71 := ⟨72, by decide +kernel, by decide, rfl⟩
theorem eX2_plan_71 : Dc cX2_plan 71 (.iload 5) 2 73 := ⟨by decide +kernel, rfl⟩
theorem eX2_plan_73 : Dc cX2_plan 73 (.bipush 8) 2 75 := ⟨by decide +kernel, rfl⟩
theorem eX2_plan_75 : Db cX2_plan 75 (fun o => .if_icmp .ge o) 134 78 := ⟨59, by decide +kernel, by decide, rfl⟩
theorem eX2_plan_78 : Dc cX2_plan 78 (.aload_n 0) 1 79 := ⟨by decide +kernel, rfl⟩
theorem eX2_plan_79 : Dc cX2_plan 79 (.getfield 8) 3 82 := ⟨by decide +kernel, rfl⟩
theorem eX2_plan_82 : Dc cX2_plan 82 (.sipush 370) 3 85 := ⟨by decide +kernel, rfl⟩
theorem eX2_plan_85 : Dc cX2_plan 85 (.iload 6) 2 87 := ⟨by decide +kernel, rfl⟩
theorem eX2_plan_87 : Dc cX2_plan 87 (.iadd) 1 88 := ⟨by decide +kernel, rfl⟩
theorem eX2_plan_88 : Dc cX2_plan 88 (.iaload) 1 89 := ⟨by decide +kernel, rfl⟩
theorem eX2_plan_89 : Dc cX2_plan 89 (.iconst 3) 1 90 := ⟨by decide +kernel, rfl⟩
theorem eX2_plan_90 : Db cX2_plan 90 (fun o => .if_icmp .ne o) 134 93 := ⟨44, by decide +kernel, by decide, rfl⟩
theorem eX2_plan_93 : Dc cX2_plan 93 (.aload_n 0) 1 94 := ⟨by decide +kernel, rfl⟩
theorem eX2_plan_94 : Dc cX2_plan 94 (.getfield 8) 3 97 := ⟨by decide +kernel, rfl⟩
theorem eX2_plan_97 : Dc cX2_plan 97 (.sipush 790) 3 100 := ⟨by decide +kernel, rfl⟩
theorem eX2_plan_100 : Dc cX2_plan 100 (.iload 6) 2 102 := ⟨by decide +kernel, rfl⟩
theorem eX2_plan_102 : Dc cX2_plan 102 (.iadd) 1 103 := ⟨by decide +kernel, rfl⟩
theorem eX2_plan_103 : Dc cX2_plan 103 (.iaload) 1 104 := ⟨by decide +kernel, rfl⟩
theorem eX2_plan_104 : Db cX2_plan 104 (fun o => .ifCond .ne o) 134 107 := ⟨30, by decide +kernel, by decide, rfl⟩
theorem eX2_plan_107 : Dc cX2_plan 107 (.aload_n 0) 1 108 := ⟨by decide +kernel, rfl⟩
theorem eX2_plan_108 : Dc cX2_plan 108 (.iload 6) 2 110 := ⟨by decide +kernel, rfl⟩
theorem eX2_plan_110 : Dc cX2_plan 110 (.aload_n 0) 1 111 := ⟨by decide +kernel, rfl⟩
theorem eX2_plan_111 : Dc cX2_plan 111 (.getfield 8) 3 114 := ⟨by decide +kernel, rfl⟩
theorem eX2_plan_114 : Dc cX2_plan 114 (.iconst 0) 1 115 := ⟨by decide +kernel, rfl⟩
theorem eX2_plan_115 : Dc cX2_plan 115 (.iaload) 1 116 := ⟨by decide +kernel, rfl⟩
theorem eX2_plan_116 : Dc cX2_plan 116 (.invokevirtual 213) 3 119 := ⟨by decide +kernel, rfl⟩
theorem eX2_plan_119 : Db cX2_plan 119 (fun o => .ifCond .eq o) 134 122 := ⟨15, by decide +kernel, by decide, rfl⟩
theorem eX2_plan_122 : Dc cX2_plan 122 (.aload_n 0) 1 123 := ⟨by decide +kernel, rfl⟩
theorem eX2_plan_123 : Dc cX2_plan 123 (.getfield 48) 3 126 := ⟨by decide +kernel, rfl⟩
theorem eX2_plan_126 : Dc cX2_plan 126 (.iload 5) 2 128 := ⟨by decide +kernel, rfl⟩
theorem eX2_plan_128 : Dc cX2_plan 128 (.iload 6) 2 130 := ⟨by decide +kernel, rfl⟩
theorem eX2_plan_130 : Dc cX2_plan 130 (.iastore) 1 131 := ⟨by decide +kernel, rfl⟩
theorem eX2_plan_131 : Dc cX2_plan 131 (.iinc 5 1) 3 134 := ⟨by decide +kernel, rfl⟩
theorem eX2_plan_134 : Dc cX2_plan 134 (.iinc 6 1) 3 137 := ⟨by decide +kernel, rfl⟩
theorem eX2_plan_137 : Db cX2_plan 137 (fun o => .goto o) 60 140 := ⟨-77, by decide +kernel, by decide, rfl⟩
theorem eX2_plan_140 : Dc cX2_plan 140 (.bipush (-5)) 2 142 := ⟨by decide +kernel, rfl⟩
theorem eX2_plan_142 : Dc cX2_plan 142 (.istore 6) 2 144 := ⟨by decide +kernel, rfl⟩
theorem eX2_plan_144 : Dc cX2_plan 144 (.iconst 0) 1 145 := ⟨by decide +kernel, rfl⟩
theorem eX2_plan_145 : Dc cX2_plan 145 (.istore 7) 2 147 := ⟨by decide +kernel, rfl⟩
theorem eX2_plan_147 : Dc cX2_plan 147 (.iconst 0) 1 148 := ⟨by decide +kernel, rfl⟩
theorem eX2_plan_148 : Dc cX2_plan 148 (.istore 8) 2 150 := ⟨by decide +kernel, rfl⟩
theorem eX2_plan_150 : Dc cX2_plan 150 (.iload 8) 2 152 := ⟨by decide +kernel, rfl⟩
theorem eX2_plan_152 : Dc cX2_plan 152 (.iconst 1) 1 153 := ⟨by decide +kernel, rfl⟩
theorem eX2_plan_153 : Dc cX2_plan 153 (.iload 5) 2 155 := ⟨by decide +kernel, rfl⟩
theorem eX2_plan_155 : Dc cX2_plan 155 (.ishl) 1 156 := ⟨by decide +kernel, rfl⟩
theorem eX2_plan_156 : Db cX2_plan 156 (fun o => .if_icmp .ge o) 390 159 := ⟨234, by decide +kernel, by decide, rfl⟩
theorem eX2_plan_159 : Dc cX2_plan 159 (.iconst 0) 1 160 := ⟨by decide +kernel, rfl⟩
theorem eX2_plan_160 : Dc cX2_plan 160 (.istore 9) 2 162 := ⟨by decide +kernel, rfl⟩
theorem eX2_plan_162 : Dc cX2_plan 162 (.iconst 0) 1 163 := ⟨by decide +kernel, rfl⟩
theorem eX2_plan_163 : Dc cX2_plan 163 (.istore 10) 2 165 := ⟨by decide +kernel, rfl⟩
theorem eX2_plan_165 : Dc cX2_plan 165 (.aload_n 0) 1 166 := ⟨by decide +kernel, rfl⟩
theorem eX2_plan_166 : Dc cX2_plan 166 (.iload_n 1) 1 167 := ⟨by decide +kernel, rfl⟩
theorem eX2_plan_167 : Dc cX2_plan 167 (.iload 8) 2 169 := ⟨by decide +kernel, rfl⟩
theorem eX2_plan_169 : Dc cX2_plan 169 (.iload 5) 2 171 := ⟨by decide +kernel, rfl⟩
theorem eX2_plan_171 : Dc cX2_plan 171 (.invokevirtual 272) 3 174 := ⟨by decide +kernel, rfl⟩
theorem eX2_plan_174 : Dc cX2_plan 174 (.istore 11) 2 176 := ⟨by decide +kernel, rfl⟩
theorem eX2_plan_176 : Dc cX2_plan 176 (.iconst 0) 1 177 := ⟨by decide +kernel, rfl⟩
theorem eX2_plan_177 : Dc cX2_plan 177 (.istore 12) 2 179 := ⟨by decide +kernel, rfl⟩
theorem eX2_plan_179 : Dc cX2_plan 179 (.iload 12) 2 181 := ⟨by decide +kernel, rfl⟩
theorem eX2_plan_181 : Dc cX2_plan 181 (.iload 5) 2 183 := ⟨by decide +kernel, rfl⟩
theorem eX2_plan_183 : Db cX2_plan 183 (fun o => .if_icmp .ge o) 313 186 := ⟨130, by decide +kernel, by decide, rfl⟩
theorem eX2_plan_186 : Dc cX2_plan 186 (.iload 8) 2 188 := ⟨by decide +kernel, rfl⟩
theorem eX2_plan_188 : Dc cX2_plan 188 (.iload 12) 2 190 := ⟨by decide +kernel, rfl⟩
theorem eX2_plan_190 : Dc cX2_plan 190 (.ishr) 1 191 := ⟨by decide +kernel, rfl⟩
theorem eX2_plan_191 : Dc cX2_plan 191 (.iconst 1) 1 192 := ⟨by decide +kernel, rfl⟩
theorem eX2_plan_192 : Dc cX2_plan 192 (.iand) 1 193 := ⟨by decide +kernel, rfl⟩
theorem eX2_plan_193 : Dc cX2_plan 193 (.iconst 1) 1 194 := ⟨by decide +kernel, rfl⟩
theorem eX2_plan_194 : Db cX2_plan 194 (fun o => .if_icmp .ne o) 307 197 := ⟨113, by decide +kernel, by decide, rfl⟩
theorem eX2_plan_197 : Dc cX2_plan 197 (.aload_n 0) 1 198 := ⟨by decide +kernel, rfl⟩
theorem eX2_plan_198 : Dc cX2_plan 198 (.aload_n 0) 1 199 := ⟨by decide +kernel, rfl⟩
theorem eX2_plan_199 : Dc cX2_plan 199 (.getfield 8) 3 202 := ⟨by decide +kernel, rfl⟩
theorem eX2_plan_202 : Dc cX2_plan 202 (.sipush 430) 3 205 := ⟨by decide +kernel, rfl⟩
theorem eX2_plan_205 : Dc cX2_plan 205 (.aload_n 0) 1 206 := ⟨by decide +kernel, rfl⟩
theorem eX2_plan_206 : Dc cX2_plan 206 (.getfield 48) 3 209 := ⟨by decide +kernel, rfl⟩
theorem eX2_plan_209 : Dc cX2_plan 209 (.iload 12) 2 211 := ⟨by decide +kernel, rfl⟩
theorem eX2_plan_211 : Dc cX2_plan 211 (.iaload) 1 212 := ⟨by decide +kernel, rfl⟩
theorem eX2_plan_212 : Dc cX2_plan 212 (.iadd) 1 213 := ⟨by decide +kernel, rfl⟩
theorem eX2_plan_213 : Dc cX2_plan 213 (.iaload) 1 214 := ⟨by decide +kernel, rfl⟩
theorem eX2_plan_214 : Dc cX2_plan 214 (.invokevirtual 190) 3 217 := ⟨by decide +kernel, rfl⟩
theorem eX2_plan_217 : Dc cX2_plan 217 (.istore 13) 2 219 := ⟨by decide +kernel, rfl⟩
theorem eX2_plan_219 : Dc cX2_plan 219 (.iload 9) 2 221 := ⟨by decide +kernel, rfl⟩
theorem eX2_plan_221 : Dc cX2_plan 221 (.iload 13) 2 223 := ⟨by decide +kernel, rfl⟩
theorem eX2_plan_223 : Dc cX2_plan 223 (.iadd) 1 224 := ⟨by decide +kernel, rfl⟩
theorem eX2_plan_224 : Dc cX2_plan 224 (.istore 9) 2 226 := ⟨by decide +kernel, rfl⟩
theorem eX2_plan_226 : Dc cX2_plan 226 (.iload 10) 2 228 := ⟨by decide +kernel, rfl⟩
theorem eX2_plan_228 : Dc cX2_plan 228 (.iconst 2) 1 229 := ⟨by decide +kernel, rfl⟩
theorem eX2_plan_229 : Dc cX2_plan 229 (.iload 13) 2 231 := ⟨by decide +kernel, rfl⟩
theorem eX2_plan_231 : Dc cX2_plan 231 (.imul) 1 232 := ⟨by decide +kernel, rfl⟩
theorem eX2_plan_232 : Dc cX2_plan 232 (.aload_n 0) 1 233 := ⟨by decide +kernel, rfl⟩
theorem eX2_plan_233 : Dc cX2_plan 233 (.aload_n 0) 1 234 := ⟨by decide +kernel, rfl⟩
theorem eX2_plan_234 : Dc cX2_plan 234 (.getfield 48) 3 237 := ⟨by decide +kernel, rfl⟩
theorem eX2_plan_237 : Dc cX2_plan 237 (.iload 12) 2 239 := ⟨by decide +kernel, rfl⟩
theorem eX2_plan_239 : Dc cX2_plan 239 (.iaload) 1 240 := ⟨by decide +kernel, rfl⟩
theorem eX2_plan_240 : Dc cX2_plan 240 (.invokevirtual 210) 3 243 := ⟨by decide +kernel, rfl⟩
theorem eX2_plan_243 : Dc cX2_plan 243 (.iadd) 1 244 := ⟨by decide +kernel, rfl⟩
theorem eX2_plan_244 : Dc cX2_plan 244 (.iadd) 1 245 := ⟨by decide +kernel, rfl⟩
theorem eX2_plan_245 : Dc cX2_plan 245 (.istore 10) 2 247 := ⟨by decide +kernel, rfl⟩
theorem eX2_plan_247 : Dc cX2_plan 247 (.iconst 0) 1 248 := ⟨by decide +kernel, rfl⟩
theorem eX2_plan_248 : Dc cX2_plan 248 (.istore 14) 2 250 := ⟨by decide +kernel, rfl⟩
theorem eX2_plan_250 : Dc cX2_plan 250 (.iload 14) 2 252 := ⟨by decide +kernel, rfl⟩
theorem eX2_plan_252 : Dc cX2_plan 252 (.iload 12) 2 254 := ⟨by decide +kernel, rfl⟩
theorem eX2_plan_254 : Db cX2_plan 254 (fun o => .if_icmp .ge o) 307 257 := ⟨53, by decide +kernel, by decide, rfl⟩
theorem eX2_plan_257 : Dc cX2_plan 257 (.iload 11) 2 259 := ⟨by decide +kernel, rfl⟩
theorem eX2_plan_259 : Db cX2_plan 259 (fun o => .ifCond .eq o) 298 262 := ⟨39, by decide +kernel, by decide, rfl⟩
theorem eX2_plan_262 : Dc cX2_plan 262 (.iload 8) 2 264 := ⟨by decide +kernel, rfl⟩
theorem eX2_plan_264 : Dc cX2_plan 264 (.iload 14) 2 266 := ⟨by decide +kernel, rfl⟩
theorem eX2_plan_266 : Dc cX2_plan 266 (.ishr) 1 267 := ⟨by decide +kernel, rfl⟩
theorem eX2_plan_267 : Dc cX2_plan 267 (.iconst 1) 1 268 := ⟨by decide +kernel, rfl⟩
theorem eX2_plan_268 : Dc cX2_plan 268 (.iand) 1 269 := ⟨by decide +kernel, rfl⟩
theorem eX2_plan_269 : Dc cX2_plan 269 (.iconst 1) 1 270 := ⟨by decide +kernel, rfl⟩
theorem eX2_plan_270 : Db cX2_plan 270 (fun o => .if_icmp .ne o) 294 273 := ⟨24, by decide +kernel, by decide, rfl⟩
theorem eX2_plan_273 : Dc cX2_plan 273 (.aload_n 0) 1 274 := ⟨by decide +kernel, rfl⟩
theorem eX2_plan_274 : Dc cX2_plan 274 (.aload_n 0) 1 275 := ⟨by decide +kernel, rfl⟩
theorem eX2_plan_275 : Dc cX2_plan 275 (.getfield 48) 3 278 := ⟨by decide +kernel, rfl⟩
theorem eX2_plan_278 : Dc cX2_plan 278 (.iload 14) 2 280 := ⟨by decide +kernel, rfl⟩
theorem eX2_plan_280 : Dc cX2_plan 280 (.iaload) 1 281 := ⟨by decide +kernel, rfl⟩
theorem eX2_plan_281 : Dc cX2_plan 281 (.aload_n 0) 1 282 := ⟨by decide +kernel, rfl⟩
theorem eX2_plan_282 : Dc cX2_plan 282 (.getfield 48) 3 285 := ⟨by decide +kernel, rfl⟩
theorem eX2_plan_285 : Dc cX2_plan 285 (.iload 12) 2 287 := ⟨by decide +kernel, rfl⟩
theorem eX2_plan_287 : Dc cX2_plan 287 (.iaload) 1 288 := ⟨by decide +kernel, rfl⟩
theorem eX2_plan_288 : Dc cX2_plan 288 (.invokevirtual 216) 3 291 := ⟨by decide +kernel, rfl⟩
theorem eX2_plan_291 : Db cX2_plan 291 (fun o => .ifCond .ne o) 298 294 := ⟨7, by decide +kernel, by decide, rfl⟩
theorem eX2_plan_294 : Dc cX2_plan 294 (.iconst 1) 1 295 := ⟨by decide +kernel, rfl⟩
theorem eX2_plan_295 : Db cX2_plan 295 (fun o => .goto o) 299 298 := ⟨4, by decide +kernel, by decide, rfl⟩
theorem eX2_plan_298 : Dc cX2_plan 298 (.iconst 0) 1 299 := ⟨by decide +kernel, rfl⟩
theorem eX2_plan_299 : Dc cX2_plan 299 (.istore 11) 2 301 := ⟨by decide +kernel, rfl⟩
theorem eX2_plan_301 : Dc cX2_plan 301 (.iinc 14 1) 3 304 := ⟨by decide +kernel, rfl⟩
theorem eX2_plan_304 : Db cX2_plan 304 (fun o => .goto o) 250 307 := ⟨-54, by decide +kernel, by decide, rfl⟩
theorem eX2_plan_307 : Dc cX2_plan 307 (.iinc 12 1) 3 310 := ⟨by decide +kernel, rfl⟩
theorem eX2_plan_310 : Db cX2_plan 310 (fun o => .goto o) 179 313 := ⟨-131, by decide +kernel, by decide, rfl⟩
theorem eX2_plan_313 : Dc cX2_plan 313 (.iload 6) 2 315 := ⟨by decide +kernel, rfl⟩
theorem eX2_plan_315 : Dc cX2_plan 315 (.bipush (-5)) 2 317 := ⟨by decide +kernel, rfl⟩
theorem eX2_plan_317 : Db cX2_plan 317 (fun o => .if_icmp .eq o) 347 320 := ⟨30, by decide +kernel, by decide, rfl⟩
theorem eX2_plan_320 : Dc cX2_plan 320 (.iload 10) 2 322 := ⟨by decide +kernel, rfl⟩
theorem eX2_plan_322 : Dc cX2_plan 322 (.iload 7) 2 324 := ⟨by decide +kernel, rfl⟩
theorem eX2_plan_324 : Db cX2_plan 324 (fun o => .if_icmp .lt o) 347 327 := ⟨23, by decide +kernel, by decide, rfl⟩
theorem eX2_plan_327 : Dc cX2_plan 327 (.iload 10) 2 329 := ⟨by decide +kernel, rfl⟩
theorem eX2_plan_329 : Dc cX2_plan 329 (.iload 7) 2 331 := ⟨by decide +kernel, rfl⟩
theorem eX2_plan_331 : Db cX2_plan 331 (fun o => .if_icmp .ne o) 351 334 := ⟨20, by decide +kernel, by decide, rfl⟩
theorem eX2_plan_334 : Dc cX2_plan 334 (.iload 8) 2 336 := ⟨by decide +kernel, rfl⟩
theorem eX2_plan_336 : Dc cX2_plan 336 (.invokestatic 269) 3 339 := ⟨by decide +kernel, rfl⟩
theorem eX2_plan_339 : Dc cX2_plan 339 (.iload 6) 2 341 := ⟨by decide +kernel, rfl⟩
theorem eX2_plan_341 : Dc cX2_plan 341 (.invokestatic 269) 3 344 := ⟨by decide +kernel, rfl⟩
theorem eX2_plan_344 : Db cX2_plan 344 (fun o => .if_icmp .ge o) 351 347 := ⟨7, by decide +kernel, by decide, rfl⟩
theorem eX2_plan_347 : Dc cX2_plan 347 (.iconst 1) 1 348 := ⟨by decide +kernel, rfl⟩
theorem eX2_plan_348 : Db cX2_plan 348 (fun o => .goto o) 352 351 := ⟨4, by decide +kernel, by decide, rfl⟩
theorem eX2_plan_351 : Dc cX2_plan 351 (.iconst 0) 1 352 := ⟨by decide +kernel, rfl⟩
theorem eX2_plan_352 : Dc cX2_plan 352 (.istore 12) 2 354 := ⟨by decide +kernel, rfl⟩
theorem eX2_plan_354 : Dc cX2_plan 354 (.iload 11) 2 356 := ⟨by decide +kernel, rfl⟩
theorem eX2_plan_356 : Db cX2_plan 356 (fun o => .ifCond .eq o) 384 359 := ⟨28, by decide +kernel, by decide, rfl⟩
theorem eX2_plan_359 : Dc cX2_plan 359 (.iload 9) 2 361 := ⟨by decide +kernel, rfl⟩
theorem eX2_plan_361 : Dc cX2_plan 361 (.iload_n 2) 1 362 := ⟨by decide +kernel, rfl⟩
theorem eX2_plan_362 : Db cX2_plan 362 (fun o => .if_icmp .gt o) 384 365 := ⟨22, by decide +kernel, by decide, rfl⟩
theorem eX2_plan_365 : Dc cX2_plan 365 (.iload 10) 2 367 := ⟨by decide +kernel, rfl⟩
theorem eX2_plan_367 : Dc cX2_plan 367 (.iload_n 3) 1 368 := ⟨by decide +kernel, rfl⟩
theorem eX2_plan_368 : Db cX2_plan 368 (fun o => .if_icmp .gt o) 384 371 := ⟨16, by decide +kernel, by decide, rfl⟩
theorem eX2_plan_371 : Dc cX2_plan 371 (.iload 12) 2 373 := ⟨by decide +kernel, rfl⟩
theorem eX2_plan_373 : Db cX2_plan 373 (fun o => .ifCond .eq o) 384 376 := ⟨11, by decide +kernel, by decide, rfl⟩
theorem eX2_plan_376 : Dc cX2_plan 376 (.iload 8) 2 378 := ⟨by decide +kernel, rfl⟩
theorem eX2_plan_378 : Dc cX2_plan 378 (.istore 6) 2 380 := ⟨by decide +kernel, rfl⟩
theorem eX2_plan_380 : Dc cX2_plan 380 (.iload 10) 2 382 := ⟨by decide +kernel, rfl⟩
theorem eX2_plan_382 : Dc cX2_plan 382 (.istore 7) 2 384 := ⟨by decide +kernel, rfl⟩
theorem eX2_plan_384 : Dc cX2_plan 384 (.iinc 8 1) 3 387 := ⟨by decide +kernel, rfl⟩
theorem eX2_plan_387 : Db cX2_plan 387 (fun o => .goto o) 150 390 := ⟨-237, by decide +kernel, by decide, rfl⟩
theorem eX2_plan_390 : Dc cX2_plan 390 (.iload 6) 2 392 := ⟨by decide +kernel, rfl⟩
theorem eX2_plan_392 : Dc cX2_plan 392 (.bipush (-5)) 2 394 := ⟨by decide +kernel, rfl⟩
theorem eX2_plan_394 : Db cX2_plan 394 (fun o => .if_icmp .ne o) 402 397 := ⟨8, by decide +kernel, by decide, rfl⟩
theorem eX2_plan_397 : Dc cX2_plan 397 (.bipush (-5)) 2 399 := ⟨by decide +kernel, rfl⟩
theorem eX2_plan_399 : Db cX2_plan 399 (fun o => .goto o) 414 402 := ⟨15, by decide +kernel, by decide, rfl⟩
theorem eX2_plan_402 : Dc cX2_plan 402 (.iload 4) 2 404 := ⟨by decide +kernel, rfl⟩
theorem eX2_plan_404 : Db cX2_plan 404 (fun o => .ifCond .ne o) 412 407 := ⟨8, by decide +kernel, by decide, rfl⟩
theorem eX2_plan_407 : Dc cX2_plan 407 (.iload 6) 2 409 := ⟨by decide +kernel, rfl⟩
theorem eX2_plan_409 : Db cX2_plan 409 (fun o => .goto o) 414 412 := ⟨5, by decide +kernel, by decide, rfl⟩
theorem eX2_plan_412 : Dc cX2_plan 412 (.iload 7) 2 414 := ⟨by decide +kernel, rfl⟩
theorem eX2_plan_414 : Dc cX2_plan 414 (.ireturn) 1 415 := ⟨by decide +kernel, rfl⟩
theorem eX2_tried_0 : Dc cX2_tried 0 (.iload_n 1) 1 1 := ⟨by decide +kernel, rfl⟩
theorem eX2_tried_1 : Dc cX2_tried 1 (.iconst 0) 1 2 := ⟨by decide +kernel, rfl⟩
theorem eX2_tried_2 : Dc cX2_tried 2 (.iconst 2) 1 3 := ⟨by decide +kernel, rfl⟩
theorem eX2_tried_3 : Dc cX2_tried 3 (.invokestatic 58) 3 6 := ⟨by decide +kernel, rfl⟩
theorem eX2_tried_6 : Db cX2_tried 6 (fun o => .ifCond .ne o) 11 9 := ⟨5, by decide +kernel, by decide, rfl⟩
theorem eX2_tried_9 : Dc cX2_tried 9 (.iconst (-1)) 1 10 := ⟨by decide +kernel, rfl⟩
theorem eX2_tried_10 : Dc cX2_tried 10 (.ireturn) 1 11 := ⟨by decide +kernel, rfl⟩
theorem eX2_tried_11 : Dc cX2_tried 11 (.aload_n 0) 1 12 := ⟨by decide +kernel, rfl⟩
theorem eX2_tried_12 : Dc cX2_tried 12 (.getfield 8) 3 15 := ⟨by decide +kernel, rfl⟩
theorem eX2_tried_15 : Dc cX2_tried 15 (.iconst 3) 1 16 := ⟨by decide +kernel, rfl⟩
theorem eX2_tried_16 : Dc cX2_tried 16 (.iaload) 1 17 := ⟨by decide +kernel, rfl⟩
theorem eX2_tried_17 : Dc cX2_tried 17 (.istore_n 2) 1 18 := ⟨by decide +kernel, rfl⟩
theorem eX2_tried_18 : Dc cX2_tried 18 (.aload_n 0) 1 19 := ⟨by decide +kernel, rfl⟩
theorem eX2_tried_19 : Dc cX2_tried 19 (.iload_n 2) 1 20 := ⟨by decide +kernel, rfl⟩
theorem eX2_tried_20 : Dc cX2_tried 20 (.aload_n 0) 1 21 := ⟨by decide +kernel, rfl⟩
theorem eX2_tried_21 : Dc cX2_tried 21 (.getfield 8) 3 24 := ⟨by decide +kernel, rfl⟩
theorem eX2_tried_24 : Dc cX2_tried 24 (.iconst 0) 1 25 := ⟨by decide +kernel, rfl⟩
theorem eX2_tried_25 : Dc cX2_tried 25 (.iaload) 1 26 := ⟨by decide +kernel, rfl⟩
theorem eX2_tried_26 : Dc cX2_tried 26 (.invokevirtual 144) 3 29 := ⟨by decide +kernel, rfl⟩
theorem eX2_tried_29 : Db cX2_tried 29 (fun o => .ifCond .ne o) 40 32 := ⟨11, by decide +kernel, by decide, rfl⟩
theorem eX2_tried_32 : Dc cX2_tried 32 (.bipush (-10)) 2 34 := ⟨by decide +kernel, rfl⟩
theorem eX2_tried_34 : Dc cX2_tried 34 (.aload_n 0) 1 35 := ⟨by decide +kernel, rfl⟩
theorem eX2_tried_35 : Dc cX2_tried 35 (.getfield 75) 3 38 := ⟨by decide +kernel, rfl⟩
theorem eX2_tried_38 : Dc cX2_tried 38 (.isub) 1 39 := ⟨by decide +kernel, rfl⟩
theorem eX2_tried_39 : Dc cX2_tried 39 (.ireturn) 1 40 := ⟨by decide +kernel, rfl⟩
theorem eX2_tried_40 : Dc cX2_tried 40 (.aload_n 0) 1 41 := ⟨by decide +kernel, rfl⟩
theorem eX2_tried_41 : Dc cX2_tried 41 (.getfield 8) 3 44 := ⟨by decide +kernel, rfl⟩
theorem eX2_tried_44 : Dc cX2_tried 44 (.iconst 3) 1 45 := ⟨by decide +kernel, rfl⟩
theorem eX2_tried_45 : Dc cX2_tried 45 (.dup2) 1 46 := ⟨by decide +kernel, rfl⟩
theorem eX2_tried_46 : Dc cX2_tried 46 (.iaload) 1 47 := ⟨by decide +kernel, rfl⟩
theorem eX2_tried_47 : Dc cX2_tried 47 (.iconst 1) 1 48 := ⟨by decide +kernel, rfl⟩
theorem eX2_tried_48 : Dc cX2_tried 48 (.iadd) 1 49 := ⟨by decide +kernel, rfl⟩
theorem eX2_tried_49 : Dc cX2_tried 49 (.iastore) 1 50 := ⟨by decide +kernel, rfl⟩
theorem eX2_tried_50 : Dc cX2_tried 50 (.iconst 0) 1 51 := ⟨by decide +kernel, rfl⟩
theorem eX2_tried_51 : Dc cX2_tried 51 (.istore_n 3) 1 52 := ⟨by decide +kernel, rfl⟩
theorem eX2_tried_52 : Dc cX2_tried 52 (.iconst 0) 1 53 := ⟨by decide +kernel, rfl⟩
theorem eX2_tried_53 : Dc cX2_tried 53 (.istore 4) 2 55 := ⟨by decide +kernel, rfl⟩
theorem eX2_tried_55 : Dc cX2_tried 55 (.iload 4) 2 57 := ⟨by decide +kernel, rfl⟩
theorem eX2_tried_57 : Dc cX2_tried 57 (.aload_n 0) 1 58 := ⟨by decide +kernel, rfl⟩
theorem eX2_tried_58 : Dc cX2_tried 58 (.getfield 8) 3 61 := ⟨by decide +kernel, rfl⟩
theorem eX2_tried_61 : Dc cX2_tried 61 (.iconst 2) 1 62 := ⟨by decide +kernel, rfl⟩
theorem eX2_tried_62 : Dc cX2_tried 62 (.iaload) 1 63 := ⟨by decide +kernel, rfl⟩
theorem eX2_tried_63 : Db cX2_tried 63 (fun o => .if_icmp .ge o) 188 66 := ⟨125, by decide +kernel, by decide, rfl⟩
theorem eX2_tried_66 : Dc cX2_tried 66 (.iload_n 1) 1 67 := ⟨by decide +kernel, rfl⟩
theorem eX2_tried_67 : Dc cX2_tried 67 (.iconst 2) 1 68 := ⟨by decide +kernel, rfl⟩
theorem eX2_tried_68 : Db cX2_tried 68 (fun o => .if_icmp .ge o) 188 71 := ⟨120, by decide +kernel, by decide, rfl⟩
theorem eX2_tried_71 : Dc cX2_tried 71 (.iload_n 1) 1 72 := ⟨by decide +kernel, rfl⟩
theorem eX2_tried_72 : Db cX2_tried 72 (fun o => .ifCond .ne o) 132 75 := ⟨60, by decide +kernel, by decide, rfl⟩
theorem eX2_tried_75 : Dc cX2_tried 75 (.aload_n 0) 1 76 := ⟨by decide +kernel, rfl⟩
theorem eX2_tried_76 : Dc cX2_tried 76 (.getfield 8) 3 79 := ⟨by decide +kernel, rfl⟩
theorem eX2_tried_79 : Dc cX2_tried 79 (.sipush 370) 3 82 := ⟨by decide +kernel, rfl⟩
theorem eX2_tried_82 : Dc cX2_tried 82 (.iload 4) 2 84 := ⟨by decide +kernel, rfl⟩
theorem eX2_tried_84 : Dc cX2_tried 84 (.iadd) 1 85 := ⟨by decide +kernel, rfl⟩
theorem eX2_tried_85 : Dc cX2_tried 85 (.iaload) 1 86 := ⟨by decide +kernel, rfl⟩
theorem eX2_tried_86 : Dc cX2_tried 86 (.iconst 2) 1 87 := ⟨by decide +kernel, rfl⟩
theorem eX2_tried_87 : Db cX2_tried 87 (fun o => .if_icmp .ne o) 128 90 := ⟨41, by decide +kernel, by decide, rfl⟩
theorem eX2_tried_90 : Dc cX2_tried 90 (.aload_n 0) 1 91 := ⟨by decide +kernel, rfl⟩
theorem eX2_tried_91 : Dc cX2_tried 91 (.iload 4) 2 93 := ⟨by decide +kernel, rfl⟩
theorem eX2_tried_93 : Dc cX2_tried 93 (.aload_n 0) 1 94 := ⟨by decide +kernel, rfl⟩
theorem eX2_tried_94 : Dc cX2_tried 94 (.getfield 8) 3 97 := ⟨by decide +kernel, rfl⟩
theorem eX2_tried_97 : Dc cX2_tried 97 (.iconst 0) 1 98 := ⟨by decide +kernel, rfl⟩
theorem eX2_tried_98 : Dc cX2_tried 98 (.iaload) 1 99 := ⟨by decide +kernel, rfl⟩
theorem eX2_tried_99 : Dc cX2_tried 99 (.invokevirtual 193) 3 102 := ⟨by decide +kernel, rfl⟩
theorem eX2_tried_102 : Dc cX2_tried 102 (.bipush (-5)) 2 104 := ⟨by decide +kernel, rfl⟩
theorem eX2_tried_104 : Db cX2_tried 104 (fun o => .if_icmp .ne o) 128 107 := ⟨24, by decide +kernel, by decide, rfl⟩
theorem eX2_tried_107 : Dc cX2_tried 107 (.aload_n 0) 1 108 := ⟨by decide +kernel, rfl⟩
theorem eX2_tried_108 : Dc cX2_tried 108 (.iload 4) 2 110 := ⟨by decide +kernel, rfl⟩
theorem eX2_tried_110 : Dc cX2_tried 110 (.aload_n 0) 1 111 := ⟨by decide +kernel, rfl⟩
theorem eX2_tried_111 : Dc cX2_tried 111 (.getfield 8) 3 114 := ⟨by decide +kernel, rfl⟩
theorem eX2_tried_114 : Dc cX2_tried 114 (.iconst 0) 1 115 := ⟨by decide +kernel, rfl⟩
theorem eX2_tried_115 : Dc cX2_tried 115 (.iaload) 1 116 := ⟨by decide +kernel, rfl⟩
theorem eX2_tried_116 : Dc cX2_tried 116 (.invokevirtual 196) 3 119 := ⟨by decide +kernel, rfl⟩
theorem eX2_tried_119 : Dc cX2_tried 119 (.bipush (-5)) 2 121 := ⟨by decide +kernel, rfl⟩
theorem eX2_tried_121 : Db cX2_tried 121 (fun o => .if_icmp .ne o) 128 124 := ⟨7, by decide +kernel, by decide, rfl⟩
theorem eX2_tried_124 : Dc cX2_tried 124 (.iconst 1) 1 125 := ⟨by decide +kernel, rfl⟩
theorem eX2_tried_125 : Db cX2_tried 125 (fun o => .goto o) 167 128 := ⟨42, by decide +kernel, by decide, rfl⟩
theorem eX2_tried_128 : Dc cX2_tried 128 (.iconst 0) 1 129 := ⟨by decide +kernel, rfl⟩
theorem eX2_tried_129 : Db cX2_tried 129 (fun o => .goto o) 167 132 := ⟨38, by decide +kernel, by decide, rfl⟩
theorem eX2_tried_132 : Dc cX2_tried 132 (.aload_n 0) 1 133 := ⟨by decide +kernel, rfl⟩
theorem eX2_tried_133 : Dc cX2_tried 133 (.getfield 8) 3 136 := ⟨by decide +kernel, rfl⟩
theorem eX2_tried_136 : Dc cX2_tried 136 (.sipush 370) 3 139 := ⟨by decide +kernel, rfl⟩
theorem eX2_tried_139 : Dc cX2_tried 139 (.iload 4) 2 141 := ⟨by decide +kernel, rfl⟩
theorem eX2_tried_141 : Dc cX2_tried 141 (.iadd) 1 142 := ⟨by decide +kernel, rfl⟩
theorem eX2_tried_142 : Dc cX2_tried 142 (.iaload) 1 143 := ⟨by decide +kernel, rfl⟩
theorem eX2_tried_143 : Dc cX2_tried 143 (.iconst 3) 1 144 := ⟨by decide +kernel, rfl⟩
theorem eX2_tried_144 : Db cX2_tried 144 (fun o => .if_icmp .ne o) 166 147 := ⟨22, by decide +kernel, by decide, rfl⟩
theorem eX2_tried_147 : Dc cX2_tried 147 (.aload_n 0) 1 148 := ⟨by decide +kernel, rfl⟩
theorem eX2_tried_148 : Dc cX2_tried 148 (.iload 4) 2 150 := ⟨by decide +kernel, rfl⟩
theorem eX2_tried_150 : Dc cX2_tried 150 (.aload_n 0) 1 151 := ⟨by decide +kernel, rfl⟩
theorem eX2_tried_151 : Dc cX2_tried 151 (.getfield 8) 3 154 := ⟨by decide +kernel, rfl⟩
theorem eX2_tried_154 : Dc cX2_tried 154 (.iconst 0) 1 155 := ⟨by decide +kernel, rfl⟩
theorem eX2_tried_155 : Dc cX2_tried 155 (.iaload) 1 156 := ⟨by decide +kernel, rfl⟩
theorem eX2_tried_156 : Dc cX2_tried 156 (.invokevirtual 213) 3 159 := ⟨by decide +kernel, rfl⟩
theorem eX2_tried_159 : Db cX2_tried 159 (fun o => .ifCond .eq o) 166 162 := ⟨7, by decide +kernel, by decide, rfl⟩
theorem eX2_tried_162 : Dc cX2_tried 162 (.iconst 1) 1 163 := ⟨by decide +kernel, rfl⟩
theorem eX2_tried_163 : Db cX2_tried 163 (fun o => .goto o) 167 166 := ⟨4, by decide +kernel, by decide, rfl⟩
theorem eX2_tried_166 : Dc cX2_tried 166 (.iconst 0) 1 167 := ⟨by decide +kernel, rfl⟩
theorem eX2_tried_167 : Dc cX2_tried 167 (.istore 5) 2 169 := ⟨by decide +kernel, rfl⟩
theorem eX2_tried_169 : Dc cX2_tried 169 (.iload_n 3) 1 170 := ⟨by decide +kernel, rfl⟩
theorem eX2_tried_170 : Dc cX2_tried 170 (.iload 5) 2 172 := ⟨by decide +kernel, rfl⟩
theorem eX2_tried_172 : Db cX2_tried 172 (fun o => .ifCond .eq o) 179 175 := ⟨7, by decide +kernel, by decide, rfl⟩
theorem eX2_tried_175 : Dc cX2_tried 175 (.iconst 1) 1 176 := ⟨by decide +kernel, rfl⟩
theorem eX2_tried_176 : Db cX2_tried 176 (fun o => .goto o) 180 179 := ⟨4, by decide +kernel, by decide, rfl⟩
theorem eX2_tried_179 : Dc cX2_tried 179 (.iconst 0) 1 180 := ⟨by decide +kernel, rfl⟩
theorem eX2_tried_180 : Dc cX2_tried 180 (.iadd) 1 181 := ⟨by decide +kernel, rfl⟩
theorem eX2_tried_181 : Dc cX2_tried 181 (.istore_n 3) 1 182 := ⟨by decide +kernel, rfl⟩
theorem eX2_tried_182 : Dc cX2_tried 182 (.iinc 4 1) 3 185 := ⟨by decide +kernel, rfl⟩
theorem eX2_tried_185 : Db cX2_tried 185 (fun o => .goto o) 55 188 := ⟨-130, by decide +kernel, by decide, rfl⟩
theorem eX2_tried_188 : Dc cX2_tried 188 (.iload_n 1) 1 189 := ⟨by decide +kernel, rfl⟩
theorem eX2_tried_189 : Dc cX2_tried 189 (.iconst 2) 1 190 := ⟨by decide +kernel, rfl⟩
theorem eX2_tried_190 : Db cX2_tried 190 (fun o => .if_icmp .ne o) 222 193 := ⟨32, by decide +kernel, by decide, rfl⟩
theorem eX2_tried_193 : Dc cX2_tried 193 (.aload_n 0) 1 194 := ⟨by decide +kernel, rfl⟩
theorem eX2_tried_194 : Dc cX2_tried 194 (.getfield 8) 3 197 := ⟨by decide +kernel, rfl⟩
theorem eX2_tried_197 : Dc cX2_tried 197 (.iconst 1) 1 198 := ⟨by decide +kernel, rfl⟩
theorem eX2_tried_198 : Dc cX2_tried 198 (.iaload) 1 199 := ⟨by decide +kernel, rfl⟩
theorem eX2_tried_199 : Dc cX2_tried 199 (.iconst 2) 1 200 := ⟨by decide +kernel, rfl⟩
theorem eX2_tried_200 : Db cX2_tried 200 (fun o => .if_icmp .ge o) 208 203 := ⟨8, by decide +kernel, by decide, rfl⟩
theorem eX2_tried_203 : Dc cX2_tried 203 (.bipush (-5)) 2 205 := ⟨by decide +kernel, rfl⟩
theorem eX2_tried_205 : Db cX2_tried 205 (fun o => .goto o) 221 208 := ⟨16, by decide +kernel, by decide, rfl⟩
theorem eX2_tried_208 : Dc cX2_tried 208 (.aload_n 0) 1 209 := ⟨by decide +kernel, rfl⟩
theorem eX2_tried_209 : Dc cX2_tried 209 (.iconst 0) 1 210 := ⟨by decide +kernel, rfl⟩
theorem eX2_tried_210 : Dc cX2_tried 210 (.iconst 1) 1 211 := ⟨by decide +kernel, rfl⟩
theorem eX2_tried_211 : Dc cX2_tried 211 (.aload_n 0) 1 212 := ⟨by decide +kernel, rfl⟩
theorem eX2_tried_212 : Dc cX2_tried 212 (.getfield 8) 3 215 := ⟨by decide +kernel, rfl⟩
theorem eX2_tried_215 : Dc cX2_tried 215 (.iconst 0) 1 216 := ⟨by decide +kernel, rfl⟩
theorem eX2_tried_216 : Dc cX2_tried 216 (.iaload) 1 217 := ⟨by decide +kernel, rfl⟩
theorem eX2_tried_217 : Dc cX2_tried 217 (.iconst 0) 1 218 := ⟨by decide +kernel, rfl⟩
theorem eX2_tried_218 : Dc cX2_tried 218 (.invokevirtual 276) 3 221 := ⟨by decide +kernel, rfl⟩
theorem eX2_tried_221 : Dc cX2_tried 221 (.istore_n 3) 1 222 := ⟨by decide +kernel, rfl⟩
theorem eX2_tried_222 : Dc cX2_tried 222 (.aload_n 0) 1 223 := ⟨by decide +kernel, rfl⟩
theorem eX2_tried_223 : Dc cX2_tried 223 (.getfield 8) 3 226 := ⟨by decide +kernel, rfl⟩
theorem eX2_tried_226 : Dc cX2_tried 226 (.iconst 3) 1 227 := ⟨by decide +kernel, rfl⟩
theorem eX2_tried_227 : Dc cX2_tried 227 (.dup2) 1 228 := ⟨by decide +kernel, rfl⟩
theorem eX2_tried_228 : Dc cX2_tried 228 (.iaload) 1 229 := ⟨by decide +kernel, rfl⟩
theorem eX2_tried_229 : Dc cX2_tried 229 (.iconst 1) 1 230 := ⟨by decide +kernel, rfl⟩
theorem eX2_tried_230 : Dc cX2_tried 230 (.isub) 1 231 := ⟨by decide +kernel, rfl⟩
theorem eX2_tried_231 : Dc cX2_tried 231 (.iastore) 1 232 := ⟨by decide +kernel, rfl⟩
theorem eX2_tried_232 : Dc cX2_tried 232 (.iload_n 3) 1 233 := ⟨by decide +kernel, rfl⟩
theorem eX2_tried_233 : Dc cX2_tried 233 (.ireturn) 1 234 := ⟨by decide +kernel, rfl⟩
theorem eX2_known_0 : Dc cX2_known 0 (.aload_n 0) 1 1 := ⟨by decide +kernel, rfl⟩
theorem eX2_known_1 : Dc cX2_known 1 (.iload_n 1) 1 2 := ⟨by decide +kernel, rfl⟩
theorem eX2_known_2 : Dc cX2_known 2 (.invokevirtual 62) 3 5 := ⟨by decide +kernel, rfl⟩
theorem eX2_known_5 : Db cX2_known 5 (fun o => .ifCond .eq o) 24 8 := ⟨19, by decide +kernel, by decide, rfl⟩
theorem eX2_known_8 : Dc cX2_known 8 (.iload_n 2) 1 9 := ⟨by decide +kernel, rfl⟩
theorem eX2_known_9 : Dc cX2_known 9 (.iconst 0) 1 10 := ⟨by decide +kernel, rfl⟩
theorem eX2_known_10 : Dc cX2_known 10 (.aload_n 0) 1 11 := ⟨by decide +kernel, rfl⟩
theorem eX2_known_11 : Dc cX2_known 11 (.getfield 8) 3 14 := ⟨by decide +kernel, rfl⟩
theorem eX2_known_14 : Dc cX2_known 14 (.iconst 0) 1 15 := ⟨by decide +kernel, rfl⟩
theorem eX2_known_15 : Dc cX2_known 15 (.iaload) 1 16 := ⟨by decide +kernel, rfl⟩
theorem eX2_known_16 : Dc cX2_known 16 (.iconst 1) 1 17 := ⟨by decide +kernel, rfl⟩
theorem eX2_known_17 : Dc cX2_known 17 (.isub) 1 18 := ⟨by decide +kernel, rfl⟩
theorem eX2_known_18 : Dc cX2_known 18 (.invokestatic 58) 3 21 := ⟨by decide +kernel, rfl⟩
theorem eX2_known_21 : Db cX2_known 21 (fun o => .ifCond .ne o) 26 24 := ⟨5, by decide +kernel, by decide, rfl⟩
theorem eX2_known_24 : Dc cX2_known 24 (.iconst (-1)) 1 25 := ⟨by decide +kernel, rfl⟩
theorem eX2_known_25 : Dc cX2_known 25 (.ireturn) 1 26 := ⟨by decide +kernel, rfl⟩
theorem eX2_known_26 : Dc cX2_known 26 (.aload_n 0) 1 27 := ⟨by decide +kernel, rfl⟩
theorem eX2_known_27 : Dc cX2_known 27 (.getfield 8) 3 30 := ⟨by decide +kernel, rfl⟩
theorem eX2_known_30 : Dc cX2_known 30 (.sipush 370) 3 33 := ⟨by decide +kernel, rfl⟩
theorem eX2_known_33 : Dc cX2_known 33 (.iload_n 1) 1 34 := ⟨by decide +kernel, rfl⟩
theorem eX2_known_34 : Dc cX2_known 34 (.iadd) 1 35 := ⟨by decide +kernel, rfl⟩
theorem eX2_known_35 : Dc cX2_known 35 (.iaload) 1 36 := ⟨by decide +kernel, rfl⟩
theorem eX2_known_36 : Dc cX2_known 36 (.istore_n 3) 1 37 := ⟨by decide +kernel, rfl⟩
theorem eX2_known_37 : Dc cX2_known 37 (.iload_n 3) 1 38 := ⟨by decide +kernel, rfl⟩
theorem eX2_known_38 : Dc cX2_known 38 (.iconst 1) 1 39 := ⟨by decide +kernel, rfl⟩
theorem eX2_known_39 : Db cX2_known 39 (fun o => .if_icmp .ne o) 65 42 := ⟨26, by decide +kernel, by decide, rfl⟩
theorem eX2_known_42 : Dc cX2_known 42 (.aload_n 0) 1 43 := ⟨by decide +kernel, rfl⟩
theorem eX2_known_43 : Dc cX2_known 43 (.getfield 8) 3 46 := ⟨by decide +kernel, rfl⟩
theorem eX2_known_46 : Dc cX2_known 46 (.sipush 11840) 3 49 := ⟨by decide +kernel, rfl⟩
theorem eX2_known_49 : Dc cX2_known 49 (.sipush 1000) 3 52 := ⟨by decide +kernel, rfl⟩
theorem eX2_known_52 : Dc cX2_known 52 (.aload_n 0) 1 53 := ⟨by decide +kernel, rfl⟩
theorem eX2_known_53 : Dc cX2_known 53 (.iload_n 1) 1 54 := ⟨by decide +kernel, rfl⟩
theorem eX2_known_54 : Dc cX2_known 54 (.invokevirtual 238) 3 57 := ⟨by decide +kernel, rfl⟩
theorem eX2_known_57 : Dc cX2_known 57 (.imul) 1 58 := ⟨by decide +kernel, rfl⟩
theorem eX2_known_58 : Dc cX2_known 58 (.iadd) 1 59 := ⟨by decide +kernel, rfl⟩
theorem eX2_known_59 : Dc cX2_known 59 (.iload_n 2) 1 60 := ⟨by decide +kernel, rfl⟩
theorem eX2_known_60 : Dc cX2_known 60 (.iadd) 1 61 := ⟨by decide +kernel, rfl⟩
theorem eX2_known_61 : Dc cX2_known 61 (.iaload) 1 62 := ⟨by decide +kernel, rfl⟩
theorem eX2_known_62 : Db cX2_known 62 (fun o => .goto o) 90 65 := ⟨28, by decide +kernel, by decide, rfl⟩
theorem eX2_known_65 : Dc cX2_known 65 (.iload_n 3) 1 66 := ⟨by decide +kernel, rfl⟩
theorem eX2_known_66 : Dc cX2_known 66 (.iconst 3) 1 67 := ⟨by decide +kernel, rfl⟩
theorem eX2_known_67 : Db cX2_known 67 (fun o => .if_icmp .ne o) 89 70 := ⟨22, by decide +kernel, by decide, rfl⟩
theorem eX2_known_70 : Dc cX2_known 70 (.aload_n 0) 1 71 := ⟨by decide +kernel, rfl⟩
theorem eX2_known_71 : Dc cX2_known 71 (.getfield 8) 3 74 := ⟨by decide +kernel, rfl⟩
theorem eX2_known_74 : Dc cX2_known 74 (.sipush 23840) 3 77 := ⟨by decide +kernel, rfl⟩
theorem eX2_known_77 : Dc cX2_known 77 (.sipush 1000) 3 80 := ⟨by decide +kernel, rfl⟩
theorem eX2_known_80 : Dc cX2_known 80 (.iload_n 1) 1 81 := ⟨by decide +kernel, rfl⟩
theorem eX2_known_81 : Dc cX2_known 81 (.imul) 1 82 := ⟨by decide +kernel, rfl⟩
theorem eX2_known_82 : Dc cX2_known 82 (.iadd) 1 83 := ⟨by decide +kernel, rfl⟩
theorem eX2_known_83 : Dc cX2_known 83 (.iload_n 2) 1 84 := ⟨by decide +kernel, rfl⟩
theorem eX2_known_84 : Dc cX2_known 84 (.iadd) 1 85 := ⟨by decide +kernel, rfl⟩
theorem eX2_known_85 : Dc cX2_known 85 (.iaload) 1 86 := ⟨by decide +kernel, rfl⟩
theorem eX2_known_86 : Db cX2_known 86 (fun o => .goto o) 90 89 := ⟨4, by decide +kernel, by decide, rfl⟩
theorem eX2_known_89 : Dc cX2_known 89 (.iconst (-1)) 1 90 := ⟨by decide +kernel, rfl⟩
theorem eX2_known_90 : Dc cX2_known 90 (.ireturn) 1 91 := ⟨by decide +kernel, rfl⟩
theorem eX2_image_0 : Dc cX2_image 0 (.iconst 0) 1 1 := ⟨by decide +kernel, rfl⟩
theorem eX2_image_1 : Dc cX2_image 1 (.istore_n 1) 1 2 := ⟨by decide +kernel, rfl⟩
theorem eX2_image_2 : Dc cX2_image 2 (.iload_n 1) 1 3 := ⟨by decide +kernel, rfl⟩
theorem eX2_image_3 : Dc cX2_image 3 (.ldc 7) 2 5 := ⟨by decide +kernel, rfl⟩
theorem eX2_image_5 : Db cX2_image 5 (fun o => .if_icmp .ge o) 26 8 := ⟨21, by decide +kernel, by decide, rfl⟩
theorem eX2_image_8 : Dc cX2_image 8 (.aload_n 0) 1 9 := ⟨by decide +kernel, rfl⟩
theorem eX2_image_9 : Dc cX2_image 9 (.getfield 14) 3 12 := ⟨by decide +kernel, rfl⟩
theorem eX2_image_12 : Dc cX2_image 12 (.iload_n 1) 1 13 := ⟨by decide +kernel, rfl⟩
theorem eX2_image_13 : Dc cX2_image 13 (.aload_n 0) 1 14 := ⟨by decide +kernel, rfl⟩
theorem eX2_image_14 : Dc cX2_image 14 (.getfield 8) 3 17 := ⟨by decide +kernel, rfl⟩
theorem eX2_image_17 : Dc cX2_image 17 (.iload_n 1) 1 18 := ⟨by decide +kernel, rfl⟩
theorem eX2_image_18 : Dc cX2_image 18 (.iaload) 1 19 := ⟨by decide +kernel, rfl⟩
theorem eX2_image_19 : Dc cX2_image 19 (.iastore) 1 20 := ⟨by decide +kernel, rfl⟩
theorem eX2_image_20 : Dc cX2_image 20 (.iinc 1 1) 3 23 := ⟨by decide +kernel, rfl⟩
theorem eX2_image_23 : Db cX2_image 23 (fun o => .goto o) 2 26 := ⟨-21, by decide +kernel, by decide, rfl⟩
theorem eX2_image_26 : Dc cX2_image 26 (.aload_n 0) 1 27 := ⟨by decide +kernel, rfl⟩
theorem eX2_image_27 : Dc cX2_image 27 (.iconst 1) 1 28 := ⟨by decide +kernel, rfl⟩
theorem eX2_image_28 : Dc cX2_image 28 (.putfield 280) 3 31 := ⟨by decide +kernel, rfl⟩
theorem eX2_image_31 : Dc cX2_image 31 (.aload_n 0) 1 32 := ⟨by decide +kernel, rfl⟩
theorem eX2_image_32 : Dc cX2_image 32 (.getfield 8) 3 35 := ⟨by decide +kernel, rfl⟩
theorem eX2_image_35 : Dc cX2_image 35 (.iconst 0) 1 36 := ⟨by decide +kernel, rfl⟩
theorem eX2_image_36 : Dc cX2_image 36 (.iaload) 1 37 := ⟨by decide +kernel, rfl⟩
theorem eX2_image_37 : Dc cX2_image 37 (.ireturn) 1 38 := ⟨by decide +kernel, rfl⟩
theorem eX2_undo_0 : Dc cX2_undo 0 (.aload_n 0) 1 1 := ⟨by decide +kernel, rfl⟩
theorem eX2_undo_1 : Dc cX2_undo 1 (.getfield 280) 3 4 := ⟨by decide +kernel, rfl⟩
theorem eX2_undo_4 : Db cX2_undo 4 (fun o => .ifCond .ne o) 10 7 := ⟨6, by decide +kernel, by decide, rfl⟩
theorem eX2_undo_7 : Dc cX2_undo 7 (.bipush (-3)) 2 9 := ⟨by decide +kernel, rfl⟩
theorem eX2_undo_9 : Dc cX2_undo 9 (.ireturn) 1 10 := ⟨by decide +kernel, rfl⟩
theorem eX2_undo_10 : Dc cX2_undo 10 (.iconst 0) 1 11 := ⟨by decide +kernel, rfl⟩
theorem eX2_undo_11 : Dc cX2_undo 11 (.istore_n 1) 1 12 := ⟨by decide +kernel, rfl⟩
theorem eX2_undo_12 : Dc cX2_undo 12 (.iload_n 1) 1 13 := ⟨by decide +kernel, rfl⟩
theorem eX2_undo_13 : Dc cX2_undo 13 (.ldc 7) 2 15 := ⟨by decide +kernel, rfl⟩
theorem eX2_undo_15 : Db cX2_undo 15 (fun o => .if_icmp .ge o) 36 18 := ⟨21, by decide +kernel, by decide, rfl⟩
theorem eX2_undo_18 : Dc cX2_undo 18 (.aload_n 0) 1 19 := ⟨by decide +kernel, rfl⟩
theorem eX2_undo_19 : Dc cX2_undo 19 (.getfield 8) 3 22 := ⟨by decide +kernel, rfl⟩
theorem eX2_undo_22 : Dc cX2_undo 22 (.iload_n 1) 1 23 := ⟨by decide +kernel, rfl⟩
theorem eX2_undo_23 : Dc cX2_undo 23 (.aload_n 0) 1 24 := ⟨by decide +kernel, rfl⟩
theorem eX2_undo_24 : Dc cX2_undo 24 (.getfield 14) 3 27 := ⟨by decide +kernel, rfl⟩
theorem eX2_undo_27 : Dc cX2_undo 27 (.iload_n 1) 1 28 := ⟨by decide +kernel, rfl⟩
theorem eX2_undo_28 : Dc cX2_undo 28 (.iaload) 1 29 := ⟨by decide +kernel, rfl⟩
theorem eX2_undo_29 : Dc cX2_undo 29 (.iastore) 1 30 := ⟨by decide +kernel, rfl⟩
theorem eX2_undo_30 : Dc cX2_undo 30 (.iinc 1 1) 3 33 := ⟨by decide +kernel, rfl⟩
theorem eX2_undo_33 : Db cX2_undo 33 (fun o => .goto o) 12 36 := ⟨-21, by decide +kernel, by decide, rfl⟩
theorem eX2_undo_36 : Dc cX2_undo 36 (.aload_n 0) 1 37 := ⟨by decide +kernel, rfl⟩
theorem eX2_undo_37 : Dc cX2_undo 37 (.getfield 8) 3 40 := ⟨by decide +kernel, rfl⟩
theorem eX2_undo_40 : Dc cX2_undo 40 (.iconst 0) 1 41 := ⟨by decide +kernel, rfl⟩
theorem eX2_undo_41 : Dc cX2_undo 41 (.iaload) 1 42 := ⟨by decide +kernel, rfl⟩
theorem eX2_undo_42 : Dc cX2_undo 42 (.ireturn) 1 43 := ⟨by decide +kernel, rfl⟩
theorem eX2_count_0 : Dc cX2_count 0 (.iconst 0) 1 1 := ⟨by decide +kernel, rfl⟩
theorem eX2_count_1 : Dc cX2_count 1 (.istore_n 2) 1 2 := ⟨by decide +kernel, rfl⟩
theorem eX2_count_2 : Dc cX2_count 2 (.iload_n 1) 1 3 := ⟨by decide +kernel, rfl⟩
theorem eX2_count_3 : Dt cX2_count 3 (0) [60, 67, 74, 81, 88, 95, 102, 107, 156, 164, 172] 180 := ⟨177, 10, #[57, 64, 71, 78, 85, 92, 99, 104, 153, 161, 169], 57, by decide +kernel, by decide, by decide, by decide⟩
theorem eX2_count_60 : Dc cX2_count 60 (.aload_n 0) 1 61 := ⟨by decide +kernel, rfl⟩
theorem eX2_count_61 : Dc cX2_count 61 (.getfield 8) 3 64 := ⟨by decide +kernel, rfl⟩
theorem eX2_count_64 : Dc cX2_count 64 (.iconst 1) 1 65 := ⟨by decide +kernel, rfl⟩
theorem eX2_count_65 : Dc cX2_count 65 (.iaload) 1 66 := ⟨by decide +kernel, rfl⟩
theorem eX2_count_66 : Dc cX2_count 66 (.ireturn) 1 67 := ⟨by decide +kernel, rfl⟩
theorem eX2_count_67 : Dc cX2_count 67 (.aload_n 0) 1 68 := ⟨by decide +kernel, rfl⟩
theorem eX2_count_68 : Dc cX2_count 68 (.getfield 8) 3 71 := ⟨by decide +kernel, rfl⟩
theorem eX2_count_71 : Dc cX2_count 71 (.iconst 2) 1 72 := ⟨by decide +kernel, rfl⟩
theorem eX2_count_72 : Dc cX2_count 72 (.iaload) 1 73 := ⟨by decide +kernel, rfl⟩
theorem eX2_count_73 : Dc cX2_count 73 (.ireturn) 1 74 := ⟨by decide +kernel, rfl⟩
theorem eX2_count_74 : Dc cX2_count 74 (.aload_n 0) 1 75 := ⟨by decide +kernel, rfl⟩
theorem eX2_count_75 : Dc cX2_count 75 (.getfield 8) 3 78 := ⟨by decide +kernel, rfl⟩
theorem eX2_count_78 : Dc cX2_count 78 (.iconst 3) 1 79 := ⟨by decide +kernel, rfl⟩
theorem eX2_count_79 : Dc cX2_count 79 (.iaload) 1 80 := ⟨by decide +kernel, rfl⟩
theorem eX2_count_80 : Dc cX2_count 80 (.ireturn) 1 81 := ⟨by decide +kernel, rfl⟩
theorem eX2_count_81 : Dc cX2_count 81 (.aload_n 0) 1 82 := ⟨by decide +kernel, rfl⟩
theorem eX2_count_82 : Dc cX2_count 82 (.getfield 8) 3 85 := ⟨by decide +kernel, rfl⟩
theorem eX2_count_85 : Dc cX2_count 85 (.iconst 0) 1 86 := ⟨by decide +kernel, rfl⟩
theorem eX2_count_86 : Dc cX2_count 86 (.iaload) 1 87 := ⟨by decide +kernel, rfl⟩
theorem eX2_count_87 : Dc cX2_count 87 (.ireturn) 1 88 := ⟨by decide +kernel, rfl⟩
theorem eX2_count_88 : Dc cX2_count 88 (.aload_n 0) 1 89 := ⟨by decide +kernel, rfl⟩
theorem eX2_count_89 : Dc cX2_count 89 (.getfield 8) 3 92 := ⟨by decide +kernel, rfl⟩
theorem eX2_count_92 : Dc cX2_count 92 (.iconst 4) 1 93 := ⟨by decide +kernel, rfl⟩
theorem eX2_count_93 : Dc cX2_count 93 (.iaload) 1 94 := ⟨by decide +kernel, rfl⟩
theorem eX2_count_94 : Dc cX2_count 94 (.ireturn) 1 95 := ⟨by decide +kernel, rfl⟩
theorem eX2_count_95 : Dc cX2_count 95 (.aload_n 0) 1 96 := ⟨by decide +kernel, rfl⟩
theorem eX2_count_96 : Dc cX2_count 96 (.getfield 8) 3 99 := ⟨by decide +kernel, rfl⟩
theorem eX2_count_99 : Dc cX2_count 99 (.iconst 5) 1 100 := ⟨by decide +kernel, rfl⟩
theorem eX2_count_100 : Dc cX2_count 100 (.iaload) 1 101 := ⟨by decide +kernel, rfl⟩
theorem eX2_count_101 : Dc cX2_count 101 (.ireturn) 1 102 := ⟨by decide +kernel, rfl⟩
theorem eX2_count_102 : Dc cX2_count 102 (.aload_n 0) 1 103 := ⟨by decide +kernel, rfl⟩
theorem eX2_count_103 : Dc cX2_count 103 (.invokevirtual 222) 3 106 := ⟨by decide +kernel, rfl⟩
theorem eX2_count_106 : Dc cX2_count 106 (.ireturn) 1 107 := ⟨by decide +kernel, rfl⟩
theorem eX2_count_107 : Dc cX2_count 107 (.iconst 0) 1 108 := ⟨by decide +kernel, rfl⟩
theorem eX2_count_108 : Dc cX2_count 108 (.istore_n 3) 1 109 := ⟨by decide +kernel, rfl⟩
theorem eX2_count_109 : Dc cX2_count 109 (.iload_n 3) 1 110 := ⟨by decide +kernel, rfl⟩
theorem eX2_count_110 : Dc cX2_count 110 (.aload_n 0) 1 111 := ⟨by decide +kernel, rfl⟩
theorem eX2_count_111 : Dc cX2_count 111 (.getfield 8) 3 114 := ⟨by decide +kernel, rfl⟩
theorem eX2_count_114 : Dc cX2_count 114 (.iconst 2) 1 115 := ⟨by decide +kernel, rfl⟩
theorem eX2_count_115 : Dc cX2_count 115 (.iaload) 1 116 := ⟨by decide +kernel, rfl⟩
theorem eX2_count_116 : Db cX2_count 116 (fun o => .if_icmp .ge o) 154 119 := ⟨38, by decide +kernel, by decide, rfl⟩
theorem eX2_count_119 : Dc cX2_count 119 (.iload_n 2) 1 120 := ⟨by decide +kernel, rfl⟩
theorem eX2_count_120 : Dc cX2_count 120 (.aload_n 0) 1 121 := ⟨by decide +kernel, rfl⟩
theorem eX2_count_121 : Dc cX2_count 121 (.iload_n 3) 1 122 := ⟨by decide +kernel, rfl⟩
theorem eX2_count_122 : Dc cX2_count 122 (.invokevirtual 219) 3 125 := ⟨by decide +kernel, rfl⟩
theorem eX2_count_125 : Db cX2_count 125 (fun o => .ifCond .eq o) 145 128 := ⟨20, by decide +kernel, by decide, rfl⟩
theorem eX2_count_128 : Dc cX2_count 128 (.aload_n 0) 1 129 := ⟨by decide +kernel, rfl⟩
theorem eX2_count_129 : Dc cX2_count 129 (.getfield 8) 3 132 := ⟨by decide +kernel, rfl⟩
theorem eX2_count_132 : Dc cX2_count 132 (.sipush 970) 3 135 := ⟨by decide +kernel, rfl⟩
theorem eX2_count_135 : Dc cX2_count 135 (.iload_n 3) 1 136 := ⟨by decide +kernel, rfl⟩
theorem eX2_count_136 : Dc cX2_count 136 (.iadd) 1 137 := ⟨by decide +kernel, rfl⟩
theorem eX2_count_137 : Dc cX2_count 137 (.iaload) 1 138 := ⟨by decide +kernel, rfl⟩
theorem eX2_count_138 : Db cX2_count 138 (fun o => .ifCond .ne o) 145 141 := ⟨7, by decide +kernel, by decide, rfl⟩
theorem eX2_count_141 : Dc cX2_count 141 (.iconst 1) 1 142 := ⟨by decide +kernel, rfl⟩
theorem eX2_count_142 : Db cX2_count 142 (fun o => .goto o) 146 145 := ⟨4, by decide +kernel, by decide, rfl⟩
theorem eX2_count_145 : Dc cX2_count 145 (.iconst 0) 1 146 := ⟨by decide +kernel, rfl⟩
theorem eX2_count_146 : Dc cX2_count 146 (.iadd) 1 147 := ⟨by decide +kernel, rfl⟩
theorem eX2_count_147 : Dc cX2_count 147 (.istore_n 2) 1 148 := ⟨by decide +kernel, rfl⟩
theorem eX2_count_148 : Dc cX2_count 148 (.iinc 3 1) 3 151 := ⟨by decide +kernel, rfl⟩
theorem eX2_count_151 : Db cX2_count 151 (fun o => .goto o) 109 154 := ⟨-42, by decide +kernel, by decide, rfl⟩
theorem eX2_count_154 : Dc cX2_count 154 (.iload_n 2) 1 155 := ⟨by decide +kernel, rfl⟩
theorem eX2_count_155 : Dc cX2_count 155 (.ireturn) 1 156 := ⟨by decide +kernel, rfl⟩
theorem eX2_count_156 : Dc cX2_count 156 (.aload_n 0) 1 157 := ⟨by decide +kernel, rfl⟩
theorem eX2_count_157 : Dc cX2_count 157 (.getfield 8) 3 160 := ⟨by decide +kernel, rfl⟩
theorem eX2_count_160 : Dc cX2_count 160 (.bipush 7) 2 162 := ⟨by decide +kernel, rfl⟩
theorem eX2_count_162 : Dc cX2_count 162 (.iaload) 1 163 := ⟨by decide +kernel, rfl⟩
theorem eX2_count_163 : Dc cX2_count 163 (.ireturn) 1 164 := ⟨by decide +kernel, rfl⟩
theorem eX2_count_164 : Dc cX2_count 164 (.aload_n 0) 1 165 := ⟨by decide +kernel, rfl⟩
theorem eX2_count_165 : Dc cX2_count 165 (.getfield 8) 3 168 := ⟨by decide +kernel, rfl⟩
theorem eX2_count_168 : Dc cX2_count 168 (.bipush 8) 2 170 := ⟨by decide +kernel, rfl⟩
theorem eX2_count_170 : Dc cX2_count 170 (.iaload) 1 171 := ⟨by decide +kernel, rfl⟩
theorem eX2_count_171 : Dc cX2_count 171 (.ireturn) 1 172 := ⟨by decide +kernel, rfl⟩
theorem eX2_count_172 : Dc cX2_count 172 (.aload_n 0) 1 173 := ⟨by decide +kernel, rfl⟩
theorem eX2_count_173 : Dc cX2_count 173 (.getfield 8) 3 176 := ⟨by decide +kernel, rfl⟩
theorem eX2_count_176 : Dc cX2_count 176 (.bipush 6) 2 178 := ⟨by decide +kernel, rfl⟩
theorem eX2_count_178 : Dc cX2_count 178 (.iaload) 1 179 := ⟨by decide +kernel, rfl⟩
theorem eX2_count_179 : Dc cX2_count 179 (.ireturn) 1 180 := ⟨by decide +kernel, rfl⟩
theorem eX2_count_180 : Dc cX2_count 180 (.iconst (-1)) 1 181 := ⟨by decide +kernel, rfl⟩
theorem eX2_count_181 : Dc cX2_count 181 (.ireturn) 1 182 := ⟨by decide +kernel, rfl⟩
theorem eX2_sheet_0 : Dc cX2_sheet 0 (.iload_n 1) 1 1 := ⟨by decide +kernel, rfl⟩
theorem eX2_sheet_1 : Dc cX2_sheet 1 (.invokestatic 168) 3 4 := ⟨by decide +kernel, rfl⟩
theorem eX2_sheet_4 : Db cX2_sheet 4 (fun o => .ifCond .ne o) 9 7 := ⟨5, by decide +kernel, by decide, rfl⟩
theorem eX2_sheet_7 : Dc cX2_sheet 7 (.iconst (-1)) 1 8 := ⟨by decide +kernel, rfl⟩
theorem eX2_sheet_8 : Dc cX2_sheet 8 (.ireturn) 1 9 := ⟨by decide +kernel, rfl⟩
theorem eX2_sheet_9 : Dc cX2_sheet 9 (.iload_n 2) 1 10 := ⟨by decide +kernel, rfl⟩
theorem eX2_sheet_10 : Dc cX2_sheet 10 (.iconst (-1)) 1 11 := ⟨by decide +kernel, rfl⟩
theorem eX2_sheet_11 : Dc cX2_sheet 11 (.iconst 2) 1 12 := ⟨by decide +kernel, rfl⟩
theorem eX2_sheet_12 : Dc cX2_sheet 12 (.invokestatic 58) 3 15 := ⟨by decide +kernel, rfl⟩
theorem eX2_sheet_15 : Db cX2_sheet 15 (fun o => .ifCond .eq o) 29 18 := ⟨14, by decide +kernel, by decide, rfl⟩
theorem eX2_sheet_18 : Dc cX2_sheet 18 (.iload_n 2) 1 19 := ⟨by decide +kernel, rfl⟩
theorem eX2_sheet_19 : Dc cX2_sheet 19 (.iconst (-1)) 1 20 := ⟨by decide +kernel, rfl⟩
theorem eX2_sheet_20 : Db cX2_sheet 20 (fun o => .if_icmp .eq o) 32 23 := ⟨12, by decide +kernel, by decide, rfl⟩
theorem eX2_sheet_23 : Dc cX2_sheet 23 (.iload_n 3) 1 24 := ⟨by decide +kernel, rfl⟩
theorem eX2_sheet_24 : Dc cX2_sheet 24 (.bipush 40) 2 26 := ⟨by decide +kernel, rfl⟩
theorem eX2_sheet_26 : Db cX2_sheet 26 (fun o => .if_icmp .le o) 32 29 := ⟨6, by decide +kernel, by decide, rfl⟩
theorem eX2_sheet_29 : Dc cX2_sheet 29 (.bipush (-2)) 2 31 := ⟨by decide +kernel, rfl⟩
theorem eX2_sheet_31 : Dc cX2_sheet 31 (.ireturn) 1 32 := ⟨by decide +kernel, rfl⟩
theorem eX2_sheet_32 : Dc cX2_sheet 32 (.iload_n 2) 1 33 := ⟨by decide +kernel, rfl⟩
theorem eX2_sheet_33 : Dc cX2_sheet 33 (.iconst (-1)) 1 34 := ⟨by decide +kernel, rfl⟩
theorem eX2_sheet_34 : Db cX2_sheet 34 (fun o => .if_icmp .eq o) 44 37 := ⟨10, by decide +kernel, by decide, rfl⟩
theorem eX2_sheet_37 : Dc cX2_sheet 37 (.iload_n 3) 1 38 := ⟨by decide +kernel, rfl⟩
theorem eX2_sheet_38 : Db cX2_sheet 38 (fun o => .ifCond .ge o) 44 41 := ⟨6, by decide +kernel, by decide, rfl⟩
theorem eX2_sheet_41 : Dc cX2_sheet 41 (.bipush (-14)) 2 43 := ⟨by decide +kernel, rfl⟩
theorem eX2_sheet_43 : Dc cX2_sheet 43 (.ireturn) 1 44 := ⟨by decide +kernel, rfl⟩
theorem eX2_sheet_44 : Dc cX2_sheet 44 (.aload_n 0) 1 45 := ⟨by decide +kernel, rfl⟩
theorem eX2_sheet_45 : Dc cX2_sheet 45 (.getfield 8) 3 48 := ⟨by decide +kernel, rfl⟩
theorem eX2_sheet_48 : Dc cX2_sheet 48 (.sipush 200) 3 51 := ⟨by decide +kernel, rfl⟩
theorem eX2_sheet_51 : Dc cX2_sheet 51 (.iload_n 1) 1 52 := ⟨by decide +kernel, rfl⟩
theorem eX2_sheet_52 : Dc cX2_sheet 52 (.iadd) 1 53 := ⟨by decide +kernel, rfl⟩
theorem eX2_sheet_53 : Dc cX2_sheet 53 (.iload_n 2) 1 54 := ⟨by decide +kernel, rfl⟩
theorem eX2_sheet_54 : Dc cX2_sheet 54 (.iastore) 1 55 := ⟨by decide +kernel, rfl⟩
theorem eX2_sheet_55 : Dc cX2_sheet 55 (.aload_n 0) 1 56 := ⟨by decide +kernel, rfl⟩
theorem eX2_sheet_56 : Dc cX2_sheet 56 (.getfield 8) 3 59 := ⟨by decide +kernel, rfl⟩
theorem eX2_sheet_59 : Dc cX2_sheet 59 (.sipush 204) 3 62 := ⟨by decide +kernel, rfl⟩
theorem eX2_sheet_62 : Dc cX2_sheet 62 (.iload_n 1) 1 63 := ⟨by decide +kernel, rfl⟩
theorem eX2_sheet_63 : Dc cX2_sheet 63 (.iadd) 1 64 := ⟨by decide +kernel, rfl⟩
theorem eX2_sheet_64 : Dc cX2_sheet 64 (.iload_n 2) 1 65 := ⟨by decide +kernel, rfl⟩
theorem eX2_sheet_65 : Dc cX2_sheet 65 (.iconst (-1)) 1 66 := ⟨by decide +kernel, rfl⟩
theorem eX2_sheet_66 : Db cX2_sheet 66 (fun o => .if_icmp .ne o) 73 69 := ⟨7, by decide +kernel, by decide, rfl⟩
theorem eX2_sheet_69 : Dc cX2_sheet 69 (.iconst 0) 1 70 := ⟨by decide +kernel, rfl⟩
theorem eX2_sheet_70 : Db cX2_sheet 70 (fun o => .goto o) 74 73 := ⟨4, by decide +kernel, by decide, rfl⟩
theorem eX2_sheet_73 : Dc cX2_sheet 73 (.iload_n 3) 1 74 := ⟨by decide +kernel, rfl⟩
theorem eX2_sheet_74 : Dc cX2_sheet 74 (.iastore) 1 75 := ⟨by decide +kernel, rfl⟩
theorem eX2_sheet_75 : Dc cX2_sheet 75 (.iconst 0) 1 76 := ⟨by decide +kernel, rfl⟩
theorem eX2_sheet_76 : Dc cX2_sheet 76 (.istore 4) 2 78 := ⟨by decide +kernel, rfl⟩
theorem eX2_sheet_78 : Dc cX2_sheet 78 (.iload 4) 2 80 := ⟨by decide +kernel, rfl⟩
theorem eX2_sheet_80 : Dc cX2_sheet 80 (.bipush 40) 2 82 := ⟨by decide +kernel, rfl⟩
theorem eX2_sheet_82 : Db cX2_sheet 82 (fun o => .if_icmp .ge o) 108 85 := ⟨26, by decide +kernel, by decide, rfl⟩
theorem eX2_sheet_85 : Dc cX2_sheet 85 (.aload_n 0) 1 86 := ⟨by decide +kernel, rfl⟩
theorem eX2_sheet_86 : Dc cX2_sheet 86 (.getfield 8) 3 89 := ⟨by decide +kernel, rfl⟩
theorem eX2_sheet_89 : Dc cX2_sheet 89 (.sipush 208) 3 92 := ⟨by decide +kernel, rfl⟩
theorem eX2_sheet_92 : Dc cX2_sheet 92 (.bipush 40) 2 94 := ⟨by decide +kernel, rfl⟩
theorem eX2_sheet_94 : Dc cX2_sheet 94 (.iload_n 1) 1 95 := ⟨by decide +kernel, rfl⟩
theorem eX2_sheet_95 : Dc cX2_sheet 95 (.imul) 1 96 := ⟨by decide +kernel, rfl⟩
theorem eX2_sheet_96 : Dc cX2_sheet 96 (.iadd) 1 97 := ⟨by decide +kernel, rfl⟩
theorem eX2_sheet_97 : Dc cX2_sheet 97 (.iload 4) 2 99 := ⟨by decide +kernel, rfl⟩
theorem eX2_sheet_99 : Dc cX2_sheet 99 (.iadd) 1 100 := ⟨by decide +kernel, rfl⟩
theorem eX2_sheet_100 : Dc cX2_sheet 100 (.iconst 0) 1 101 := ⟨by decide +kernel, rfl⟩
theorem eX2_sheet_101 : Dc cX2_sheet 101 (.iastore) 1 102 := ⟨by decide +kernel, rfl⟩
theorem eX2_sheet_102 : Dc cX2_sheet 102 (.iinc 4 1) 3 105 := ⟨by decide +kernel, rfl⟩
theorem eX2_sheet_105 : Db cX2_sheet 105 (fun o => .goto o) 78 108 := ⟨-27, by decide +kernel, by decide, rfl⟩
theorem eX2_sheet_108 : Dc cX2_sheet 108 (.iconst 1) 1 109 := ⟨by decide +kernel, rfl⟩
theorem eX2_sheet_109 : Dc cX2_sheet 109 (.ireturn) 1 110 := ⟨by decide +kernel, rfl⟩
theorem eX2_item_0 : Dc cX2_item 0 (.iload_n 1) 1 1 := ⟨by decide +kernel, rfl⟩
theorem eX2_item_1 : Dc cX2_item 1 (.invokestatic 168) 3 4 := ⟨by decide +kernel, rfl⟩
theorem eX2_item_4 : Db cX2_item 4 (fun o => .ifCond .ne o) 9 7 := ⟨5, by decide +kernel, by decide, rfl⟩
theorem eX2_item_7 : Dc cX2_item 7 (.iconst (-1)) 1 8 := ⟨by decide +kernel, rfl⟩
theorem eX2_item_8 : Dc cX2_item 8 (.ireturn) 1 9 := ⟨by decide +kernel, rfl⟩
theorem eX2_item_9 : Dc cX2_item 9 (.aload_n 0) 1 10 := ⟨by decide +kernel, rfl⟩
theorem eX2_item_10 : Dc cX2_item 10 (.getfield 8) 3 13 := ⟨by decide +kernel, rfl⟩
theorem eX2_item_13 : Dc cX2_item 13 (.sipush 200) 3 16 := ⟨by decide +kernel, rfl⟩
theorem eX2_item_16 : Dc cX2_item 16 (.iload_n 1) 1 17 := ⟨by decide +kernel, rfl⟩
theorem eX2_item_17 : Dc cX2_item 17 (.iadd) 1 18 := ⟨by decide +kernel, rfl⟩
theorem eX2_item_18 : Dc cX2_item 18 (.iaload) 1 19 := ⟨by decide +kernel, rfl⟩
theorem eX2_item_19 : Dc cX2_item 19 (.istore 4) 2 21 := ⟨by decide +kernel, rfl⟩
theorem eX2_item_21 : Dc cX2_item 21 (.iload 4) 2 23 := ⟨by decide +kernel, rfl⟩
theorem eX2_item_23 : Dc cX2_item 23 (.iconst (-1)) 1 24 := ⟨by decide +kernel, rfl⟩
theorem eX2_item_24 : Db cX2_item 24 (fun o => .if_icmp .ne o) 30 27 := ⟨6, by decide +kernel, by decide, rfl⟩
theorem eX2_item_27 : Dc cX2_item 27 (.bipush (-11)) 2 29 := ⟨by decide +kernel, rfl⟩
theorem eX2_item_29 : Dc cX2_item 29 (.ireturn) 1 30 := ⟨by decide +kernel, rfl⟩
theorem eX2_item_30 : Dc cX2_item 30 (.iload_n 2) 1 31 := ⟨by decide +kernel, rfl⟩
theorem eX2_item_31 : Dc cX2_item 31 (.iconst 0) 1 32 := ⟨by decide +kernel, rfl⟩
theorem eX2_item_32 : Dc cX2_item 32 (.aload_n 0) 1 33 := ⟨by decide +kernel, rfl⟩
theorem eX2_item_33 : Dc cX2_item 33 (.getfield 8) 3 36 := ⟨by decide +kernel, rfl⟩
theorem eX2_item_36 : Dc cX2_item 36 (.sipush 204) 3 39 := ⟨by decide +kernel, rfl⟩
theorem eX2_item_39 : Dc cX2_item 39 (.iload_n 1) 1 40 := ⟨by decide +kernel, rfl⟩
theorem eX2_item_40 : Dc cX2_item 40 (.iadd) 1 41 := ⟨by decide +kernel, rfl⟩
theorem eX2_item_41 : Dc cX2_item 41 (.iaload) 1 42 := ⟨by decide +kernel, rfl⟩
theorem eX2_item_42 : Dc cX2_item 42 (.iconst 1) 1 43 := ⟨by decide +kernel, rfl⟩
theorem eX2_item_43 : Dc cX2_item 43 (.isub) 1 44 := ⟨by decide +kernel, rfl⟩
theorem eX2_item_44 : Dc cX2_item 44 (.invokestatic 58) 3 47 := ⟨by decide +kernel, rfl⟩
theorem eX2_item_47 : Db cX2_item 47 (fun o => .ifCond .ne o) 53 50 := ⟨6, by decide +kernel, by decide, rfl⟩
theorem eX2_item_50 : Dc cX2_item 50 (.bipush (-12)) 2 52 := ⟨by decide +kernel, rfl⟩
theorem eX2_item_52 : Dc cX2_item 52 (.ireturn) 1 53 := ⟨by decide +kernel, rfl⟩
theorem eX2_item_53 : Dc cX2_item 53 (.aload_n 0) 1 54 := ⟨by decide +kernel, rfl⟩
theorem eX2_item_54 : Dc cX2_item 54 (.getfield 8) 3 57 := ⟨by decide +kernel, rfl⟩
theorem eX2_item_57 : Dc cX2_item 57 (.sipush 208) 3 60 := ⟨by decide +kernel, rfl⟩
theorem eX2_item_60 : Dc cX2_item 60 (.bipush 40) 2 62 := ⟨by decide +kernel, rfl⟩
theorem eX2_item_62 : Dc cX2_item 62 (.iload_n 1) 1 63 := ⟨by decide +kernel, rfl⟩
theorem eX2_item_63 : Dc cX2_item 63 (.imul) 1 64 := ⟨by decide +kernel, rfl⟩
theorem eX2_item_64 : Dc cX2_item 64 (.iadd) 1 65 := ⟨by decide +kernel, rfl⟩
theorem eX2_item_65 : Dc cX2_item 65 (.iload_n 2) 1 66 := ⟨by decide +kernel, rfl⟩
theorem eX2_item_66 : Dc cX2_item 66 (.iadd) 1 67 := ⟨by decide +kernel, rfl⟩
theorem eX2_item_67 : Dc cX2_item 67 (.iload 4) 2 69 := ⟨by decide +kernel, rfl⟩
theorem eX2_item_69 : Db cX2_item 69 (fun o => .ifCond .ne o) 77 72 := ⟨8, by decide +kernel, by decide, rfl⟩
theorem eX2_item_72 : Dc cX2_item 72 (.iload_n 3) 1 73 := ⟨by decide +kernel, rfl⟩
theorem eX2_item_73 : Dc cX2_item 73 (.i2b) 1 74 := ⟨by decide +kernel, rfl⟩
theorem eX2_item_74 : Db cX2_item 74 (fun o => .goto o) 89 77 := ⟨15, by decide +kernel, by decide, rfl⟩
theorem eX2_item_77 : Dc cX2_item 77 (.iload 4) 2 79 := ⟨by decide +kernel, rfl⟩
theorem eX2_item_79 : Dc cX2_item 79 (.iconst 1) 1 80 := ⟨by decide +kernel, rfl⟩
theorem eX2_item_80 : Db cX2_item 80 (fun o => .if_icmp .ne o) 88 83 := ⟨8, by decide +kernel, by decide, rfl⟩
theorem eX2_item_83 : Dc cX2_item 83 (.iload_n 3) 1 84 := ⟨by decide +kernel, rfl⟩
theorem eX2_item_84 : Dc cX2_item 84 (.i2s) 1 85 := ⟨by decide +kernel, rfl⟩
theorem eX2_item_85 : Db cX2_item 85 (fun o => .goto o) 89 88 := ⟨4, by decide +kernel, by decide, rfl⟩
theorem eX2_item_88 : Dc cX2_item 88 (.iload_n 3) 1 89 := ⟨by decide +kernel, rfl⟩
theorem eX2_item_89 : Dc cX2_item 89 (.iastore) 1 90 := ⟨by decide +kernel, rfl⟩
theorem eX2_item_90 : Dc cX2_item 90 (.iconst 1) 1 91 := ⟨by decide +kernel, rfl⟩
theorem eX2_item_91 : Dc cX2_item 91 (.ireturn) 1 92 := ⟨by decide +kernel, rfl⟩
theorem eX2_copy_0 : Dc cX2_copy 0 (.iload_n 1) 1 1 := ⟨by decide +kernel, rfl⟩
theorem eX2_copy_1 : Dc cX2_copy 1 (.invokestatic 168) 3 4 := ⟨by decide +kernel, rfl⟩
theorem eX2_copy_4 : Db cX2_copy 4 (fun o => .ifCond .eq o) 14 7 := ⟨10, by decide +kernel, by decide, rfl⟩
theorem eX2_copy_7 : Dc cX2_copy 7 (.iload_n 3) 1 8 := ⟨by decide +kernel, rfl⟩
theorem eX2_copy_8 : Dc cX2_copy 8 (.invokestatic 168) 3 11 := ⟨by decide +kernel, rfl⟩
theorem eX2_copy_11 : Db cX2_copy 11 (fun o => .ifCond .ne o) 16 14 := ⟨5, by decide +kernel, by decide, rfl⟩
theorem eX2_copy_14 : Dc cX2_copy 14 (.iconst (-1)) 1 15 := ⟨by decide +kernel, rfl⟩
theorem eX2_copy_15 : Dc cX2_copy 15 (.ireturn) 1 16 := ⟨by decide +kernel, rfl⟩
theorem eX2_copy_16 : Dc cX2_copy 16 (.aload_n 0) 1 17 := ⟨by decide +kernel, rfl⟩
theorem eX2_copy_17 : Dc cX2_copy 17 (.getfield 8) 3 20 := ⟨by decide +kernel, rfl⟩
theorem eX2_copy_20 : Dc cX2_copy 20 (.sipush 200) 3 23 := ⟨by decide +kernel, rfl⟩
theorem eX2_copy_23 : Dc cX2_copy 23 (.iload_n 1) 1 24 := ⟨by decide +kernel, rfl⟩
theorem eX2_copy_24 : Dc cX2_copy 24 (.iadd) 1 25 := ⟨by decide +kernel, rfl⟩
theorem eX2_copy_25 : Dc cX2_copy 25 (.iaload) 1 26 := ⟨by decide +kernel, rfl⟩
theorem eX2_copy_26 : Dc cX2_copy 26 (.iconst (-1)) 1 27 := ⟨by decide +kernel, rfl⟩
theorem eX2_copy_27 : Db cX2_copy 27 (fun o => .if_icmp .eq o) 44 30 := ⟨17, by decide +kernel, by decide, rfl⟩
theorem eX2_copy_30 : Dc cX2_copy 30 (.aload_n 0) 1 31 := ⟨by decide +kernel, rfl⟩
theorem eX2_copy_31 : Dc cX2_copy 31 (.getfield 8) 3 34 := ⟨by decide +kernel, rfl⟩
theorem eX2_copy_34 : Dc cX2_copy 34 (.sipush 200) 3 37 := ⟨by decide +kernel, rfl⟩
theorem eX2_copy_37 : Dc cX2_copy 37 (.iload_n 3) 1 38 := ⟨by decide +kernel, rfl⟩
theorem eX2_copy_38 : Dc cX2_copy 38 (.iadd) 1 39 := ⟨by decide +kernel, rfl⟩
theorem eX2_copy_39 : Dc cX2_copy 39 (.iaload) 1 40 := ⟨by decide +kernel, rfl⟩
theorem eX2_copy_40 : Dc cX2_copy 40 (.iconst (-1)) 1 41 := ⟨by decide +kernel, rfl⟩
theorem eX2_copy_41 : Db cX2_copy 41 (fun o => .if_icmp .ne o) 47 44 := ⟨6, by decide +kernel, by decide, rfl⟩
theorem eX2_copy_44 : Dc cX2_copy 44 (.bipush (-11)) 2 46 := ⟨by decide +kernel, rfl⟩
theorem eX2_copy_46 : Dc cX2_copy 46 (.ireturn) 1 47 := ⟨by decide +kernel, rfl⟩
theorem eX2_copy_47 : Dc cX2_copy 47 (.aload_n 0) 1 48 := ⟨by decide +kernel, rfl⟩
theorem eX2_copy_48 : Dc cX2_copy 48 (.getfield 8) 3 51 := ⟨by decide +kernel, rfl⟩
theorem eX2_copy_51 : Dc cX2_copy 51 (.sipush 200) 3 54 := ⟨by decide +kernel, rfl⟩
theorem eX2_copy_54 : Dc cX2_copy 54 (.iload_n 1) 1 55 := ⟨by decide +kernel, rfl⟩
theorem eX2_copy_55 : Dc cX2_copy 55 (.iadd) 1 56 := ⟨by decide +kernel, rfl⟩
theorem eX2_copy_56 : Dc cX2_copy 56 (.iaload) 1 57 := ⟨by decide +kernel, rfl⟩
theorem eX2_copy_57 : Dc cX2_copy 57 (.aload_n 0) 1 58 := ⟨by decide +kernel, rfl⟩
theorem eX2_copy_58 : Dc cX2_copy 58 (.getfield 8) 3 61 := ⟨by decide +kernel, rfl⟩
theorem eX2_copy_61 : Dc cX2_copy 61 (.sipush 200) 3 64 := ⟨by decide +kernel, rfl⟩
theorem eX2_copy_64 : Dc cX2_copy 64 (.iload_n 3) 1 65 := ⟨by decide +kernel, rfl⟩
theorem eX2_copy_65 : Dc cX2_copy 65 (.iadd) 1 66 := ⟨by decide +kernel, rfl⟩
theorem eX2_copy_66 : Dc cX2_copy 66 (.iaload) 1 67 := ⟨by decide +kernel, rfl⟩
theorem eX2_copy_67 : Db cX2_copy 67 (fun o => .if_icmp .eq o) 73 70 := ⟨6, by decide +kernel, by decide, rfl⟩
theorem eX2_copy_70 : Dc cX2_copy 70 (.bipush (-13)) 2 72 := ⟨by decide +kernel, rfl⟩
theorem eX2_copy_72 : Dc cX2_copy 72 (.ireturn) 1 73 := ⟨by decide +kernel, rfl⟩
theorem eX2_copy_73 : Dc cX2_copy 73 (.iload 5) 2 75 := ⟨by decide +kernel, rfl⟩
theorem eX2_copy_75 : Db cX2_copy 75 (fun o => .ifCond .lt o) 122 78 := ⟨47, by decide +kernel, by decide, rfl⟩
theorem eX2_copy_78 : Dc cX2_copy 78 (.iload_n 2) 1 79 := ⟨by decide +kernel, rfl⟩
theorem eX2_copy_79 : Db cX2_copy 79 (fun o => .ifCond .lt o) 122 82 := ⟨43, by decide +kernel, by decide, rfl⟩
theorem eX2_copy_82 : Dc cX2_copy 82 (.iload 4) 2 84 := ⟨by decide +kernel, rfl⟩
theorem eX2_copy_84 : Db cX2_copy 84 (fun o => .ifCond .lt o) 122 87 := ⟨38, by decide +kernel, by decide, rfl⟩
theorem eX2_copy_87 : Dc cX2_copy 87 (.iload 5) 2 89 := ⟨by decide +kernel, rfl⟩
theorem eX2_copy_89 : Dc cX2_copy 89 (.aload_n 0) 1 90 := ⟨by decide +kernel, rfl⟩
theorem eX2_copy_90 : Dc cX2_copy 90 (.getfield 8) 3 93 := ⟨by decide +kernel, rfl⟩
theorem eX2_copy_93 : Dc cX2_copy 93 (.sipush 204) 3 96 := ⟨by decide +kernel, rfl⟩
theorem eX2_copy_96 : Dc cX2_copy 96 (.iload_n 1) 1 97 := ⟨by decide +kernel, rfl⟩
theorem eX2_copy_97 : Dc cX2_copy 97 (.iadd) 1 98 := ⟨by decide +kernel, rfl⟩
theorem eX2_copy_98 : Dc cX2_copy 98 (.iaload) 1 99 := ⟨by decide +kernel, rfl⟩
theorem eX2_copy_99 : Dc cX2_copy 99 (.iload_n 2) 1 100 := ⟨by decide +kernel, rfl⟩
theorem eX2_copy_100 : Dc cX2_copy 100 (.isub) 1 101 := ⟨by decide +kernel, rfl⟩
theorem eX2_copy_101 : Db cX2_copy 101 (fun o => .if_icmp .gt o) 122 104 := ⟨21, by decide +kernel, by decide, rfl⟩
theorem eX2_copy_104 : Dc cX2_copy 104 (.iload 5) 2 106 := ⟨by decide +kernel, rfl⟩
theorem eX2_copy_106 : Dc cX2_copy 106 (.aload_n 0) 1 107 := ⟨by decide +kernel, rfl⟩
theorem eX2_copy_107 : Dc cX2_copy 107 (.getfield 8) 3 110 := ⟨by decide +kernel, rfl⟩
theorem eX2_copy_110 : Dc cX2_copy 110 (.sipush 204) 3 113 := ⟨by decide +kernel, rfl⟩
theorem eX2_copy_113 : Dc cX2_copy 113 (.iload_n 3) 1 114 := ⟨by decide +kernel, rfl⟩
theorem eX2_copy_114 : Dc cX2_copy 114 (.iadd) 1 115 := ⟨by decide +kernel, rfl⟩
theorem eX2_copy_115 : Dc cX2_copy 115 (.iaload) 1 116 := ⟨by decide +kernel, rfl⟩
theorem eX2_copy_116 : Dc cX2_copy 116 (.iload 4) 2 118 := ⟨by decide +kernel, rfl⟩
theorem eX2_copy_118 : Dc cX2_copy 118 (.isub) 1 119 := ⟨by decide +kernel, rfl⟩
theorem eX2_copy_119 : Db cX2_copy 119 (fun o => .if_icmp .le o) 125 122 := ⟨6, by decide +kernel, by decide, rfl⟩
theorem eX2_copy_122 : Dc cX2_copy 122 (.bipush (-12)) 2 124 := ⟨by decide +kernel, rfl⟩
theorem eX2_copy_124 : Dc cX2_copy 124 (.ireturn) 1 125 := ⟨by decide +kernel, rfl⟩
theorem eX2_copy_125 : Dc cX2_copy 125 (.iconst 0) 1 126 := ⟨by decide +kernel, rfl⟩
theorem eX2_copy_126 : Dc cX2_copy 126 (.istore 6) 2 128 := ⟨by decide +kernel, rfl⟩
theorem eX2_copy_128 : Dc cX2_copy 128 (.iload 6) 2 130 := ⟨by decide +kernel, rfl⟩
theorem eX2_copy_130 : Dc cX2_copy 130 (.iload 5) 2 132 := ⟨by decide +kernel, rfl⟩
theorem eX2_copy_132 : Db cX2_copy 132 (fun o => .if_icmp .ge o) 166 135 := ⟨34, by decide +kernel, by decide, rfl⟩
theorem eX2_copy_135 : Dc cX2_copy 135 (.aload_n 0) 1 136 := ⟨by decide +kernel, rfl⟩
theorem eX2_copy_136 : Dc cX2_copy 136 (.getfield 51) 3 139 := ⟨by decide +kernel, rfl⟩
theorem eX2_copy_139 : Dc cX2_copy 139 (.iload 6) 2 141 := ⟨by decide +kernel, rfl⟩
theorem eX2_copy_141 : Dc cX2_copy 141 (.aload_n 0) 1 142 := ⟨by decide +kernel, rfl⟩
theorem eX2_copy_142 : Dc cX2_copy 142 (.getfield 8) 3 145 := ⟨by decide +kernel, rfl⟩
theorem eX2_copy_145 : Dc cX2_copy 145 (.sipush 208) 3 148 := ⟨by decide +kernel, rfl⟩
theorem eX2_copy_148 : Dc cX2_copy 148 (.bipush 40) 2 150 := ⟨by decide +kernel, rfl⟩
theorem eX2_copy_150 : Dc cX2_copy 150 (.iload_n 1) 1 151 := ⟨by decide +kernel, rfl⟩
theorem eX2_copy_151 : Dc cX2_copy 151 (.imul) 1 152 := ⟨by decide +kernel, rfl⟩
theorem eX2_copy_152 : Dc cX2_copy 152 (.iadd) 1 153 := ⟨by decide +kernel, rfl⟩
theorem eX2_copy_153 : Dc cX2_copy 153 (.iload_n 2) 1 154 := ⟨by decide +kernel, rfl⟩
theorem eX2_copy_154 : Dc cX2_copy 154 (.iadd) 1 155 := ⟨by decide +kernel, rfl⟩
theorem eX2_copy_155 : Dc cX2_copy 155 (.iload 6) 2 157 := ⟨by decide +kernel, rfl⟩
theorem eX2_copy_157 : Dc cX2_copy 157 (.iadd) 1 158 := ⟨by decide +kernel, rfl⟩
theorem eX2_copy_158 : Dc cX2_copy 158 (.iaload) 1 159 := ⟨by decide +kernel, rfl⟩
theorem eX2_copy_159 : Dc cX2_copy 159 (.iastore) 1 160 := ⟨by decide +kernel, rfl⟩
theorem eX2_copy_160 : Dc cX2_copy 160 (.iinc 6 1) 3 163 := ⟨by decide +kernel, rfl⟩
theorem eX2_copy_163 : Db cX2_copy 163 (fun o => .goto o) 128 166 := ⟨-35, by decide +kernel, by decide, rfl⟩
theorem eX2_copy_166 : Dc cX2_copy 166 (.iconst 0) 1 167 := ⟨by decide +kernel, rfl⟩
theorem eX2_copy_167 : Dc cX2_copy 167 (.istore 6) 2 169 := ⟨by decide +kernel, rfl⟩
theorem eX2_copy_169 : Dc cX2_copy 169 (.iload 6) 2 171 := ⟨by decide +kernel, rfl⟩
theorem eX2_copy_171 : Dc cX2_copy 171 (.iload 5) 2 173 := ⟨by decide +kernel, rfl⟩
theorem eX2_copy_173 : Db cX2_copy 173 (fun o => .if_icmp .ge o) 208 176 := ⟨35, by decide +kernel, by decide, rfl⟩
theorem eX2_copy_176 : Dc cX2_copy 176 (.aload_n 0) 1 177 := ⟨by decide +kernel, rfl⟩
theorem eX2_copy_177 : Dc cX2_copy 177 (.getfield 8) 3 180 := ⟨by decide +kernel, rfl⟩
theorem eX2_copy_180 : Dc cX2_copy 180 (.sipush 208) 3 183 := ⟨by decide +kernel, rfl⟩
theorem eX2_copy_183 : Dc cX2_copy 183 (.bipush 40) 2 185 := ⟨by decide +kernel, rfl⟩
theorem eX2_copy_185 : Dc cX2_copy 185 (.iload_n 3) 1 186 := ⟨by decide +kernel, rfl⟩
theorem eX2_copy_186 : Dc cX2_copy 186 (.imul) 1 187 := ⟨by decide +kernel, rfl⟩
theorem eX2_copy_187 : Dc cX2_copy 187 (.iadd) 1 188 := ⟨by decide +kernel, rfl⟩
theorem eX2_copy_188 : Dc cX2_copy 188 (.iload 4) 2 190 := ⟨by decide +kernel, rfl⟩
theorem eX2_copy_190 : Dc cX2_copy 190 (.iadd) 1 191 := ⟨by decide +kernel, rfl⟩
theorem eX2_copy_191 : Dc cX2_copy 191 (.iload 6) 2 193 := ⟨by decide +kernel, rfl⟩
theorem eX2_copy_193 : Dc cX2_copy 193 (.iadd) 1 194 := ⟨by decide +kernel, rfl⟩
theorem eX2_copy_194 : Dc cX2_copy 194 (.aload_n 0) 1 195 := ⟨by decide +kernel, rfl⟩
theorem eX2_copy_195 : Dc cX2_copy 195 (.getfield 51) 3 198 := ⟨by decide +kernel, rfl⟩
theorem eX2_copy_198 : Dc cX2_copy 198 (.iload 6) 2 200 := ⟨by decide +kernel, rfl⟩
theorem eX2_copy_200 : Dc cX2_copy 200 (.iaload) 1 201 := ⟨by decide +kernel, rfl⟩
theorem eX2_copy_201 : Dc cX2_copy 201 (.iastore) 1 202 := ⟨by decide +kernel, rfl⟩
theorem eX2_copy_202 : Dc cX2_copy 202 (.iinc 6 1) 3 205 := ⟨by decide +kernel, rfl⟩
theorem eX2_copy_205 : Db cX2_copy 205 (fun o => .goto o) 169 208 := ⟨-36, by decide +kernel, by decide, rfl⟩
theorem eX2_copy_208 : Dc cX2_copy 208 (.iload 5) 2 210 := ⟨by decide +kernel, rfl⟩
theorem eX2_copy_210 : Dc cX2_copy 210 (.ireturn) 1 211 := ⟨by decide +kernel, rfl⟩
