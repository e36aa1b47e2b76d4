set_option maxRecDepth 100000
theorem eX2_chain_0 : Dc cX2_chain 0 (.aload_n 0) 1 1 := ⟨by decide +kernel, rfl⟩
theorem eX2_chain_1 : Dc cX2_chain 1 (.iload_n 1) 1 2 := ⟨by decide +kernel, rfl⟩
theorem eX2_chain_2 : Dc cX2_chain 2 (.iconst 1) 1 3 := ⟨by decide +kernel, rfl⟩
theorem eX2_chain_3 : Dc cX2_chain 3 (.invokevirtual 165) 3 6 := ⟨by decide +kernel, rfl⟩
theorem eX2_chain_6 : Db cX2_chain 6 (fun o => .ifCond .eq o) 23 9 := ⟨17, by decide +kernel, by decide, rfl⟩
theorem eX2_chain_9 : Dc cX2_chain 9 (.iload_n 2) 1 10 := ⟨by decide +kernel, rfl⟩
theorem eX2_chain_10 : Dc cX2_chain 10 (.invokestatic 168) 3 13 := ⟨by decide +kernel, rfl⟩
theorem eX2_chain_13 : Db cX2_chain 13 (fun o => .ifCond .eq o) 23 16 := ⟨10, by decide +kernel, by decide, rfl⟩
theorem eX2_chain_16 : Dc cX2_chain 16 (.iload_n 3) 1 17 := ⟨by decide +kernel, rfl⟩
theorem eX2_chain_17 : Dc cX2_chain 17 (.invokestatic 168) 3 20 := ⟨by decide +kernel, rfl⟩
theorem eX2_chain_20 : Db cX2_chain 20 (fun o => .ifCond .ne o) 25 23 := ⟨5, by decide +kernel, by decide, rfl⟩
theorem eX2_chain_23 : Dc cX2_chain 23 (.iconst (-1)) 1 24 := ⟨by decide +kernel, rfl⟩
theorem eX2_chain_24 : Dc cX2_chain 24 (.ireturn) 1 25 := ⟨by decide +kernel, rfl⟩
theorem eX2_chain_25 : Dc cX2_chain 25 (.aload_n 0) 1 26 := ⟨by decide +kernel, rfl⟩
theorem eX2_chain_26 : Dc cX2_chain 26 (.getfield 8) 3 29 := ⟨by decide +kernel, rfl⟩
theorem eX2_chain_29 : Dc cX2_chain 29 (.sipush 200) 3 32 := ⟨by decide +kernel, rfl⟩
theorem eX2_chain_32 : Dc cX2_chain 32 (.iload_n 2) 1 33 := ⟨by decide +kernel, rfl⟩
theorem eX2_chain_33 : Dc cX2_chain 33 (.iadd) 1 34 := ⟨by decide +kernel, rfl⟩
theorem eX2_chain_34 : Dc cX2_chain 34 (.iaload) 1 35 := ⟨by decide +kernel, rfl⟩
theorem eX2_chain_35 : Dc cX2_chain 35 (.iconst (-1)) 1 36 := ⟨by decide +kernel, rfl⟩
theorem eX2_chain_36 : Db cX2_chain 36 (fun o => .if_icmp .ne o) 42 39 := ⟨6, by decide +kernel, by decide, rfl⟩
theorem eX2_chain_39 : Dc cX2_chain 39 (.bipush (-11)) 2 41 := ⟨by decide +kernel, rfl⟩
theorem eX2_chain_41 : Dc cX2_chain 41 (.ireturn) 1 42 := ⟨by decide +kernel, rfl⟩
theorem eX2_chain_42 : Dc cX2_chain 42 (.aload_n 0) 1 43 := ⟨by decide +kernel, rfl⟩
theorem eX2_chain_43 : Dc cX2_chain 43 (.getfield 8) 3 46 := ⟨by decide +kernel, rfl⟩
theorem eX2_chain_46 : Dc cX2_chain 46 (.sipush 200) 3 49 := ⟨by decide +kernel, rfl⟩
theorem eX2_chain_49 : Dc cX2_chain 49 (.iload_n 2) 1 50 := ⟨by decide +kernel, rfl⟩
theorem eX2_chain_50 : Dc cX2_chain 50 (.iadd) 1 51 := ⟨by decide +kernel, rfl⟩
theorem eX2_chain_51 : Dc cX2_chain 51 (.iaload) 1 52 := ⟨by decide +kernel, rfl⟩
theorem eX2_chain_52 : Db cX2_chain 52 (fun o => .ifCond .eq o) 58 55 := ⟨6, by decide +kernel, by decide, rfl⟩
theorem eX2_chain_55 : Dc cX2_chain 55 (.bipush (-13)) 2 57 := ⟨by decide +kernel, rfl⟩
theorem eX2_chain_57 : Dc cX2_chain 57 (.ireturn) 1 58 := ⟨by decide +kernel, rfl⟩
theorem eX2_chain_58 : Dc cX2_chain 58 (.aload_n 0) 1 59 := ⟨by decide +kernel, rfl⟩
theorem eX2_chain_59 : Dc cX2_chain 59 (.getfield 8) 3 62 := ⟨by decide +kernel, rfl⟩
theorem eX2_chain_62 : Dc cX2_chain 62 (.iconst 2) 1 63 := ⟨by decide +kernel, rfl⟩
theorem eX2_chain_63 : Dc cX2_chain 63 (.iaload) 1 64 := ⟨by decide +kernel, rfl⟩
theorem eX2_chain_64 : Dc cX2_chain 64 (.bipush 60) 2 66 := ⟨by decide +kernel, rfl⟩
theorem eX2_chain_66 : Db cX2_chain 66 (fun o => .if_icmp .ne o) 72 69 := ⟨6, by decide +kernel, by decide, rfl⟩
theorem eX2_chain_69 : Dc cX2_chain 69 (.bipush (-4)) 2 71 := ⟨by decide +kernel, rfl⟩
theorem eX2_chain_71 : Dc cX2_chain 71 (.ireturn) 1 72 := ⟨by decide +kernel, rfl⟩
theorem eX2_chain_72 : Dc cX2_chain 72 (.aload_n 0) 1 73 := ⟨by decide +kernel, rfl⟩
theorem eX2_chain_73 : Dc cX2_chain 73 (.getfield 8) 3 76 := ⟨by decide +kernel, rfl⟩
theorem eX2_chain_76 : Dc cX2_chain 76 (.sipush 180) 3 79 := ⟨by decide +kernel, rfl⟩
theorem eX2_chain_79 : Dc cX2_chain 79 (.aload_n 0) 1 80 := ⟨by decide +kernel, rfl⟩
theorem eX2_chain_80 : Dc cX2_chain 80 (.getfield 8) 3 83 := ⟨by decide +kernel, rfl⟩
theorem eX2_chain_83 : Dc cX2_chain 83 (.sipush 550) 3 86 := ⟨by decide +kernel, rfl⟩
theorem eX2_chain_86 : Dc cX2_chain 86 (.iload_n 1) 1 87 := ⟨by decide +kernel, rfl⟩
theorem eX2_chain_87 : Dc cX2_chain 87 (.iadd) 1 88 := ⟨by decide +kernel, rfl⟩
theorem eX2_chain_88 : Dc cX2_chain 88 (.iaload) 1 89 := ⟨by decide +kernel, rfl⟩
theorem eX2_chain_89 : Dc cX2_chain 89 (.iadd) 1 90 := ⟨by decide +kernel, rfl⟩
theorem eX2_chain_90 : Dc cX2_chain 90 (.iaload) 1 91 := ⟨by decide +kernel, rfl⟩
theorem eX2_chain_91 : Dc cX2_chain 91 (.istore 4) 2 93 := ⟨by decide +kernel, rfl⟩
theorem eX2_chain_93 : Dc cX2_chain 93 (.aload_n 0) 1 94 := ⟨by decide +kernel, rfl⟩
theorem eX2_chain_94 : Dc cX2_chain 94 (.getfield 8) 3 97 := ⟨by decide +kernel, rfl⟩
theorem eX2_chain_97 : Dc cX2_chain 97 (.sipush 180) 3 100 := ⟨by decide +kernel, rfl⟩
theorem eX2_chain_100 : Dc cX2_chain 100 (.aload_n 0) 1 101 := ⟨by decide +kernel, rfl⟩
theorem eX2_chain_101 : Dc cX2_chain 101 (.getfield 8) 3 104 := ⟨by decide +kernel, rfl⟩
theorem eX2_chain_104 : Dc cX2_chain 104 (.sipush 610) 3 107 := ⟨by decide +kernel, rfl⟩
theorem eX2_chain_107 : Dc cX2_chain 107 (.iload_n 1) 1 108 := ⟨by decide +kernel, rfl⟩
theorem eX2_chain_108 : Dc cX2_chain 108 (.iadd) 1 109 := ⟨by decide +kernel, rfl⟩
theorem eX2_chain_109 : Dc cX2_chain 109 (.iaload) 1 110 := ⟨by decide +kernel, rfl⟩
theorem eX2_chain_110 : Dc cX2_chain 110 (.iadd) 1 111 := ⟨by decide +kernel, rfl⟩
theorem eX2_chain_111 : Dc cX2_chain 111 (.iaload) 1 112 := ⟨by decide +kernel, rfl⟩
theorem eX2_chain_112 : Dc cX2_chain 112 (.istore 5) 2 114 := ⟨by decide +kernel, rfl⟩
theorem eX2_chain_114 : Dc cX2_chain 114 (.aload_n 0) 1 115 := ⟨by decide +kernel, rfl⟩
theorem eX2_chain_115 : Dc cX2_chain 115 (.iconst 2) 1 116 := ⟨by decide +kernel, rfl⟩
theorem eX2_chain_116 : Dc cX2_chain 116 (.iload_n 1) 1 117 := ⟨by decide +kernel, rfl⟩
theorem eX2_chain_117 : Dc cX2_chain 117 (.aload_n 0) 1 118 := ⟨by decide +kernel, rfl⟩
theorem eX2_chain_118 : Dc cX2_chain 118 (.getfield 8) 3 121 := ⟨by decide +kernel, rfl⟩
theorem eX2_chain_121 : Dc cX2_chain 121 (.sipush 550) 3 124 := ⟨by decide +kernel, rfl⟩
theorem eX2_chain_124 : Dc cX2_chain 124 (.iload_n 1) 1 125 := ⟨by decide +kernel, rfl⟩
theorem eX2_chain_125 : Dc cX2_chain 125 (.iadd) 1 126 := ⟨by decide +kernel, rfl⟩
theorem eX2_chain_126 : Dc cX2_chain 126 (.iaload) 1 127 := ⟨by decide +kernel, rfl⟩
theorem eX2_chain_127 : Dc cX2_chain 127 (.aload_n 0) 1 128 := ⟨by decide +kernel, rfl⟩
theorem eX2_chain_128 : Dc cX2_chain 128 (.getfield 8) 3 131 := ⟨by decide +kernel, rfl⟩
theorem eX2_chain_131 : Dc cX2_chain 131 (.sipush 610) 3 134 := ⟨by decide +kernel, rfl⟩
theorem eX2_chain_134 : Dc cX2_chain 134 (.iload_n 1) 1 135 := ⟨by decide +kernel, rfl⟩
theorem eX2_chain_135 : Dc cX2_chain 135 (.iadd) 1 136 := ⟨by decide +kernel, rfl⟩
theorem eX2_chain_136 : Dc cX2_chain 136 (.iaload) 1 137 := ⟨by decide +kernel, rfl⟩
theorem eX2_chain_137 : Dc cX2_chain 137 (.aload_n 0) 1 138 := ⟨by decide +kernel, rfl⟩
theorem eX2_chain_138 : Dc cX2_chain 138 (.getfield 8) 3 141 := ⟨by decide +kernel, rfl⟩
theorem eX2_chain_141 : Dc cX2_chain 141 (.sipush 670) 3 144 := ⟨by decide +kernel, rfl⟩
theorem eX2_chain_144 : Dc cX2_chain 144 (.iload_n 1) 1 145 := ⟨by decide +kernel, rfl⟩
theorem eX2_chain_145 : Dc cX2_chain 145 (.iadd) 1 146 := ⟨by decide +kernel, rfl⟩
theorem eX2_chain_146 : Dc cX2_chain 146 (.iaload) 1 147 := ⟨by decide +kernel, rfl⟩
theorem eX2_chain_147 : Dc cX2_chain 147 (.iconst (-1)) 1 148 := ⟨by decide +kernel, rfl⟩
theorem eX2_chain_148 : Dc cX2_chain 148 (.invokevirtual 158) 3 151 := ⟨by decide +kernel, rfl⟩
theorem eX2_chain_151 : Dc cX2_chain 151 (.istore 6) 2 153 := ⟨by decide +kernel, rfl⟩
theorem eX2_chain_153 : Dc cX2_chain 153 (.aload_n 0) 1 154 := ⟨by decide +kernel, rfl⟩
theorem eX2_chain_154 : Dc cX2_chain 154 (.getfield 8) 3 157 := ⟨by decide +kernel, rfl⟩
theorem eX2_chain_157 : Dc cX2_chain 157 (.sipush 850) 3 160 := ⟨by decide +kernel, rfl⟩
theorem eX2_chain_160 : Dc cX2_chain 160 (.iload 6) 2 162 := ⟨by decide +kernel, rfl⟩
theorem eX2_chain_162 : Dc cX2_chain 162 (.iadd) 1 163 := ⟨by decide +kernel, rfl⟩
theorem eX2_chain_163 : Dc cX2_chain 163 (.iconst 0) 1 164 := ⟨by decide +kernel, rfl⟩
theorem eX2_chain_164 : Dc cX2_chain 164 (.iastore) 1 165 := ⟨by decide +kernel, rfl⟩
theorem eX2_chain_165 : Dc cX2_chain 165 (.iconst 0) 1 166 := ⟨by decide +kernel, rfl⟩
theorem eX2_chain_166 : Dc cX2_chain 166 (.istore 7) 2 168 := ⟨by decide +kernel, rfl⟩
theorem eX2_chain_168 : Dc cX2_chain 168 (.iconst 1) 1 169 := ⟨by decide +kernel, rfl⟩
theorem eX2_chain_169 : Dc cX2_chain 169 (.istore 8) 2 171 := ⟨by decide +kernel, rfl⟩
theorem eX2_chain_171 : Dc cX2_chain 171 (.iload 8) 2 173 := ⟨by decide +kernel, rfl⟩
theorem eX2_chain_173 : Db cX2_chain 173 (fun o => .ifCond .eq o) 392 176 := ⟨219, by decide +kernel, by decide, rfl⟩
theorem eX2_chain_176 : Dc cX2_chain 176 (.iload 7) 2 178 := ⟨by decide +kernel, rfl⟩
theorem eX2_chain_178 : Dc cX2_chain 178 (.aload_n 0) 1 179 := ⟨by decide +kernel, rfl⟩
theorem eX2_chain_179 : Dc cX2_chain 179 (.getfield 8) 3 182 := ⟨by decide +kernel, rfl⟩
theorem eX2_chain_182 : Dc cX2_chain 182 (.sipush 204) 3 185 := ⟨by decide +kernel, rfl⟩
theorem eX2_chain_185 : Dc cX2_chain 185 (.iload_n 2) 1 186 := ⟨by decide +kernel, rfl⟩
theorem eX2_chain_186 : Dc cX2_chain 186 (.iadd) 1 187 := ⟨by decide +kernel, rfl⟩
theorem eX2_chain_187 : Dc cX2_chain 187 (.iaload) 1 188 := ⟨by decide +kernel, rfl⟩
theorem eX2_chain_188 : Db cX2_chain 188 (fun o => .if_icmp .ge o) 210 191 := ⟨22, by decide +kernel, by decide, rfl⟩
theorem eX2_chain_191 : Dc cX2_chain 191 (.aload_n 0) 1 192 := ⟨by decide +kernel, rfl⟩
theorem eX2_chain_192 : Dc cX2_chain 192 (.getfield 8) 3 195 := ⟨by decide +kernel, rfl⟩
theorem eX2_chain_195 : Dc cX2_chain 195 (.sipush 208) 3 198 := ⟨by decide +kernel, rfl⟩
theorem eX2_chain_198 : Dc cX2_chain 198 (.bipush 40) 2 200 := ⟨by decide +kernel, rfl⟩
theorem eX2_chain_200 : Dc cX2_chain 200 (.iload_n 2) 1 201 := ⟨by decide +kernel, rfl⟩
theorem eX2_chain_201 : Dc cX2_chain 201 (.imul) 1 202 := ⟨by decide +kernel, rfl⟩
theorem eX2_chain_202 : Dc cX2_chain 202 (.iadd) 1 203 := ⟨by decide +kernel, rfl⟩
theorem eX2_chain_203 : Dc cX2_chain 203 (.iload 7) 2 205 := ⟨by decide +kernel, rfl⟩
theorem eX2_chain_205 : Dc cX2_chain 205 (.iadd) 1 206 := ⟨by decide +kernel, rfl⟩
theorem eX2_chain_206 : Dc cX2_chain 206 (.iaload) 1 207 := ⟨by decide +kernel, rfl⟩
theorem eX2_chain_207 : Db cX2_chain 207 (fun o => .goto o) 211 210 := ⟨4, by decide +kernel, by decide, rfl⟩
theorem eX2_chain_210 : Dc cX2_chain 210 (.iconst (-1)) 1 211 := ⟨by decide +kernel, rfl⟩
theorem eX2_chain_211 : Dc cX2_chain 211 (.istore 9) 2 213 := ⟨by decide +kernel, rfl⟩
theorem eX2_chain_213 : Dc cX2_chain 213 (.iload 9) 2 215 := ⟨by decide +kernel, rfl⟩
theorem eX2_chain_215 : Dc cX2_chain 215 (.invokestatic 66) 3 218 := ⟨by decide +kernel, rfl⟩
theorem eX2_chain_218 : Db cX2_chain 218 (fun o => .ifCond .eq o) 278 221 := ⟨60, by decide +kernel, by decide, rfl⟩
theorem eX2_chain_221 : Dc cX2_chain 221 (.iload 7) 2 223 := ⟨by decide +kernel, rfl⟩
theorem eX2_chain_223 : Db cX2_chain 223 (fun o => .ifCond .ne o) 236 226 := ⟨13, by decide +kernel, by decide, rfl⟩
theorem eX2_chain_226 : Dc cX2_chain 226 (.iload 9) 2 228 := ⟨by decide +kernel, rfl⟩
theorem eX2_chain_228 : Dc cX2_chain 228 (.iload 4) 2 230 := ⟨by decide +kernel, rfl⟩
theorem eX2_chain_230 : Db cX2_chain 230 (fun o => .if_icmp .ne o) 278 233 := ⟨48, by decide +kernel, by decide, rfl⟩
theorem eX2_chain_233 : Db cX2_chain 233 (fun o => .goto o) 274 236 := ⟨41, by decide +kernel, by decide, rfl⟩
theorem eX2_chain_236 : Dc cX2_chain 236 (.iload 9) 2 238 := ⟨by decide +kernel, rfl⟩
theorem eX2_chain_238 : Dc cX2_chain 238 (.aload_n 0) 1 239 := ⟨by decide +kernel, rfl⟩
theorem eX2_chain_239 : Dc cX2_chain 239 (.getfield 8) 3 242 := ⟨by decide +kernel, rfl⟩
theorem eX2_chain_242 : Dc cX2_chain 242 (.sipush 4700) 3 245 := ⟨by decide +kernel, rfl⟩
theorem eX2_chain_245 : Dc cX2_chain 245 (.bipush 41) 2 247 := ⟨by decide +kernel, rfl⟩
theorem eX2_chain_247 : Dc cX2_chain 247 (.iload 6) 2 249 := ⟨by decide +kernel, rfl⟩
theorem eX2_chain_249 : Dc cX2_chain 249 (.imul) 1 250 := ⟨by decide +kernel, rfl⟩
theorem eX2_chain_250 : Dc cX2_chain 250 (.iadd) 1 251 := ⟨by decide +kernel, rfl⟩
theorem eX2_chain_251 : Dc cX2_chain 251 (.iload 7) 2 253 := ⟨by decide +kernel, rfl⟩
theorem eX2_chain_253 : Dc cX2_chain 253 (.iadd) 1 254 := ⟨by decide +kernel, rfl⟩
theorem eX2_chain_254 : Dc cX2_chain 254 (.iconst 1) 1 255 := ⟨by decide +kernel, rfl⟩
theorem eX2_chain_255 : Dc cX2_chain 255 (.isub) 1 256 := ⟨by decide +kernel, rfl⟩
theorem eX2_chain_256 : Dc cX2_chain 256 (.iaload) 1 257 := ⟨by decide +kernel, rfl⟩
theorem eX2_chain_257 : Dc cX2_chain 257 (.invokestatic 171) 3 260 := ⟨by decide +kernel, rfl⟩
theorem eX2_chain_260 : Db cX2_chain 260 (fun o => .ifCond .eq o) 278 263 := ⟨18, by decide +kernel, by decide, rfl⟩
theorem eX2_chain_263 : Dc cX2_chain 263 (.aload_n 0) 1 264 := ⟨by decide +kernel, rfl⟩
theorem eX2_chain_264 : Dc cX2_chain 264 (.iload 6) 2 266 := ⟨by decide +kernel, rfl⟩
theorem eX2_chain_266 : Dc cX2_chain 266 (.iload 9) 2 268 := ⟨by decide +kernel, rfl⟩
theorem eX2_chain_268 : Dc cX2_chain 268 (.invokevirtual 174) 3 271 := ⟨by decide +kernel, rfl⟩
theorem eX2_chain_271 : Db cX2_chain 271 (fun o => .ifCond .ne o) 278 274 := ⟨7, by decide +kernel, by decide, rfl⟩
theorem eX2_chain_274 : Dc cX2_chain 274 (.iconst 1) 1 275 := ⟨by decide +kernel, rfl⟩
theorem eX2_chain_275 : Db cX2_chain 275 (fun o => .goto o) 279 278 := ⟨4, by decide +kernel, by decide, rfl⟩
theorem eX2_chain_278 : Dc cX2_chain 278 (.iconst 0) 1 279 := ⟨by decide +kernel, rfl⟩
theorem eX2_chain_279 : Dc cX2_chain 279 (.istore 10) 2 281 := ⟨by decide +kernel, rfl⟩
theorem eX2_chain_281 : Dc cX2_chain 281 (.iload 10) 2 283 := ⟨by decide +kernel, rfl⟩
theorem eX2_chain_283 : Db cX2_chain 283 (fun o => .ifCond .eq o) 347 286 := ⟨64, by decide +kernel, by decide, rfl⟩
theorem eX2_chain_286 : Dc cX2_chain 286 (.aload_n 0) 1 287 := ⟨by decide +kernel, rfl⟩
theorem eX2_chain_287 : Dc cX2_chain 287 (.getfield 8) 3 290 := ⟨by decide +kernel, rfl⟩
theorem eX2_chain_290 : Dc cX2_chain 290 (.sipush 4700) 3 293 := ⟨by decide +kernel, rfl⟩
theorem eX2_chain_293 : Dc cX2_chain 293 (.bipush 41) 2 295 := ⟨by decide +kernel, rfl⟩
theorem eX2_chain_295 : Dc cX2_chain 295 (.iload 6) 2 297 := ⟨by decide +kernel, rfl⟩
theorem eX2_chain_297 : Dc cX2_chain 297 (.imul) 1 298 := ⟨by decide +kernel, rfl⟩
theorem eX2_chain_298 : Dc cX2_chain 298 (.iadd) 1 299 := ⟨by decide +kernel, rfl⟩
theorem eX2_chain_299 : Dc cX2_chain 299 (.iload 7) 2 301 := ⟨by decide +kernel, rfl⟩
theorem eX2_chain_301 : Dc cX2_chain 301 (.iadd) 1 302 := ⟨by decide +kernel, rfl⟩
theorem eX2_chain_302 : Dc cX2_chain 302 (.iload 9) 2 304 := ⟨by decide +kernel, rfl⟩
theorem eX2_chain_304 : Dc cX2_chain 304 (.iastore) 1 305 := ⟨by decide +kernel, rfl⟩
theorem eX2_chain_305 : Dc cX2_chain 305 (.aload_n 0) 1 306 := ⟨by decide +kernel, rfl⟩
theorem eX2_chain_306 : Dc cX2_chain 306 (.getfield 8) 3 309 := ⟨by decide +kernel, rfl⟩
theorem eX2_chain_309 : Dc cX2_chain 309 (.sipush 7160) 3 312 := ⟨by decide +kernel, rfl⟩
theorem eX2_chain_312 : Dc cX2_chain 312 (.bipush 41) 2 314 := ⟨by decide +kernel, rfl⟩
theorem eX2_chain_314 : Dc cX2_chain 314 (.iload 6) 2 316 := ⟨by decide +kernel, rfl⟩
theorem eX2_chain_316 : Dc cX2_chain 316 (.imul) 1 317 := ⟨by decide +kernel, rfl⟩
theorem eX2_chain_317 : Dc cX2_chain 317 (.iadd) 1 318 := ⟨by decide +kernel, rfl⟩
theorem eX2_chain_318 : Dc cX2_chain 318 (.iload 7) 2 320 := ⟨by decide +kernel, rfl⟩
theorem eX2_chain_320 : Dc cX2_chain 320 (.iadd) 1 321 := ⟨by decide +kernel, rfl⟩
theorem eX2_chain_321 : Dc cX2_chain 321 (.aload_n 0) 1 322 := ⟨by decide +kernel, rfl⟩
theorem eX2_chain_322 : Dc cX2_chain 322 (.iload 6) 2 324 := ⟨by decide +kernel, rfl⟩
theorem eX2_chain_324 : Dc cX2_chain 324 (.iload 7) 2 326 := ⟨by decide +kernel, rfl⟩
theorem eX2_chain_326 : Dc cX2_chain 326 (.iload_n 3) 1 327 := ⟨by decide +kernel, rfl⟩
theorem eX2_chain_327 : Dc cX2_chain 327 (.invokevirtual 177) 3 330 := ⟨by decide +kernel, rfl⟩
theorem eX2_chain_330 : Dc cX2_chain 330 (.iastore) 1 331 := ⟨by decide +kernel, rfl⟩
theorem eX2_chain_331 : Dc cX2_chain 331 (.iinc 7 1) 3 334 := ⟨by decide +kernel, rfl⟩
theorem eX2_chain_334 : Dc cX2_chain 334 (.aload_n 0) 1 335 := ⟨by decide +kernel, rfl⟩
theorem eX2_chain_335 : Dc cX2_chain 335 (.getfield 8) 3 338 := ⟨by decide +kernel, rfl⟩
theorem eX2_chain_338 : Dc cX2_chain 338 (.sipush 850) 3 341 := ⟨by decide +kernel, rfl⟩
theorem eX2_chain_341 : Dc cX2_chain 341 (.iload 6) 2 343 := ⟨by decide +kernel, rfl⟩
theorem eX2_chain_343 : Dc cX2_chain 343 (.iadd) 1 344 := ⟨by decide +kernel, rfl⟩
theorem eX2_chain_344 : Dc cX2_chain 344 (.iload 7) 2 346 := ⟨by decide +kernel, rfl⟩
theorem eX2_chain_346 : Dc cX2_chain 346 (.iastore) 1 347 := ⟨by decide +kernel, rfl⟩
theorem eX2_chain_347 : Dc cX2_chain 347 (.iload 10) 2 349 := ⟨by decide +kernel, rfl⟩
theorem eX2_chain_349 : Db cX2_chain 349 (fun o => .ifCond .eq o) 363 352 := ⟨14, by decide +kernel, by decide, rfl⟩
theorem eX2_chain_352 : Dc cX2_chain 352 (.iload 9) 2 354 := ⟨by decide +kernel, rfl⟩
theorem eX2_chain_354 : Dc cX2_chain 354 (.iload 5) 2 356 := ⟨by decide +kernel, rfl⟩
theorem eX2_chain_356 : Db cX2_chain 356 (fun o => .if_icmp .eq o) 363 359 := ⟨7, by decide +kernel, by decide, rfl⟩
theorem eX2_chain_359 : Dc cX2_chain 359 (.iconst 1) 1 360 := ⟨by decide +kernel, rfl⟩
theorem eX2_chain_360 : Db cX2_chain 360 (fun o => .goto o) 364 363 := ⟨4, by decide +kernel, by decide, rfl⟩
theorem eX2_chain_363 : Dc cX2_chain 363 (.iconst 0) 1 364 := ⟨by decide +kernel, rfl⟩
theorem eX2_chain_364 : Dc cX2_chain 364 (.istore 8) 2 366 := ⟨by decide +kernel, rfl⟩
theorem eX2_chain_366 : Dc cX2_chain 366 (.aload_n 0) 1 367 := ⟨by decide +kernel, rfl⟩
theorem eX2_chain_367 : Dc cX2_chain 367 (.getfield 8) 3 370 := ⟨by decide +kernel, rfl⟩
theorem eX2_chain_370 : Dc cX2_chain 370 (.sipush 910) 3 373 := ⟨by decide +kernel, rfl⟩
theorem eX2_chain_373 : Dc cX2_chain 373 (.iload 6) 2 375 := ⟨by decide +kernel, rfl⟩
theorem eX2_chain_375 : Dc cX2_chain 375 (.iadd) 1 376 := ⟨by decide +kernel, rfl⟩
theorem eX2_chain_376 : Dc cX2_chain 376 (.iload 10) 2 378 := ⟨by decide +kernel, rfl⟩
theorem eX2_chain_378 : Db cX2_chain 378 (fun o => .ifCond .eq o) 386 381 := ⟨8, by decide +kernel, by decide, rfl⟩
theorem eX2_chain_381 : Dc cX2_chain 381 (.bipush (-5)) 2 383 := ⟨by decide +kernel, rfl⟩
theorem eX2_chain_383 : Db cX2_chain 383 (fun o => .goto o) 388 386 := ⟨5, by decide +kernel, by decide, rfl⟩
theorem eX2_chain_386 : Dc cX2_chain 386 (.iload 7) 2 388 := ⟨by decide +kernel, rfl⟩
theorem eX2_chain_388 : Dc cX2_chain 388 (.iastore) 1 389 := ⟨by decide +kernel, rfl⟩
theorem eX2_chain_389 : Db cX2_chain 389 (fun o => .goto o) 171 392 := ⟨-218, by decide +kernel, by decide, rfl⟩
theorem eX2_chain_392 : Dc cX2_chain 392 (.iload 6) 2 394 := ⟨by decide +kernel, rfl⟩
theorem eX2_chain_394 : Dc cX2_chain 394 (.ireturn) 1 395 := ⟨by decide +kernel, rfl⟩
theorem eX2_isOf_0 : Dc cX2_isOf 0 (.aload_n 0) 1 1 := ⟨by decide +kernel, rfl⟩
theorem eX2_isOf_1 : Dc cX2_isOf 1 (.iload_n 1) 1 2 := ⟨by decide +kernel, rfl⟩
theorem eX2_isOf_2 : Dc cX2_isOf 2 (.invokevirtual 62) 3 5 := ⟨by decide +kernel, rfl⟩
theorem eX2_isOf_5 : Db cX2_isOf 5 (fun o => .ifCond .eq o) 26 8 := ⟨21, by decide +kernel, by decide, rfl⟩
theorem eX2_isOf_8 : Dc cX2_isOf 8 (.aload_n 0) 1 9 := ⟨by decide +kernel, rfl⟩
theorem eX2_isOf_9 : Dc cX2_isOf 9 (.getfield 8) 3 12 := ⟨by decide +kernel, rfl⟩
theorem eX2_isOf_12 : Dc cX2_isOf 12 (.sipush 370) 3 15 := ⟨by decide +kernel, rfl⟩
theorem eX2_isOf_15 : Dc cX2_isOf 15 (.iload_n 1) 1 16 := ⟨by decide +kernel, rfl⟩
theorem eX2_isOf_16 : Dc cX2_isOf 16 (.iadd) 1 17 := ⟨by decide +kernel, rfl⟩
theorem eX2_isOf_17 : Dc cX2_isOf 17 (.iaload) 1 18 := ⟨by decide +kernel, rfl⟩
theorem eX2_isOf_18 : Dc cX2_isOf 18 (.iload_n 2) 1 19 := ⟨by decide +kernel, rfl⟩
theorem eX2_isOf_19 : Db cX2_isOf 19 (fun o => .if_icmp .ne o) 26 22 := ⟨7, by decide +kernel, by decide, rfl⟩
theorem eX2_isOf_22 : Dc cX2_isOf 22 (.iconst 1) 1 23 := ⟨by decide +kernel, rfl⟩
theorem eX2_isOf_23 : Db cX2_isOf 23 (fun o => .goto o) 27 26 := ⟨4, by decide +kernel, by decide, rfl⟩
theorem eX2_isOf_26 : Dc cX2_isOf 26 (.iconst 0) 1 27 := ⟨by decide +kernel, rfl⟩
theorem eX2_isOf_27 : Dc cX2_isOf 27 (.ireturn) 1 28 := ⟨by decide +kernel, rfl⟩
theorem eX2_isPaper_0 : Dc cX2_isPaper 0 (.iload_n 1) 1 1 := ⟨by decide +kernel, rfl⟩
theorem eX2_isPaper_1 : Dc cX2_isPaper 1 (.iconst 0) 1 2 := ⟨by decide +kernel, rfl⟩
theorem eX2_isPaper_2 : Dc cX2_isPaper 2 (.aload_n 0) 1 3 := ⟨by decide +kernel, rfl⟩
theorem eX2_isPaper_3 : Dc cX2_isPaper 3 (.getfield 8) 3 6 := ⟨by decide +kernel, rfl⟩
theorem eX2_isPaper_6 : Dc cX2_isPaper 6 (.iconst 2) 1 7 := ⟨by decide +kernel, rfl⟩
theorem eX2_isPaper_7 : Dc cX2_isPaper 7 (.iaload) 1 8 := ⟨by decide +kernel, rfl⟩
theorem eX2_isPaper_8 : Dc cX2_isPaper 8 (.iconst 1) 1 9 := ⟨by decide +kernel, rfl⟩
theorem eX2_isPaper_9 : Dc cX2_isPaper 9 (.isub) 1 10 := ⟨by decide +kernel, rfl⟩
theorem eX2_isPaper_10 : Dc cX2_isPaper 10 (.invokestatic 58) 3 13 := ⟨by decide +kernel, rfl⟩
theorem eX2_isPaper_13 : Dc cX2_isPaper 13 (.ireturn) 1 14 := ⟨by decide +kernel, rfl⟩
theorem eX2_isSheet_0 : Dc cX2_isSheet 0 (.iload_n 0) 1 1 := ⟨by decide +kernel, rfl⟩
theorem eX2_isSheet_1 : Dc cX2_isSheet 1 (.iconst 0) 1 2 := ⟨by decide +kernel, rfl⟩
theorem eX2_isSheet_2 : Dc cX2_isSheet 2 (.iconst 3) 1 3 := ⟨by decide +kernel, rfl⟩
theorem eX2_isSheet_3 : Dc cX2_isSheet 3 (.invokestatic 58) 3 6 := ⟨by decide +kernel, rfl⟩
theorem eX2_isSheet_6 : Dc cX2_isSheet 6 (.ireturn) 1 7 := ⟨by decide +kernel, rfl⟩
theorem eX2_isBeside_0 : Dc cX2_isBeside 0 (.iload_n 0) 1 1 := ⟨by decide +kernel, rfl⟩
theorem eX2_isBeside_1 : Dc cX2_isBeside 1 (.bipush 10) 2 3 := ⟨by decide +kernel, rfl⟩
theorem eX2_isBeside_3 : Dc cX2_isBeside 3 (.irem) 1 4 := ⟨by decide +kernel, rfl⟩
theorem eX2_isBeside_4 : Dc cX2_isBeside 4 (.iload_n 1) 1 5 := ⟨by decide +kernel, rfl⟩
theorem eX2_isBeside_5 : Dc cX2_isBeside 5 (.bipush 10) 2 7 := ⟨by decide +kernel, rfl⟩
theorem eX2_isBeside_7 : Dc cX2_isBeside 7 (.irem) 1 8 := ⟨by decide +kernel, rfl⟩
theorem eX2_isBeside_8 : Dc cX2_isBeside 8 (.isub) 1 9 := ⟨by decide +kernel, rfl⟩
theorem eX2_isBeside_9 : Dc cX2_isBeside 9 (.istore_n 2) 1 10 := ⟨by decide +kernel, rfl⟩
theorem eX2_isBeside_10 : Dc cX2_isBeside 10 (.iload_n 0) 1 11 := ⟨by decide +kernel, rfl⟩
theorem eX2_isBeside_11 : Dc cX2_isBeside 11 (.bipush 10) 2 13 := ⟨by decide +kernel, rfl⟩
theorem eX2_isBeside_13 : Dc cX2_isBeside 13 (.idiv) 1 14 := ⟨by decide +kernel, rfl⟩
theorem eX2_isBeside_14 : Dc cX2_isBeside 14 (.iload_n 1) 1 15 := ⟨by decide +kernel, rfl⟩
theorem eX2_isBeside_15 : Dc cX2_isBeside 15 (.bipush 10) 2 17 := ⟨by decide +kernel, rfl⟩
theorem eX2_isBeside_17 : Dc cX2_isBeside 17 (.idiv) 1 18 := ⟨by decide +kernel, rfl⟩
theorem eX2_isBeside_18 : Dc cX2_isBeside 18 (.isub) 1 19 := ⟨by decide +kernel, rfl⟩
theorem eX2_isBeside_19 : Dc cX2_isBeside 19 (.istore_n 3) 1 20 := ⟨by decide +kernel, rfl⟩
theorem eX2_isBeside_20 : Dc cX2_isBeside 20 (.iload_n 2) 1 21 := ⟨by decide +kernel, rfl⟩
theorem eX2_isBeside_21 : Dc cX2_isBeside 21 (.iload_n 2) 1 22 := ⟨by decide +kernel, rfl⟩
theorem eX2_isBeside_22 : Dc cX2_isBeside 22 (.imul) 1 23 := ⟨by decide +kernel, rfl⟩
theorem eX2_isBeside_23 : Dc cX2_isBeside 23 (.iload_n 3) 1 24 := ⟨by decide +kernel, rfl⟩
theorem eX2_isBeside_24 : Dc cX2_isBeside 24 (.iload_n 3) 1 25 := ⟨by decide +kernel, rfl⟩
theorem eX2_isBeside_25 : Dc cX2_isBeside 25 (.imul) 1 26 := ⟨by decide +kernel, rfl⟩
theorem eX2_isBeside_26 : Dc cX2_isBeside 26 (.iadd) 1 27 := ⟨by decide +kernel, rfl⟩
theorem eX2_isBeside_27 : Dc cX2_isBeside 27 (.iconst 1) 1 28 := ⟨by decide +kernel, rfl⟩
theorem eX2_isBeside_28 : Db cX2_isBeside 28 (fun o => .if_icmp .ne o) 35 31 := ⟨7, by decide +kernel, by decide, rfl⟩
theorem eX2_isBeside_31 : Dc cX2_isBeside 31 (.iconst 1) 1 32 := ⟨by decide +kernel, rfl⟩
theorem eX2_isBeside_32 : Db cX2_isBeside 32 (fun o => .goto o) 36 35 := ⟨4, by decide +kernel, by decide, rfl⟩
theorem eX2_isBeside_35 : Dc cX2_isBeside 35 (.iconst 0) 1 36 := ⟨by decide +kernel, rfl⟩
theorem eX2_isBeside_36 : Dc cX2_isBeside 36 (.ireturn) 1 37 := ⟨by decide +kernel, rfl⟩
theorem eX2_isInWay_0 : Dc cX2_isInWay 0 (.aload_n 0) 1 1 := ⟨by decide +kernel, rfl⟩
theorem eX2_isInWay_1 : Dc cX2_isInWay 1 (.iload_n 1) 1 2 := ⟨by decide +kernel, rfl⟩
theorem eX2_isInWay_2 : Dc cX2_isInWay 2 (.iload_n 2) 1 3 := ⟨by decide +kernel, rfl⟩
theorem eX2_isInWay_3 : Dc cX2_isInWay 3 (.invokevirtual 162) 3 6 := ⟨by decide +kernel, rfl⟩
theorem eX2_isInWay_6 : Dc cX2_isInWay 6 (.iconst (-1)) 1 7 := ⟨by decide +kernel, rfl⟩
theorem eX2_isInWay_7 : Db cX2_isInWay 7 (fun o => .if_icmp .eq o) 14 10 := ⟨7, by decide +kernel, by decide, rfl⟩
theorem eX2_isInWay_10 : Dc cX2_isInWay 10 (.iconst 1) 1 11 := ⟨by decide +kernel, rfl⟩
theorem eX2_isInWay_11 : Db cX2_isInWay 11 (fun o => .goto o) 15 14 := ⟨4, by decide +kernel, by decide, rfl⟩
theorem eX2_isInWay_14 : Dc cX2_isInWay 14 (.iconst 0) 1 15 := ⟨by decide +kernel, rfl⟩
theorem eX2_isInWay_15 : Dc cX2_isInWay 15 (.ireturn) 1 16 := ⟨by decide +kernel, rfl⟩
theorem eX2_placeIn_0 : Dc cX2_placeIn 0 (.iconst 0) 1 1 := ⟨by decide +kernel, rfl⟩
theorem eX2_placeIn_1 : Dc cX2_placeIn 1 (.istore_n 3) 1 2 := ⟨by decide +kernel, rfl⟩
theorem eX2_placeIn_2 : Dc cX2_placeIn 2 (.iload_n 3) 1 3 := ⟨by decide +kernel, rfl⟩
theorem eX2_placeIn_3 : Dc cX2_placeIn 3 (.aload_n 0) 1 4 := ⟨by decide +kernel, rfl⟩
theorem eX2_placeIn_4 : Dc cX2_placeIn 4 (.getfield 8) 3 7 := ⟨by decide +kernel, rfl⟩
theorem eX2_placeIn_7 : Dc cX2_placeIn 7 (.sipush 850) 3 10 := ⟨by decide +kernel, rfl⟩
theorem eX2_placeIn_10 : Dc cX2_placeIn 10 (.iload_n 1) 1 11 := ⟨by decide +kernel, rfl⟩
theorem eX2_placeIn_11 : Dc cX2_placeIn 11 (.iadd) 1 12 := ⟨by decide +kernel, rfl⟩
theorem eX2_placeIn_12 : Dc cX2_placeIn 12 (.iaload) 1 13 := ⟨by decide +kernel, rfl⟩
theorem eX2_placeIn_13 : Db cX2_placeIn 13 (fun o => .if_icmp .ge o) 43 16 := ⟨30, by decide +kernel, by decide, rfl⟩
theorem eX2_placeIn_16 : Dc cX2_placeIn 16 (.aload_n 0) 1 17 := ⟨by decide +kernel, rfl⟩
theorem eX2_placeIn_17 : Dc cX2_placeIn 17 (.getfield 8) 3 20 := ⟨by decide +kernel, rfl⟩
theorem eX2_placeIn_20 : Dc cX2_placeIn 20 (.sipush 4700) 3 23 := ⟨by decide +kernel, rfl⟩
theorem eX2_placeIn_23 : Dc cX2_placeIn 23 (.bipush 41) 2 25 := ⟨by decide +kernel, rfl⟩
theorem eX2_placeIn_25 : Dc cX2_placeIn 25 (.iload_n 1) 1 26 := ⟨by decide +kernel, rfl⟩
theorem eX2_placeIn_26 : Dc cX2_placeIn 26 (.imul) 1 27 := ⟨by decide +kernel, rfl⟩
theorem eX2_placeIn_27 : Dc cX2_placeIn 27 (.iadd) 1 28 := ⟨by decide +kernel, rfl⟩
theorem eX2_placeIn_28 : Dc cX2_placeIn 28 (.iload_n 3) 1 29 := ⟨by decide +kernel, rfl⟩
theorem eX2_placeIn_29 : Dc cX2_placeIn 29 (.iadd) 1 30 := ⟨by decide +kernel, rfl⟩
theorem eX2_placeIn_30 : Dc cX2_placeIn 30 (.iaload) 1 31 := ⟨by decide +kernel, rfl⟩
theorem eX2_placeIn_31 : Dc cX2_placeIn 31 (.iload_n 2) 1 32 := ⟨by decide +kernel, rfl⟩
theorem eX2_placeIn_32 : Db cX2_placeIn 32 (fun o => .if_icmp .ne o) 37 35 := ⟨5, by decide +kernel, by decide, rfl⟩
theorem eX2_placeIn_35 : Dc cX2_placeIn 35 (.iload_n 3) 1 36 := ⟨by decide +kernel, rfl⟩
theorem eX2_placeIn_36 : Dc cX2_placeIn 36 (.ireturn) 1 37 := ⟨by decide +kernel, rfl⟩
theorem eX2_placeIn_37 : Dc cX2_placeIn 37 (.iinc 3 1) 3 40 := ⟨by decide +kernel, rfl⟩
theorem eX2_placeIn_40 : Db cX2_placeIn 40 (fun o => .goto o) 2 43 := ⟨-38, by decide +kernel, by decide, rfl⟩
theorem eX2_placeIn_43 : Dc cX2_placeIn 43 (.iconst (-1)) 1 44 := ⟨by decide +kernel, rfl⟩
theorem eX2_placeIn_44 : Dc cX2_placeIn 44 (.ireturn) 1 45 := ⟨by decide +kernel, rfl⟩
theorem eX2_levelOf_0 : Dc cX2_levelOf 0 (.sipush 4700) 3 3 := ⟨by decide +kernel, rfl⟩
theorem eX2_levelOf_3 : Dc cX2_levelOf 3 (.bipush 41) 2 5 := ⟨by decide +kernel, rfl⟩
theorem eX2_levelOf_5 : Dc cX2_levelOf 5 (.iload_n 1) 1 6 := ⟨by decide +kernel, rfl⟩
theorem eX2_levelOf_6 : Dc cX2_levelOf 6 (.imul) 1 7 := ⟨by decide +kernel, rfl⟩
theorem eX2_levelOf_7 : Dc cX2_levelOf 7 (.iadd) 1 8 := ⟨by decide +kernel, rfl⟩
theorem eX2_levelOf_8 : Dc cX2_levelOf 8 (.iload_n 2) 1 9 := ⟨by decide +kernel, rfl⟩
theorem eX2_levelOf_9 : Dc cX2_levelOf 9 (.iadd) 1 10 := ⟨by decide +kernel, rfl⟩
theorem eX2_levelOf_10 : Dc cX2_levelOf 10 (.istore 4) 2 12 := ⟨by decide +kernel, rfl⟩
theorem eX2_levelOf_12 : Dc cX2_levelOf 12 (.iload_n 2) 1 13 := ⟨by decide +kernel, rfl⟩
theorem eX2_levelOf_13 : Db cX2_levelOf 13 (fun o => .ifCond .ne o) 32 16 := ⟨19, by decide +kernel, by decide, rfl⟩
theorem eX2_levelOf_16 : Dc cX2_levelOf 16 (.aload_n 0) 1 17 := ⟨by decide +kernel, rfl⟩
theorem eX2_levelOf_17 : Dc cX2_levelOf 17 (.getfield 8) 3 20 := ⟨by decide +kernel, rfl⟩
theorem eX2_levelOf_20 : Dc cX2_levelOf 20 (.bipush 20) 2 22 := ⟨by decide +kernel, rfl⟩
theorem eX2_levelOf_22 : Dc cX2_levelOf 22 (.aload_n 0) 1 23 := ⟨by decide +kernel, rfl⟩
theorem eX2_levelOf_23 : Dc cX2_levelOf 23 (.getfield 8) 3 26 := ⟨by decide +kernel, rfl⟩
theorem eX2_levelOf_26 : Dc cX2_levelOf 26 (.iload 4) 2 28 := ⟨by decide +kernel, rfl⟩
theorem eX2_levelOf_28 : Dc cX2_levelOf 28 (.iaload) 1 29 := ⟨by decide +kernel, rfl⟩
theorem eX2_levelOf_29 : Dc cX2_levelOf 29 (.iadd) 1 30 := ⟨by decide +kernel, rfl⟩
theorem eX2_levelOf_30 : Dc cX2_levelOf 30 (.iaload) 1 31 := ⟨by decide +kernel, rfl⟩
theorem eX2_levelOf_31 : Dc cX2_levelOf 31 (.ireturn) 1 32 := ⟨by decide +kernel, rfl⟩
theorem eX2_levelOf_32 : Dc cX2_levelOf 32 (.aload_n 0) 1 33 := ⟨by decide +kernel, rfl⟩
theorem eX2_levelOf_33 : Dc cX2_levelOf 33 (.getfield 8) 3 36 := ⟨by decide +kernel, rfl⟩
theorem eX2_levelOf_36 : Dc cX2_levelOf 36 (.sipush 7160) 3 39 := ⟨by decide +kernel, rfl⟩
theorem eX2_levelOf_39 : Dc cX2_levelOf 39 (.bipush 41) 2 41 := ⟨by decide +kernel, rfl⟩
theorem eX2_levelOf_41 : Dc cX2_levelOf 41 (.iload_n 1) 1 42 := ⟨by decide +kernel, rfl⟩
theorem eX2_levelOf_42 : Dc cX2_levelOf 42 (.imul) 1 43 := ⟨by decide +kernel, rfl⟩
theorem eX2_levelOf_43 : Dc cX2_levelOf 43 (.iadd) 1 44 := ⟨by decide +kernel, rfl⟩
theorem eX2_levelOf_44 : Dc cX2_levelOf 44 (.iload_n 2) 1 45 := ⟨by decide +kernel, rfl⟩
theorem eX2_levelOf_45 : Dc cX2_levelOf 45 (.iadd) 1 46 := ⟨by decide +kernel, rfl⟩
theorem eX2_levelOf_46 : Dc cX2_levelOf 46 (.iconst 1) 1 47 := ⟨by decide +kernel, rfl⟩
theorem eX2_levelOf_47 : Dc cX2_levelOf 47 (.isub) 1 48 := ⟨by decide +kernel, rfl⟩
theorem eX2_levelOf_48 : Dc cX2_levelOf 48 (.iaload) 1 49 := ⟨by decide +kernel, rfl⟩
theorem eX2_levelOf_49 : Dc cX2_levelOf 49 (.istore 5) 2 51 := ⟨by decide +kernel, rfl⟩
theorem eX2_levelOf_51 : Dc cX2_levelOf 51 (.iload 5) 2 53 := ⟨by decide +kernel, rfl⟩
theorem eX2_levelOf_53 : Dc cX2_levelOf 53 (.ldc 181) 2 55 := ⟨by decide +kernel, rfl⟩
theorem eX2_levelOf_55 : Db cX2_levelOf 55 (fun o => .if_icmp .eq o) 88 58 := ⟨33, by decide +kernel, by decide, rfl⟩
theorem eX2_levelOf_58 : Dc cX2_levelOf 58 (.aload_n 0) 1 59 := ⟨by decide +kernel, rfl⟩
theorem eX2_levelOf_59 : Dc cX2_levelOf 59 (.getfield 8) 3 62 := ⟨by decide +kernel, rfl⟩
theorem eX2_levelOf_62 : Dc cX2_levelOf 62 (.sipush 200) 3 65 := ⟨by decide +kernel, rfl⟩
theorem eX2_levelOf_65 : Dc cX2_levelOf 65 (.iload_n 3) 1 66 := ⟨by decide +kernel, rfl⟩
theorem eX2_levelOf_66 : Dc cX2_levelOf 66 (.iadd) 1 67 := ⟨by decide +kernel, rfl⟩
theorem eX2_levelOf_67 : Dc cX2_levelOf 67 (.iaload) 1 68 := ⟨by decide +kernel, rfl⟩
theorem eX2_levelOf_68 : Dc cX2_levelOf 68 (.iconst 2) 1 69 := ⟨by decide +kernel, rfl⟩
theorem eX2_levelOf_69 : Db cX2_levelOf 69 (fun o => .if_icmp .ne o) 88 72 := ⟨19, by decide +kernel, by decide, rfl⟩
theorem eX2_levelOf_72 : Dc cX2_levelOf 72 (.iload_n 2) 1 73 := ⟨by decide +kernel, rfl⟩
theorem eX2_levelOf_73 : Dc cX2_levelOf 73 (.iconst 1) 1 74 := ⟨by decide +kernel, rfl⟩
theorem eX2_levelOf_74 : Dc cX2_levelOf 74 (.isub) 1 75 := ⟨by decide +kernel, rfl⟩
theorem eX2_levelOf_75 : Dc cX2_levelOf 75 (.aload_n 0) 1 76 := ⟨by decide +kernel, rfl⟩
theorem eX2_levelOf_76 : Dc cX2_levelOf 76 (.getfield 8) 3 79 := ⟨by decide +kernel, rfl⟩
theorem eX2_levelOf_79 : Dc cX2_levelOf 79 (.sipush 204) 3 82 := ⟨by decide +kernel, rfl⟩
theorem eX2_levelOf_82 : Dc cX2_levelOf 82 (.iload_n 3) 1 83 := ⟨by decide +kernel, rfl⟩
theorem eX2_levelOf_83 : Dc cX2_levelOf 83 (.iadd) 1 84 := ⟨by decide +kernel, rfl⟩
theorem eX2_levelOf_84 : Dc cX2_levelOf 84 (.iaload) 1 85 := ⟨by decide +kernel, rfl⟩
theorem eX2_levelOf_85 : Db cX2_levelOf 85 (fun o => .if_icmp .lt o) 91 88 := ⟨6, by decide +kernel, by decide, rfl⟩
theorem eX2_levelOf_88 : Dc cX2_levelOf 88 (.ldc 181) 2 90 := ⟨by decide +kernel, rfl⟩
theorem eX2_levelOf_90 : Dc cX2_levelOf 90 (.ireturn) 1 91 := ⟨by decide +kernel, rfl⟩
theorem eX2_levelOf_91 : Dc cX2_levelOf 91 (.aload_n 0) 1 92 := ⟨by decide +kernel, rfl⟩
theorem eX2_levelOf_92 : Dc cX2_levelOf 92 (.getfield 8) 3 95 := ⟨by decide +kernel, rfl⟩
theorem eX2_levelOf_95 : Dc cX2_levelOf 95 (.sipush 208) 3 98 := ⟨by decide +kernel, rfl⟩
theorem eX2_levelOf_98 : Dc cX2_levelOf 98 (.bipush 40) 2 100 := ⟨by decide +kernel, rfl⟩
theorem eX2_levelOf_100 : Dc cX2_levelOf 100 (.iload_n 3) 1 101 := ⟨by decide +kernel, rfl⟩
theorem eX2_levelOf_101 : Dc cX2_levelOf 101 (.imul) 1 102 := ⟨by decide +kernel, rfl⟩
theorem eX2_levelOf_102 : Dc cX2_levelOf 102 (.iadd) 1 103 := ⟨by decide +kernel, rfl⟩
theorem eX2_levelOf_103 : Dc cX2_levelOf 103 (.iload_n 2) 1 104 := ⟨by decide +kernel, rfl⟩
theorem eX2_levelOf_104 : Dc cX2_levelOf 104 (.iadd) 1 105 := ⟨by decide +kernel, rfl⟩
theorem eX2_levelOf_105 : Dc cX2_levelOf 105 (.iconst 1) 1 106 := ⟨by decide +kernel, rfl⟩
theorem eX2_levelOf_106 : Dc cX2_levelOf 106 (.isub) 1 107 := ⟨by decide +kernel, rfl⟩
theorem eX2_levelOf_107 : Dc cX2_levelOf 107 (.iaload) 1 108 := ⟨by decide +kernel, rfl⟩
theorem eX2_levelOf_108 : Dc cX2_levelOf 108 (.istore 6) 2 110 := ⟨by decide +kernel, rfl⟩
theorem eX2_levelOf_110 : Dc cX2_levelOf 110 (.iload 6) 2 112 := ⟨by decide +kernel, rfl⟩
theorem eX2_levelOf_112 : Dc cX2_levelOf 112 (.ldc 182) 2 114 := ⟨by decide +kernel, rfl⟩
theorem eX2_levelOf_114 : Db cX2_levelOf 114 (fun o => .if_icmp .ne o) 153 117 := ⟨39, by decide +kernel, by decide, rfl⟩
theorem eX2_levelOf_117 : Dc cX2_levelOf 117 (.aload_n 0) 1 118 := ⟨by decide +kernel, rfl⟩
theorem eX2_levelOf_118 : Dc cX2_levelOf 118 (.getfield 8) 3 121 := ⟨by decide +kernel, rfl⟩
theorem eX2_levelOf_121 : Dc cX2_levelOf 121 (.bipush 20) 2 123 := ⟨by decide +kernel, rfl⟩
theorem eX2_levelOf_123 : Dc cX2_levelOf 123 (.aload_n 0) 1 124 := ⟨by decide +kernel, rfl⟩
theorem eX2_levelOf_124 : Dc cX2_levelOf 124 (.getfield 8) 3 127 := ⟨by decide +kernel, rfl⟩
theorem eX2_levelOf_127 : Dc cX2_levelOf 127 (.iload 4) 2 129 := ⟨by decide +kernel, rfl⟩
theorem eX2_levelOf_129 : Dc cX2_levelOf 129 (.iaload) 1 130 := ⟨by decide +kernel, rfl⟩
theorem eX2_levelOf_130 : Dc cX2_levelOf 130 (.iadd) 1 131 := ⟨by decide +kernel, rfl⟩
theorem eX2_levelOf_131 : Dc cX2_levelOf 131 (.iaload) 1 132 := ⟨by decide +kernel, rfl⟩
theorem eX2_levelOf_132 : Dc cX2_levelOf 132 (.aload_n 0) 1 133 := ⟨by decide +kernel, rfl⟩
theorem eX2_levelOf_133 : Dc cX2_levelOf 133 (.getfield 8) 3 136 := ⟨by decide +kernel, rfl⟩
theorem eX2_levelOf_136 : Dc cX2_levelOf 136 (.bipush 20) 2 138 := ⟨by decide +kernel, rfl⟩
theorem eX2_levelOf_138 : Dc cX2_levelOf 138 (.aload_n 0) 1 139 := ⟨by decide +kernel, rfl⟩
theorem eX2_levelOf_139 : Dc cX2_levelOf 139 (.getfield 8) 3 142 := ⟨by decide +kernel, rfl⟩
theorem eX2_levelOf_142 : Dc cX2_levelOf 142 (.iload 4) 2 144 := ⟨by decide +kernel, rfl⟩
theorem eX2_levelOf_144 : Dc cX2_levelOf 144 (.iconst 1) 1 145 := ⟨by decide +kernel, rfl⟩
theorem eX2_levelOf_145 : Dc cX2_levelOf 145 (.isub) 1 146 := ⟨by decide +kernel, rfl⟩
theorem eX2_levelOf_146 : Dc cX2_levelOf 146 (.iaload) 1 147 := ⟨by decide +kernel, rfl⟩
theorem eX2_levelOf_147 : Dc cX2_levelOf 147 (.iadd) 1 148 := ⟨by decide +kernel, rfl⟩
theorem eX2_levelOf_148 : Dc cX2_levelOf 148 (.iaload) 1 149 := ⟨by decide +kernel, rfl⟩
theorem eX2_levelOf_149 : Dc cX2_levelOf 149 (.isub) 1 150 := ⟨by decide +kernel, rfl⟩
theorem eX2_levelOf_150 : Db cX2_levelOf 150 (fun o => .goto o) 183 153 := ⟨33, by decide +kernel, by decide, rfl⟩
theorem eX2_levelOf_153 : Dc cX2_levelOf 153 (.iload 6) 2 155 := ⟨by decide +kernel, rfl⟩
theorem eX2_levelOf_155 : Dc cX2_levelOf 155 (.sipush 10000) 3 158 := ⟨by decide +kernel, rfl⟩
theorem eX2_levelOf_158 : Db cX2_levelOf 158 (fun o => .if_icmp .le o) 167 161 := ⟨9, by decide +kernel, by decide, rfl⟩
theorem eX2_levelOf_161 : Dc cX2_levelOf 161 (.sipush 10000) 3 164 := ⟨by decide +kernel, rfl⟩
theorem eX2_levelOf_164 : Db cX2_levelOf 164 (fun o => .goto o) 183 167 := ⟨19, by decide +kernel, by decide, rfl⟩
theorem eX2_levelOf_167 : Dc cX2_levelOf 167 (.iload 6) 2 169 := ⟨by decide +kernel, rfl⟩
theorem eX2_levelOf_169 : Dc cX2_levelOf 169 (.sipush (-10000)) 3 172 := ⟨by decide +kernel, rfl⟩
theorem eX2_levelOf_172 : Db cX2_levelOf 172 (fun o => .if_icmp .ge o) 181 175 := ⟨9, by decide +kernel, by decide, rfl⟩
theorem eX2_levelOf_175 : Dc cX2_levelOf 175 (.sipush (-10000)) 3 178 := ⟨by decide +kernel, rfl⟩
theorem eX2_levelOf_178 : Db cX2_levelOf 178 (fun o => .goto o) 183 181 := ⟨5, by decide +kernel, by decide, rfl⟩
theorem eX2_levelOf_181 : Dc cX2_levelOf 181 (.iload 6) 2 183 := ⟨by decide +kernel, rfl⟩
theorem eX2_levelOf_183 : Dc cX2_levelOf 183 (.istore 7) 2 185 := ⟨by decide +kernel, rfl⟩
theorem eX2_levelOf_185 : Dc cX2_levelOf 185 (.iload 5) 2 187 := ⟨by decide +kernel, rfl⟩
theorem eX2_levelOf_187 : Dc cX2_levelOf 187 (.iload 7) 2 189 := ⟨by decide +kernel, rfl⟩
theorem eX2_levelOf_189 : Dc cX2_levelOf 189 (.iadd) 1 190 := ⟨by decide +kernel, rfl⟩
theorem eX2_levelOf_190 : Dc cX2_levelOf 190 (.ireturn) 1 191 := ⟨by decide +kernel, rfl⟩
theorem eX2_way_0 : Dc cX2_way 0 (.aload_n 0) 1 1 := ⟨by decide +kernel, rfl⟩
theorem eX2_way_1 : Dc cX2_way 1 (.iload_n 1) 1 2 := ⟨by decide +kernel, rfl⟩
theorem eX2_way_2 : Dc cX2_way 2 (.iconst 2) 1 3 := ⟨by decide +kernel, rfl⟩
theorem eX2_way_3 : Dc cX2_way 3 (.invokevirtual 165) 3 6 := ⟨by decide +kernel, rfl⟩
theorem eX2_way_6 : Db cX2_way 6 (fun o => .ifCond .ne o) 11 9 := ⟨5, by decide +kernel, by decide, rfl⟩
theorem eX2_way_9 : Dc cX2_way 9 (.iconst (-1)) 1 10 := ⟨by decide +kernel, rfl⟩
theorem eX2_way_10 : Dc cX2_way 10 (.ireturn) 1 11 := ⟨by decide +kernel, rfl⟩
theorem eX2_way_11 : Dc cX2_way 11 (.iload_n 2) 1 12 := ⟨by decide +kernel, rfl⟩
theorem eX2_way_12 : Dt cX2_way 12 (0) [40, 51, 62] 68 := ⟨56, 2, #[28, 39, 50], 28, by decide +kernel, by decide, by decide, by decide⟩
theorem eX2_way_40 : Dc cX2_way 40 (.aload_n 0) 1 41 := ⟨by decide +kernel, rfl⟩
theorem eX2_way_41 : Dc cX2_way 41 (.getfield 8) 3 44 := ⟨by decide +kernel, rfl⟩
theorem eX2_way_44 : Dc cX2_way 44 (.sipush 850) 3 47 := ⟨by decide +kernel, rfl⟩
theorem eX2_way_47 : Dc cX2_way 47 (.iload_n 1) 1 48 := ⟨by decide +kernel, rfl⟩
theorem eX2_way_48 : Dc cX2_way 48 (.iadd) 1 49 := ⟨by decide +kernel, rfl⟩
theorem eX2_way_49 : Dc cX2_way 49 (.iaload) 1 50 := ⟨by decide +kernel, rfl⟩
theorem eX2_way_50 : Dc cX2_way 50 (.ireturn) 1 51 := ⟨by decide +kernel, rfl⟩
theorem eX2_way_51 : Dc cX2_way 51 (.aload_n 0) 1 52 := ⟨by decide +kernel, rfl⟩
theorem eX2_way_52 : Dc cX2_way 52 (.getfield 8) 3 55 := ⟨by decide +kernel, rfl⟩
theorem eX2_way_55 : Dc cX2_way 55 (.sipush 910) 3 58 := ⟨by decide +kernel, rfl⟩
theorem eX2_way_58 : Dc cX2_way 58 (.iload_n 1) 1 59 := ⟨by decide +kernel, rfl⟩
theorem eX2_way_59 : Dc cX2_way 59 (.iadd) 1 60 := ⟨by decide +kernel, rfl⟩
theorem eX2_way_60 : Dc cX2_way 60 (.iaload) 1 61 := ⟨by decide +kernel, rfl⟩
theorem eX2_way_61 : Dc cX2_way 61 (.ireturn) 1 62 := ⟨by decide +kernel, rfl⟩
theorem eX2_way_62 : Dc cX2_way 62 (.aload_n 0) 1 63 := ⟨by decide +kernel, rfl⟩
theorem eX2_way_63 : Dc cX2_way 63 (.iload_n 1) 1 64 := ⟨by decide +kernel, rfl⟩
theorem eX2_way_64 : Dc cX2_way 64 (.invokevirtual 190) 3 67 := ⟨by decide +kernel, rfl⟩
theorem eX2_way_67 : Dc cX2_way 67 (.ireturn) 1 68 := ⟨by decide +kernel, rfl⟩
theorem eX2_way_68 : Dc cX2_way 68 (.iload_n 2) 1 69 := ⟨by decide +kernel, rfl⟩
theorem eX2_way_69 : Dc cX2_way 69 (.bipush 10) 2 71 := ⟨by decide +kernel, rfl⟩
theorem eX2_way_71 : Dc cX2_way 71 (.isub) 1 72 := ⟨by decide +kernel, rfl⟩
theorem eX2_way_72 : Dc cX2_way 72 (.iconst 0) 1 73 := ⟨by decide +kernel, rfl⟩
theorem eX2_way_73 : Dc cX2_way 73 (.aload_n 0) 1 74 := ⟨by decide +kernel, rfl⟩
theorem eX2_way_74 : Dc cX2_way 74 (.getfield 8) 3 77 := ⟨by decide +kernel, rfl⟩
theorem eX2_way_77 : Dc cX2_way 77 (.sipush 850) 3 80 := ⟨by decide +kernel, rfl⟩
theorem eX2_way_80 : Dc cX2_way 80 (.iload_n 1) 1 81 := ⟨by decide +kernel, rfl⟩
theorem eX2_way_81 : Dc cX2_way 81 (.iadd) 1 82 := ⟨by decide +kernel, rfl⟩
theorem eX2_way_82 : Dc cX2_way 82 (.iaload) 1 83 := ⟨by decide +kernel, rfl⟩
theorem eX2_way_83 : Dc cX2_way 83 (.iconst 1) 1 84 := ⟨by decide +kernel, rfl⟩
theorem eX2_way_84 : Dc cX2_way 84 (.isub) 1 85 := ⟨by decide +kernel, rfl⟩
theorem eX2_way_85 : Dc cX2_way 85 (.invokestatic 58) 3 88 := ⟨by decide +kernel, rfl⟩
theorem eX2_way_88 : Db cX2_way 88 (fun o => .ifCond .eq o) 112 91 := ⟨24, by decide +kernel, by decide, rfl⟩
theorem eX2_way_91 : Dc cX2_way 91 (.aload_n 0) 1 92 := ⟨by decide +kernel, rfl⟩
theorem eX2_way_92 : Dc cX2_way 92 (.getfield 8) 3 95 := ⟨by decide +kernel, rfl⟩
theorem eX2_way_95 : Dc cX2_way 95 (.sipush 4700) 3 98 := ⟨by decide +kernel, rfl⟩
theorem eX2_way_98 : Dc cX2_way 98 (.bipush 41) 2 100 := ⟨by decide +kernel, rfl⟩
theorem eX2_way_100 : Dc cX2_way 100 (.iload_n 1) 1 101 := ⟨by decide +kernel, rfl⟩
theorem eX2_way_101 : Dc cX2_way 101 (.imul) 1 102 := ⟨by decide +kernel, rfl⟩
theorem eX2_way_102 : Dc cX2_way 102 (.iadd) 1 103 := ⟨by decide +kernel, rfl⟩
theorem eX2_way_103 : Dc cX2_way 103 (.iload_n 2) 1 104 := ⟨by decide +kernel, rfl⟩
theorem eX2_way_104 : Dc cX2_way 104 (.iadd) 1 105 := ⟨by decide +kernel, rfl⟩
theorem eX2_way_105 : Dc cX2_way 105 (.bipush 10) 2 107 := ⟨by decide +kernel, rfl⟩
theorem eX2_way_107 : Dc cX2_way 107 (.isub) 1 108 := ⟨by decide +kernel, rfl⟩
theorem eX2_way_108 : Dc cX2_way 108 (.iaload) 1 109 := ⟨by decide +kernel, rfl⟩
theorem eX2_way_109 : Db cX2_way 109 (fun o => .goto o) 113 112 := ⟨4, by decide +kernel, by decide, rfl⟩
theorem eX2_way_112 : Dc cX2_way 112 (.iconst (-1)) 1 113 := ⟨by decide +kernel, rfl⟩
theorem eX2_way_113 : Dc cX2_way 113 (.ireturn) 1 114 := ⟨by decide +kernel, rfl⟩
theorem eX2_yardsOf_0 : Dc cX2_yardsOf 0 (.iconst 0) 1 1 := ⟨by decide +kernel, rfl⟩
theorem eX2_yardsOf_1 : Dc cX2_yardsOf 1 (.istore_n 2) 1 2 := ⟨by decide +kernel, rfl⟩
theorem eX2_yardsOf_2 : Dc cX2_yardsOf 2 (.iconst 1) 1 3 := ⟨by decide +kernel, rfl⟩
theorem eX2_yardsOf_3 : Dc cX2_yardsOf 3 (.istore_n 3) 1 4 := ⟨by decide +kernel, rfl⟩
theorem eX2_yardsOf_4 : Dc cX2_yardsOf 4 (.iload_n 3) 1 5 := ⟨by decide +kernel, rfl⟩
theorem eX2_yardsOf_5 : Dc cX2_yardsOf 5 (.aload_n 0) 1 6 := ⟨by decide +kernel, rfl⟩
theorem eX2_yardsOf_6 : Dc cX2_yardsOf 6 (.getfield 8) 3 9 := ⟨by decide +kernel, rfl⟩
theorem eX2_yardsOf_9 : Dc cX2_yardsOf 9 (.sipush 850) 3 12 := ⟨by decide +kernel, rfl⟩
theorem eX2_yardsOf_12 : Dc cX2_yardsOf 12 (.iload_n 1) 1 13 := ⟨by decide +kernel, rfl⟩
theorem eX2_yardsOf_13 : Dc cX2_yardsOf 13 (.iadd) 1 14 := ⟨by decide +kernel, rfl⟩
theorem eX2_yardsOf_14 : Dc cX2_yardsOf 14 (.iaload) 1 15 := ⟨by decide +kernel, rfl⟩
theorem eX2_yardsOf_15 : Db cX2_yardsOf 15 (fun o => .if_icmp .ge o) 63 18 := ⟨48, by decide +kernel, by decide, rfl⟩
theorem eX2_yardsOf_18 : Dc cX2_yardsOf 18 (.iload_n 2) 1 19 := ⟨by decide +kernel, rfl⟩
theorem eX2_yardsOf_19 : Dc cX2_yardsOf 19 (.aload_n 0) 1 20 := ⟨by decide +kernel, rfl⟩
theorem eX2_yardsOf_20 : Dc cX2_yardsOf 20 (.aload_n 0) 1 21 := ⟨by decide +kernel, rfl⟩
theorem eX2_yardsOf_21 : Dc cX2_yardsOf 21 (.getfield 8) 3 24 := ⟨by decide +kernel, rfl⟩
theorem eX2_yardsOf_24 : Dc cX2_yardsOf 24 (.sipush 4700) 3 27 := ⟨by decide +kernel, rfl⟩
theorem eX2_yardsOf_27 : Dc cX2_yardsOf 27 (.bipush 41) 2 29 := ⟨by decide +kernel, rfl⟩
theorem eX2_yardsOf_29 : Dc cX2_yardsOf 29 (.iload_n 1) 1 30 := ⟨by decide +kernel, rfl⟩
theorem eX2_yardsOf_30 : Dc cX2_yardsOf 30 (.imul) 1 31 := ⟨by decide +kernel, rfl⟩
theorem eX2_yardsOf_31 : Dc cX2_yardsOf 31 (.iadd) 1 32 := ⟨by decide +kernel, rfl⟩
theorem eX2_yardsOf_32 : Dc cX2_yardsOf 32 (.iload_n 3) 1 33 := ⟨by decide +kernel, rfl⟩
theorem eX2_yardsOf_33 : Dc cX2_yardsOf 33 (.iadd) 1 34 := ⟨by decide +kernel, rfl⟩
theorem eX2_yardsOf_34 : Dc cX2_yardsOf 34 (.iconst 1) 1 35 := ⟨by decide +kernel, rfl⟩
theorem eX2_yardsOf_35 : Dc cX2_yardsOf 35 (.isub) 1 36 := ⟨by decide +kernel, rfl⟩
theorem eX2_yardsOf_36 : Dc cX2_yardsOf 36 (.iaload) 1 37 := ⟨by decide +kernel, rfl⟩
theorem eX2_yardsOf_37 : Dc cX2_yardsOf 37 (.aload_n 0) 1 38 := ⟨by decide +kernel, rfl⟩
theorem eX2_yardsOf_38 : Dc cX2_yardsOf 38 (.getfield 8) 3 41 := ⟨by decide +kernel, rfl⟩
theorem eX2_yardsOf_41 : Dc cX2_yardsOf 41 (.sipush 4700) 3 44 := ⟨by decide +kernel, rfl⟩
theorem eX2_yardsOf_44 : Dc cX2_yardsOf 44 (.bipush 41) 2 46 := ⟨by decide +kernel, rfl⟩
theorem eX2_yardsOf_46 : Dc cX2_yardsOf 46 (.iload_n 1) 1 47 := ⟨by decide +kernel, rfl⟩
theorem eX2_yardsOf_47 : Dc cX2_yardsOf 47 (.imul) 1 48 := ⟨by decide +kernel, rfl⟩
theorem eX2_yardsOf_48 : Dc cX2_yardsOf 48 (.iadd) 1 49 := ⟨by decide +kernel, rfl⟩
theorem eX2_yardsOf_49 : Dc cX2_yardsOf 49 (.iload_n 3) 1 50 := ⟨by decide +kernel, rfl⟩
theorem eX2_yardsOf_50 : Dc cX2_yardsOf 50 (.iadd) 1 51 := ⟨by decide +kernel, rfl⟩
theorem eX2_yardsOf_51 : Dc cX2_yardsOf 51 (.iaload) 1 52 := ⟨by decide +kernel, rfl⟩
theorem eX2_yardsOf_52 : Dc cX2_yardsOf 52 (.invokevirtual 187) 3 55 := ⟨by decide +kernel, rfl⟩
theorem eX2_yardsOf_55 : Dc cX2_yardsOf 55 (.iadd) 1 56 := ⟨by decide +kernel, rfl⟩
theorem eX2_yardsOf_56 : Dc cX2_yardsOf 56 (.istore_n 2) 1 57 := ⟨by decide +kernel, rfl⟩
theorem eX2_yardsOf_57 : Dc cX2_yardsOf 57 (.iinc 3 1) 3 60 := ⟨by decide +kernel, rfl⟩
theorem eX2_yardsOf_60 : Db cX2_yardsOf 60 (fun o => .goto o) 4 63 := ⟨-56, by decide +kernel, by decide, rfl⟩
theorem eX2_yardsOf_63 : Dc cX2_yardsOf 63 (.iload_n 2) 1 64 := ⟨by decide +kernel, rfl⟩
theorem eX2_yardsOf_64 : Dc cX2_yardsOf 64 (.ireturn) 1 65 := ⟨by decide +kernel, rfl⟩
theorem eX2_step_0 : Dc cX2_step 0 (.bipush 10) 2 2 := ⟨by decide +kernel, rfl⟩
theorem eX2_step_2 : Dc cX2_step 2 (.iconst 3) 1 3 := ⟨by decide +kernel, rfl⟩
theorem eX2_step_3 : Dc cX2_step 3 (.aload_n 0) 1 4 := ⟨by decide +kernel, rfl⟩
theorem eX2_step_4 : Dc cX2_step 4 (.getfield 8) 3 7 := ⟨by decide +kernel, rfl⟩
theorem eX2_step_7 : Dc cX2_step 7 (.bipush 20) 2 9 := ⟨by decide +kernel, rfl⟩
theorem eX2_step_9 : Dc cX2_step 9 (.iload_n 1) 1 10 := ⟨by decide +kernel, rfl⟩
theorem eX2_step_10 : Dc cX2_step 10 (.iadd) 1 11 := ⟨by decide +kernel, rfl⟩
theorem eX2_step_11 : Dc cX2_step 11 (.iaload) 1 12 := ⟨by decide +kernel, rfl⟩
theorem eX2_step_12 : Dc cX2_step 12 (.aload_n 0) 1 13 := ⟨by decide +kernel, rfl⟩
theorem eX2_step_13 : Dc cX2_step 13 (.getfield 8) 3 16 := ⟨by decide +kernel, rfl⟩
theorem eX2_step_16 : Dc cX2_step 16 (.bipush 20) 2 18 := ⟨by decide +kernel, rfl⟩
theorem eX2_step_18 : Dc cX2_step 18 (.iload_n 2) 1 19 := ⟨by decide +kernel, rfl⟩
theorem eX2_step_19 : Dc cX2_step 19 (.iadd) 1 20 := ⟨by decide +kernel, rfl⟩
theorem eX2_step_20 : Dc cX2_step 20 (.iaload) 1 21 := ⟨by decide +kernel, rfl⟩
theorem eX2_step_21 : Dc cX2_step 21 (.isub) 1 22 := ⟨by decide +kernel, rfl⟩
theorem eX2_step_22 : Dc cX2_step 22 (.invokestatic 183) 3 25 := ⟨by decide +kernel, rfl⟩
theorem eX2_step_25 : Dc cX2_step 25 (.imul) 1 26 := ⟨by decide +kernel, rfl⟩
theorem eX2_step_26 : Dc cX2_step 26 (.iadd) 1 27 := ⟨by decide +kernel, rfl⟩
theorem eX2_step_27 : Dc cX2_step 27 (.aload_n 0) 1 28 := ⟨by decide +kernel, rfl⟩
theorem eX2_step_28 : Dc cX2_step 28 (.getfield 8) 3 31 := ⟨by decide +kernel, rfl⟩
theorem eX2_step_31 : Dc cX2_step 31 (.bipush 100) 2 33 := ⟨by decide +kernel, rfl⟩
theorem eX2_step_33 : Dc cX2_step 33 (.iload_n 2) 1 34 := ⟨by decide +kernel, rfl⟩
theorem eX2_step_34 : Dc cX2_step 34 (.iadd) 1 35 := ⟨by decide +kernel, rfl⟩
theorem eX2_step_35 : Dc cX2_step 35 (.iaload) 1 36 := ⟨by decide +kernel, rfl⟩
theorem eX2_step_36 : Dc cX2_step 36 (.iconst 1) 1 37 := ⟨by decide +kernel, rfl⟩
theorem eX2_step_37 : Db cX2_step 37 (fun o => .if_icmp .ne o) 45 40 := ⟨8, by decide +kernel, by decide, rfl⟩
theorem eX2_step_40 : Dc cX2_step 40 (.bipush 20) 2 42 := ⟨by decide +kernel, rfl⟩
theorem eX2_step_42 : Db cX2_step 42 (fun o => .goto o) 63 45 := ⟨21, by decide +kernel, by decide, rfl⟩
theorem eX2_step_45 : Dc cX2_step 45 (.aload_n 0) 1 46 := ⟨by decide +kernel, rfl⟩
theorem eX2_step_46 : Dc cX2_step 46 (.getfield 8) 3 49 := ⟨by decide +kernel, rfl⟩
theorem eX2_step_49 : Dc cX2_step 49 (.bipush 100) 2 51 := ⟨by decide +kernel, rfl⟩
theorem eX2_step_51 : Dc cX2_step 51 (.iload_n 2) 1 52 := ⟨by decide +kernel, rfl⟩
theorem eX2_step_52 : Dc cX2_step 52 (.iadd) 1 53 := ⟨by decide +kernel, rfl⟩
theorem eX2_step_53 : Dc cX2_step 53 (.iaload) 1 54 := ⟨by decide +kernel, rfl⟩
theorem eX2_step_54 : Dc cX2_step 54 (.iconst 2) 1 55 := ⟨by decide +kernel, rfl⟩
theorem eX2_step_55 : Db cX2_step 55 (fun o => .if_icmp .ne o) 62 58 := ⟨7, by decide +kernel, by decide, rfl⟩
theorem eX2_step_58 : Dc cX2_step 58 (.iconst 5) 1 59 := ⟨by decide +kernel, rfl⟩
theorem eX2_step_59 : Db cX2_step 59 (fun o => .goto o) 63 62 := ⟨4, by decide +kernel, by decide, rfl⟩
theorem eX2_step_62 : Dc cX2_step 62 (.iconst 0) 1 63 := ⟨by decide +kernel, rfl⟩
theorem eX2_step_63 : Dc cX2_step 63 (.iadd) 1 64 := ⟨by decide +kernel, rfl⟩
theorem eX2_step_64 : Dc cX2_step 64 (.ireturn) 1 65 := ⟨by decide +kernel, rfl⟩
theorem eX2_size_0 : Dc cX2_size 0 (.iload_n 0) 1 1 := ⟨by decide +kernel, rfl⟩
theorem eX2_size_1 : Db cX2_size 1 (fun o => .ifCond .ge o) 9 4 := ⟨8, by decide +kernel, by decide, rfl⟩
theorem eX2_size_4 : Dc cX2_size 4 (.iload_n 0) 1 5 := ⟨by decide +kernel, rfl⟩
theorem eX2_size_5 : Dc cX2_size 5 (.ineg) 1 6 := ⟨by decide +kernel, rfl⟩
theorem eX2_size_6 : Db cX2_size 6 (fun o => .goto o) 10 9 := ⟨4, by decide +kernel, by decide, rfl⟩
theorem eX2_size_9 : Dc cX2_size 9 (.iload_n 0) 1 10 := ⟨by decide +kernel, rfl⟩
theorem eX2_size_10 : Dc cX2_size 10 (.ireturn) 1 11 := ⟨by decide +kernel, rfl⟩
theorem eX2_level_0 : Dc cX2_level 0 (.aload_n 0) 1 1 := ⟨by decide +kernel, rfl⟩
theorem eX2_level_1 : Dc cX2_level 1 (.iload_n 1) 1 2 := ⟨by decide +kernel, rfl⟩
theorem eX2_level_2 : Dc cX2_level 2 (.iconst 2) 1 3 := ⟨by decide +kernel, rfl⟩
theorem eX2_level_3 : Dc cX2_level 3 (.invokevirtual 165) 3 6 := ⟨by decide +kernel, rfl⟩
theorem eX2_level_6 : Db cX2_level 6 (fun o => .ifCond .eq o) 47 9 := ⟨41, by decide +kernel, by decide, rfl⟩
theorem eX2_level_9 : Dc cX2_level 9 (.iload_n 2) 1 10 := ⟨by decide +kernel, rfl⟩
theorem eX2_level_10 : Dc cX2_level 10 (.iconst 0) 1 11 := ⟨by decide +kernel, rfl⟩
theorem eX2_level_11 : Dc cX2_level 11 (.aload_n 0) 1 12 := ⟨by decide +kernel, rfl⟩
theorem eX2_level_12 : Dc cX2_level 12 (.getfield 8) 3 15 := ⟨by decide +kernel, rfl⟩
theorem eX2_level_15 : Dc cX2_level 15 (.sipush 850) 3 18 := ⟨by decide +kernel, rfl⟩
theorem eX2_level_18 : Dc cX2_level 18 (.iload_n 1) 1 19 := ⟨by decide +kernel, rfl⟩
theorem eX2_level_19 : Dc cX2_level 19 (.iadd) 1 20 := ⟨by decide +kernel, rfl⟩
theorem eX2_level_20 : Dc cX2_level 20 (.iaload) 1 21 := ⟨by decide +kernel, rfl⟩
theorem eX2_level_21 : Dc cX2_level 21 (.iconst 1) 1 22 := ⟨by decide +kernel, rfl⟩
theorem eX2_level_22 : Dc cX2_level 22 (.isub) 1 23 := ⟨by decide +kernel, rfl⟩
theorem eX2_level_23 : Dc cX2_level 23 (.invokestatic 58) 3 26 := ⟨by decide +kernel, rfl⟩
theorem eX2_level_26 : Db cX2_level 26 (fun o => .ifCond .eq o) 47 29 := ⟨21, by decide +kernel, by decide, rfl⟩
theorem eX2_level_29 : Dc cX2_level 29 (.aload_n 0) 1 30 := ⟨by decide +kernel, rfl⟩
theorem eX2_level_30 : Dc cX2_level 30 (.getfield 8) 3 33 := ⟨by decide +kernel, rfl⟩
theorem eX2_level_33 : Dc cX2_level 33 (.sipush 7160) 3 36 := ⟨by decide +kernel, rfl⟩
theorem eX2_level_36 : Dc cX2_level 36 (.bipush 41) 2 38 := ⟨by decide +kernel, rfl⟩
theorem eX2_level_38 : Dc cX2_level 38 (.iload_n 1) 1 39 := ⟨by decide +kernel, rfl⟩
theorem eX2_level_39 : Dc cX2_level 39 (.imul) 1 40 := ⟨by decide +kernel, rfl⟩
theorem eX2_level_40 : Dc cX2_level 40 (.iadd) 1 41 := ⟨by decide +kernel, rfl⟩
theorem eX2_level_41 : Dc cX2_level 41 (.iload_n 2) 1 42 := ⟨by decide +kernel, rfl⟩
theorem eX2_level_42 : Dc cX2_level 42 (.iadd) 1 43 := ⟨by decide +kernel, rfl⟩
theorem eX2_level_43 : Dc cX2_level 43 (.iaload) 1 44 := ⟨by decide +kernel, rfl⟩
theorem eX2_level_44 : Db cX2_level 44 (fun o => .goto o) 48 47 := ⟨4, by decide +kernel, by decide, rfl⟩
theorem eX2_level_47 : Dc cX2_level 47 (.iconst (-1)) 1 48 := ⟨by decide +kernel, rfl⟩
theorem eX2_level_48 : Dc cX2_level 48 (.ireturn) 1 49 := ⟨by decide +kernel, rfl⟩
theorem eX2_close_0 : Dc cX2_close 0 (.aload_n 0) 1 1 := ⟨by decide +kernel, rfl⟩
theorem eX2_close_1 : Dc cX2_close 1 (.iload_n 1) 1 2 := ⟨by decide +kernel, rfl⟩
theorem eX2_close_2 : Dc cX2_close 2 (.iconst 2) 1 3 := ⟨by decide +kernel, rfl⟩
theorem eX2_close_3 : Dc cX2_close 3 (.invokevirtual 165) 3 6 := ⟨by decide +kernel, rfl⟩
theorem eX2_close_6 : Db cX2_close 6 (fun o => .ifCond .eq o) 18 9 := ⟨12, by decide +kernel, by decide, rfl⟩
theorem eX2_close_9 : Dc cX2_close 9 (.iload_n 2) 1 10 := ⟨by decide +kernel, rfl⟩
theorem eX2_close_10 : Dc cX2_close 10 (.iconst 0) 1 11 := ⟨by decide +kernel, rfl⟩
theorem eX2_close_11 : Dc cX2_close 11 (.iconst 1) 1 12 := ⟨by decide +kernel, rfl⟩
theorem eX2_close_12 : Dc cX2_close 12 (.invokestatic 58) 3 15 := ⟨by decide +kernel, rfl⟩
theorem eX2_close_15 : Db cX2_close 15 (fun o => .ifCond .ne o) 20 18 := ⟨5, by decide +kernel, by decide, rfl⟩
theorem eX2_close_18 : Dc cX2_close 18 (.iconst (-1)) 1 19 := ⟨by decide +kernel, rfl⟩
theorem eX2_close_19 : Dc cX2_close 19 (.ireturn) 1 20 := ⟨by decide +kernel, rfl⟩
theorem eX2_close_20 : Dc cX2_close 20 (.iload_n 3) 1 21 := ⟨by decide +kernel, rfl⟩
theorem eX2_close_21 : Dc cX2_close 21 (.invokestatic 141) 3 24 := ⟨by decide +kernel, rfl⟩
theorem eX2_close_24 : Db cX2_close 24 (fun o => .ifCond .ne o) 32 27 := ⟨8, by decide +kernel, by decide, rfl⟩
theorem eX2_close_27 : Dc cX2_close 27 (.bipush (-2)) 2 29 := ⟨by decide +kernel, rfl⟩
theorem eX2_close_29 : Db cX2_close 29 (fun o => .goto o) 51 32 := ⟨22, by decide +kernel, by decide, rfl⟩
theorem eX2_close_32 : Dc cX2_close 32 (.iload_n 2) 1 33 := ⟨by decide +kernel, rfl⟩
theorem eX2_close_33 : Db cX2_close 33 (fun o => .ifCond .ne o) 45 36 := ⟨12, by decide +kernel, by decide, rfl⟩
theorem eX2_close_36 : Dc cX2_close 36 (.aload_n 0) 1 37 := ⟨by decide +kernel, rfl⟩
theorem eX2_close_37 : Dc cX2_close 37 (.iload_n 1) 1 38 := ⟨by decide +kernel, rfl⟩
theorem eX2_close_38 : Dc cX2_close 38 (.iload_n 3) 1 39 := ⟨by decide +kernel, rfl⟩
theorem eX2_close_39 : Dc cX2_close 39 (.invokevirtual 193) 3 42 := ⟨by decide +kernel, rfl⟩
theorem eX2_close_42 : Db cX2_close 42 (fun o => .goto o) 51 45 := ⟨9, by decide +kernel, by decide, rfl⟩
theorem eX2_close_45 : Dc cX2_close 45 (.aload_n 0) 1 46 := ⟨by decide +kernel, rfl⟩
theorem eX2_close_46 : Dc cX2_close 46 (.iload_n 1) 1 47 := ⟨by decide +kernel, rfl⟩
theorem eX2_close_47 : Dc cX2_close 47 (.iload_n 3) 1 48 := ⟨by decide +kernel, rfl⟩
theorem eX2_close_48 : Dc cX2_close 48 (.invokevirtual 196) 3 51 := ⟨by decide +kernel, rfl⟩
theorem eX2_close_51 : Dc cX2_close 51 (.ireturn) 1 52 := ⟨by decide +kernel, rfl⟩
theorem eX2_notClose_0 : Dc cX2_notClose 0 (.iconst 0) 1 1 := ⟨by decide +kernel, rfl⟩
theorem eX2_notClose_1 : Dc cX2_notClose 1 (.istore_n 3) 1 2 := ⟨by decide +kernel, rfl⟩
theorem eX2_notClose_2 : Dc cX2_notClose 2 (.iload_n 3) 1 3 := ⟨by decide +kernel, rfl⟩
theorem eX2_notClose_3 : Dc cX2_notClose 3 (.aload_n 0) 1 4 := ⟨by decide +kernel, rfl⟩
theorem eX2_notClose_4 : Dc cX2_notClose 4 (.getfield 8) 3 7 := ⟨by decide +kernel, rfl⟩
theorem eX2_notClose_7 : Dc cX2_notClose 7 (.sipush 850) 3 10 := ⟨by decide +kernel, rfl⟩
theorem eX2_notClose_10 : Dc cX2_notClose 10 (.iload_n 1) 1 11 := ⟨by decide +kernel, rfl⟩
theorem eX2_notClose_11 : Dc cX2_notClose 11 (.iadd) 1 12 := ⟨by decide +kernel, rfl⟩
theorem eX2_notClose_12 : Dc cX2_notClose 12 (.iaload) 1 13 := ⟨by decide +kernel, rfl⟩
theorem eX2_notClose_13 : Db cX2_notClose 13 (fun o => .if_icmp .ge o) 86 16 := ⟨73, by decide +kernel, by decide, rfl⟩
theorem eX2_notClose_16 : Dc cX2_notClose 16 (.aload_n 0) 1 17 := ⟨by decide +kernel, rfl⟩
theorem eX2_notClose_17 : Dc cX2_notClose 17 (.getfield 8) 3 20 := ⟨by decide +kernel, rfl⟩
theorem eX2_notClose_20 : Dc cX2_notClose 20 (.sipush 7160) 3 23 := ⟨by decide +kernel, rfl⟩
theorem eX2_notClose_23 : Dc cX2_notClose 23 (.bipush 41) 2 25 := ⟨by decide +kernel, rfl⟩
theorem eX2_notClose_25 : Dc cX2_notClose 25 (.iload_n 1) 1 26 := ⟨by decide +kernel, rfl⟩
theorem eX2_notClose_26 : Dc cX2_notClose 26 (.imul) 1 27 := ⟨by decide +kernel, rfl⟩
theorem eX2_notClose_27 : Dc cX2_notClose 27 (.iadd) 1 28 := ⟨by decide +kernel, rfl⟩
theorem eX2_notClose_28 : Dc cX2_notClose 28 (.iload_n 3) 1 29 := ⟨by decide +kernel, rfl⟩
theorem eX2_notClose_29 : Dc cX2_notClose 29 (.iadd) 1 30 := ⟨by decide +kernel, rfl⟩
theorem eX2_notClose_30 : Dc cX2_notClose 30 (.iaload) 1 31 := ⟨by decide +kernel, rfl⟩
theorem eX2_notClose_31 : Dc cX2_notClose 31 (.istore 4) 2 33 := ⟨by decide +kernel, rfl⟩
theorem eX2_notClose_33 : Dc cX2_notClose 33 (.iload 4) 2 35 := ⟨by decide +kernel, rfl⟩
theorem eX2_notClose_35 : Dc cX2_notClose 35 (.ldc 181) 2 37 := ⟨by decide +kernel, rfl⟩
theorem eX2_notClose_37 : Db cX2_notClose 37 (fun o => .if_icmp .eq o) 78 40 := ⟨41, by decide +kernel, by decide, rfl⟩
theorem eX2_notClose_40 : Dc cX2_notClose 40 (.iload 4) 2 42 := ⟨by decide +kernel, rfl⟩
theorem eX2_notClose_42 : Dc cX2_notClose 42 (.aload_n 0) 1 43 := ⟨by decide +kernel, rfl⟩
theorem eX2_notClose_43 : Dc cX2_notClose 43 (.getfield 8) 3 46 := ⟨by decide +kernel, rfl⟩
theorem eX2_notClose_46 : Dc cX2_notClose 46 (.bipush 20) 2 48 := ⟨by decide +kernel, rfl⟩
theorem eX2_notClose_48 : Dc cX2_notClose 48 (.aload_n 0) 1 49 := ⟨by decide +kernel, rfl⟩
theorem eX2_notClose_49 : Dc cX2_notClose 49 (.getfield 8) 3 52 := ⟨by decide +kernel, rfl⟩
theorem eX2_notClose_52 : Dc cX2_notClose 52 (.sipush 4700) 3 55 := ⟨by decide +kernel, rfl⟩
theorem eX2_notClose_55 : Dc cX2_notClose 55 (.bipush 41) 2 57 := ⟨by decide +kernel, rfl⟩
theorem eX2_notClose_57 : Dc cX2_notClose 57 (.iload_n 1) 1 58 := ⟨by decide +kernel, rfl⟩
theorem eX2_notClose_58 : Dc cX2_notClose 58 (.imul) 1 59 := ⟨by decide +kernel, rfl⟩
theorem eX2_notClose_59 : Dc cX2_notClose 59 (.iadd) 1 60 := ⟨by decide +kernel, rfl⟩
theorem eX2_notClose_60 : Dc cX2_notClose 60 (.iload_n 3) 1 61 := ⟨by decide +kernel, rfl⟩
theorem eX2_notClose_61 : Dc cX2_notClose 61 (.iadd) 1 62 := ⟨by decide +kernel, rfl⟩
theorem eX2_notClose_62 : Dc cX2_notClose 62 (.iaload) 1 63 := ⟨by decide +kernel, rfl⟩
theorem eX2_notClose_63 : Dc cX2_notClose 63 (.iadd) 1 64 := ⟨by decide +kernel, rfl⟩
theorem eX2_notClose_64 : Dc cX2_notClose 64 (.iaload) 1 65 := ⟨by decide +kernel, rfl⟩
theorem eX2_notClose_65 : Dc cX2_notClose 65 (.isub) 1 66 := ⟨by decide +kernel, rfl⟩
theorem eX2_notClose_66 : Dc cX2_notClose 66 (.invokestatic 183) 3 69 := ⟨by decide +kernel, rfl⟩
theorem eX2_notClose_69 : Dc cX2_notClose 69 (.aload_n 0) 1 70 := ⟨by decide +kernel, rfl⟩
theorem eX2_notClose_70 : Dc cX2_notClose 70 (.iconst 1) 1 71 := ⟨by decide +kernel, rfl⟩
theorem eX2_notClose_71 : Dc cX2_notClose 71 (.iload_n 2) 1 72 := ⟨by decide +kernel, rfl⟩
theorem eX2_notClose_72 : Dc cX2_notClose 72 (.invokevirtual 152) 3 75 := ⟨by decide +kernel, rfl⟩
theorem eX2_notClose_75 : Db cX2_notClose 75 (fun o => .if_icmp .le o) 80 78 := ⟨5, by decide +kernel, by decide, rfl⟩
theorem eX2_notClose_78 : Dc cX2_notClose 78 (.iload_n 3) 1 79 := ⟨by decide +kernel, rfl⟩
theorem eX2_notClose_79 : Dc cX2_notClose 79 (.ireturn) 1 80 := ⟨by decide +kernel, rfl⟩
theorem eX2_notClose_80 : Dc cX2_notClose 80 (.iinc 3 1) 3 83 := ⟨by decide +kernel, rfl⟩
theorem eX2_notClose_83 : Db cX2_notClose 83 (fun o => .goto o) 2 86 := ⟨-81, by decide +kernel, by decide, rfl⟩
theorem eX2_notClose_86 : Dc cX2_notClose 86 (.bipush (-5)) 2 88 := ⟨by decide +kernel, rfl⟩
theorem eX2_notClose_88 : Dc cX2_notClose 88 (.ireturn) 1 89 := ⟨by decide +kernel, rfl⟩
theorem eX2_steep_0 : Dc cX2_steep 0 (.iconst 1) 1 1 := ⟨by decide +kernel, rfl⟩
theorem eX2_steep_1 : Dc cX2_steep 1 (.istore_n 3) 1 2 := ⟨by decide +kernel, rfl⟩
theorem eX2_steep_2 : Dc cX2_steep 2 (.iload_n 3) 1 3 := ⟨by decide +kernel, rfl⟩
theorem eX2_steep_3 : Dc cX2_steep 3 (.aload_n 0) 1 4 := ⟨by decide +kernel, rfl⟩
theorem eX2_steep_4 : Dc cX2_steep 4 (.getfield 8) 3 7 := ⟨by decide +kernel, rfl⟩
theorem eX2_steep_7 : Dc cX2_steep 7 (.sipush 850) 3 10 := ⟨by decide +kernel, rfl⟩
theorem eX2_steep_10 : Dc cX2_steep 10 (.iload_n 1) 1 11 := ⟨by decide +kernel, rfl⟩
theorem eX2_steep_11 : Dc cX2_steep 11 (.iadd) 1 12 := ⟨by decide +kernel, rfl⟩
theorem eX2_steep_12 : Dc cX2_steep 12 (.iaload) 1 13 := ⟨by decide +kernel, rfl⟩
theorem eX2_steep_13 : Db cX2_steep 13 (fun o => .if_icmp .ge o) 85 16 := ⟨72, by decide +kernel, by decide, rfl⟩
theorem eX2_steep_16 : Dc cX2_steep 16 (.aload_n 0) 1 17 := ⟨by decide +kernel, rfl⟩
theorem eX2_steep_17 : Dc cX2_steep 17 (.getfield 8) 3 20 := ⟨by decide +kernel, rfl⟩
theorem eX2_steep_20 : Dc cX2_steep 20 (.bipush 20) 2 22 := ⟨by decide +kernel, rfl⟩
theorem eX2_steep_22 : Dc cX2_steep 22 (.aload_n 0) 1 23 := ⟨by decide +kernel, rfl⟩
theorem eX2_steep_23 : Dc cX2_steep 23 (.getfield 8) 3 26 := ⟨by decide +kernel, rfl⟩
theorem eX2_steep_26 : Dc cX2_steep 26 (.sipush 4700) 3 29 := ⟨by decide +kernel, rfl⟩
theorem eX2_steep_29 : Dc cX2_steep 29 (.bipush 41) 2 31 := ⟨by decide +kernel, rfl⟩
theorem eX2_steep_31 : Dc cX2_steep 31 (.iload_n 1) 1 32 := ⟨by decide +kernel, rfl⟩
theorem eX2_steep_32 : Dc cX2_steep 32 (.imul) 1 33 := ⟨by decide +kernel, rfl⟩
theorem eX2_steep_33 : Dc cX2_steep 33 (.iadd) 1 34 := ⟨by decide +kernel, rfl⟩
theorem eX2_steep_34 : Dc cX2_steep 34 (.iload_n 3) 1 35 := ⟨by decide +kernel, rfl⟩
theorem eX2_steep_35 : Dc cX2_steep 35 (.iadd) 1 36 := ⟨by decide +kernel, rfl⟩
theorem eX2_steep_36 : Dc cX2_steep 36 (.iaload) 1 37 := ⟨by decide +kernel, rfl⟩
theorem eX2_steep_37 : Dc cX2_steep 37 (.iadd) 1 38 := ⟨by decide +kernel, rfl⟩
theorem eX2_steep_38 : Dc cX2_steep 38 (.iaload) 1 39 := ⟨by decide +kernel, rfl⟩
theorem eX2_steep_39 : Dc cX2_steep 39 (.aload_n 0) 1 40 := ⟨by decide +kernel, rfl⟩
theorem eX2_steep_40 : Dc cX2_steep 40 (.getfield 8) 3 43 := ⟨by decide +kernel, rfl⟩
theorem eX2_steep_43 : Dc cX2_steep 43 (.bipush 20) 2 45 := ⟨by decide +kernel, rfl⟩
theorem eX2_steep_45 : Dc cX2_steep 45 (.aload_n 0) 1 46 := ⟨by decide +kernel, rfl⟩
theorem eX2_steep_46 : Dc cX2_steep 46 (.getfield 8) 3 49 := ⟨by decide +kernel, rfl⟩
theorem eX2_steep_49 : Dc cX2_steep 49 (.sipush 4700) 3 52 := ⟨by decide +kernel, rfl⟩
theorem eX2_steep_52 : Dc cX2_steep 52 (.bipush 41) 2 54 := ⟨by decide +kernel, rfl⟩
theorem eX2_steep_54 : Dc cX2_steep 54 (.iload_n 1) 1 55 := ⟨by decide +kernel, rfl⟩
theorem eX2_steep_55 : Dc cX2_steep 55 (.imul) 1 56 := ⟨by decide +kernel, rfl⟩
theorem eX2_steep_56 : Dc cX2_steep 56 (.iadd) 1 57 := ⟨by decide +kernel, rfl⟩
theorem eX2_steep_57 : Dc cX2_steep 57 (.iload_n 3) 1 58 := ⟨by decide +kernel, rfl⟩
theorem eX2_steep_58 : Dc cX2_steep 58 (.iadd) 1 59 := ⟨by decide +kernel, rfl⟩
theorem eX2_steep_59 : Dc cX2_steep 59 (.iconst 1) 1 60 := ⟨by decide +kernel, rfl⟩
theorem eX2_steep_60 : Dc cX2_steep 60 (.isub) 1 61 := ⟨by decide +kernel, rfl⟩
theorem eX2_steep_61 : Dc cX2_steep 61 (.iaload) 1 62 := ⟨by decide +kernel, rfl⟩
theorem eX2_steep_62 : Dc cX2_steep 62 (.iadd) 1 63 := ⟨by decide +kernel, rfl⟩
theorem eX2_steep_63 : Dc cX2_steep 63 (.iaload) 1 64 := ⟨by decide +kernel, rfl⟩
theorem eX2_steep_64 : Dc cX2_steep 64 (.isub) 1 65 := ⟨by decide +kernel, rfl⟩
theorem eX2_steep_65 : Dc cX2_steep 65 (.invokestatic 183) 3 68 := ⟨by decide +kernel, rfl⟩
theorem eX2_steep_68 : Dc cX2_steep 68 (.aload_n 0) 1 69 := ⟨by decide +kernel, rfl⟩
theorem eX2_steep_69 : Dc cX2_steep 69 (.iconst 0) 1 70 := ⟨by decide +kernel, rfl⟩
theorem eX2_steep_70 : Dc cX2_steep 70 (.iload_n 2) 1 71 := ⟨by decide +kernel, rfl⟩
theorem eX2_steep_71 : Dc cX2_steep 71 (.invokevirtual 152) 3 74 := ⟨by decide +kernel, rfl⟩
theorem eX2_steep_74 : Db cX2_steep 74 (fun o => .if_icmp .le o) 79 77 := ⟨5, by decide +kernel, by decide, rfl⟩
theorem eX2_steep_77 : Dc cX2_steep 77 (.iload_n 3) 1 78 := ⟨by decide +kernel, rfl⟩
theorem eX2_steep_78 : Dc cX2_steep 78 (.ireturn) 1 79 := ⟨by decide +kernel, rfl⟩
theorem eX2_steep_79 : Dc cX2_steep 79 (.iinc 3 1) 3 82 := ⟨by decide +kernel, rfl⟩
theorem eX2_steep_82 : Db cX2_steep 82 (fun o => .goto o) 2 85 := ⟨-80, by decide +kernel, by decide, rfl⟩
theorem eX2_steep_85 : Dc cX2_steep 85 (.bipush (-5)) 2 87 := ⟨by decide +kernel, rfl⟩
theorem eX2_steep_87 : Dc cX2_steep 87 (.ireturn) 1 88 := ⟨by decide +kernel, rfl⟩
theorem eX2_quarrel_0 : Dc cX2_quarrel 0 (.aload_n 0) 1 1 := ⟨by decide +kernel, rfl⟩
theorem eX2_quarrel_1 : Dc cX2_quarrel 1 (.iload_n 1) 1 2 := ⟨by decide +kernel, rfl⟩
theorem eX2_quarrel_2 : Dc cX2_quarrel 2 (.iconst 2) 1 3 := ⟨by decide +kernel, rfl⟩
theorem eX2_quarrel_3 : Dc cX2_quarrel 3 (.invokevirtual 165) 3 6 := ⟨by decide +kernel, rfl⟩
theorem eX2_quarrel_6 : Db cX2_quarrel 6 (fun o => .ifCond .eq o) 18 9 := ⟨12, by decide +kernel, by decide, rfl⟩
theorem eX2_quarrel_9 : Dc cX2_quarrel 9 (.aload_n 0) 1 10 := ⟨by decide +kernel, rfl⟩
theorem eX2_quarrel_10 : Dc cX2_quarrel 10 (.iload_n 2) 1 11 := ⟨by decide +kernel, rfl⟩
theorem eX2_quarrel_11 : Dc cX2_quarrel 11 (.iconst 2) 1 12 := ⟨by decide +kernel, rfl⟩
theorem eX2_quarrel_12 : Dc cX2_quarrel 12 (.invokevirtual 165) 3 15 := ⟨by decide +kernel, rfl⟩
theorem eX2_quarrel_15 : Db cX2_quarrel 15 (fun o => .ifCond .ne o) 20 18 := ⟨5, by decide +kernel, by decide, rfl⟩
theorem eX2_quarrel_18 : Dc cX2_quarrel 18 (.iconst (-1)) 1 19 := ⟨by decide +kernel, rfl⟩
theorem eX2_quarrel_19 : Dc cX2_quarrel 19 (.ireturn) 1 20 := ⟨by decide +kernel, rfl⟩
theorem eX2_quarrel_20 : Dc cX2_quarrel 20 (.iload_n 1) 1 21 := ⟨by decide +kernel, rfl⟩
theorem eX2_quarrel_21 : Dc cX2_quarrel 21 (.iload_n 2) 1 22 := ⟨by decide +kernel, rfl⟩
theorem eX2_quarrel_22 : Db cX2_quarrel 22 (fun o => .if_icmp .ne o) 28 25 := ⟨6, by decide +kernel, by decide, rfl⟩
theorem eX2_quarrel_25 : Dc cX2_quarrel 25 (.bipush (-2)) 2 27 := ⟨by decide +kernel, rfl⟩
theorem eX2_quarrel_27 : Dc cX2_quarrel 27 (.ireturn) 1 28 := ⟨by decide +kernel, rfl⟩
theorem eX2_quarrel_28 : Dc cX2_quarrel 28 (.iconst 0) 1 29 := ⟨by decide +kernel, rfl⟩
theorem eX2_quarrel_29 : Dc cX2_quarrel 29 (.istore_n 3) 1 30 := ⟨by decide +kernel, rfl⟩
theorem eX2_quarrel_30 : Dc cX2_quarrel 30 (.iload_n 3) 1 31 := ⟨by decide +kernel, rfl⟩
theorem eX2_quarrel_31 : Dc cX2_quarrel 31 (.aload_n 0) 1 32 := ⟨by decide +kernel, rfl⟩
theorem eX2_quarrel_32 : Dc cX2_quarrel 32 (.getfield 8) 3 35 := ⟨by decide +kernel, rfl⟩
theorem eX2_quarrel_35 : Dc cX2_quarrel 35 (.sipush 850) 3 38 := ⟨by decide +kernel, rfl⟩
theorem eX2_quarrel_38 : Dc cX2_quarrel 38 (.iload_n 1) 1 39 := ⟨by decide +kernel, rfl⟩
theorem eX2_quarrel_39 : Dc cX2_quarrel 39 (.iadd) 1 40 := ⟨by decide +kernel, rfl⟩
theorem eX2_quarrel_40 : Dc cX2_quarrel 40 (.iaload) 1 41 := ⟨by decide +kernel, rfl⟩
theorem eX2_quarrel_41 : Db cX2_quarrel 41 (fun o => .if_icmp .ge o) 146 44 := ⟨105, by decide +kernel, by decide, rfl⟩
theorem eX2_quarrel_44 : Dc cX2_quarrel 44 (.aload_n 0) 1 45 := ⟨by decide +kernel, rfl⟩
theorem eX2_quarrel_45 : Dc cX2_quarrel 45 (.getfield 8) 3 48 := ⟨by decide +kernel, rfl⟩
theorem eX2_quarrel_48 : Dc cX2_quarrel 48 (.sipush 4700) 3 51 := ⟨by decide +kernel, rfl⟩
theorem eX2_quarrel_51 : Dc cX2_quarrel 51 (.bipush 41) 2 53 := ⟨by decide +kernel, rfl⟩
theorem eX2_quarrel_53 : Dc cX2_quarrel 53 (.iload_n 1) 1 54 := ⟨by decide +kernel, rfl⟩
theorem eX2_quarrel_54 : Dc cX2_quarrel 54 (.imul) 1 55 := ⟨by decide +kernel, rfl⟩
theorem eX2_quarrel_55 : Dc cX2_quarrel 55 (.iadd) 1 56 := ⟨by decide +kernel, rfl⟩
theorem eX2_quarrel_56 : Dc cX2_quarrel 56 (.iload_n 3) 1 57 := ⟨by decide +kernel, rfl⟩
theorem eX2_quarrel_57 : Dc cX2_quarrel 57 (.iadd) 1 58 := ⟨by decide +kernel, rfl⟩
theorem eX2_quarrel_58 : Dc cX2_quarrel 58 (.iaload) 1 59 := ⟨by decide +kernel, rfl⟩
theorem eX2_quarrel_59 : Dc cX2_quarrel 59 (.istore 4) 2 61 := ⟨by decide +kernel, rfl⟩
theorem eX2_quarrel_61 : Dc cX2_quarrel 61 (.aload_n 0) 1 62 := ⟨by decide +kernel, rfl⟩
theorem eX2_quarrel_62 : Dc cX2_quarrel 62 (.iload_n 2) 1 63 := ⟨by decide +kernel, rfl⟩
theorem eX2_quarrel_63 : Dc cX2_quarrel 63 (.iload 4) 2 65 := ⟨by decide +kernel, rfl⟩
theorem eX2_quarrel_65 : Dc cX2_quarrel 65 (.invokevirtual 162) 3 68 := ⟨by decide +kernel, rfl⟩
theorem eX2_quarrel_68 : Dc cX2_quarrel 68 (.istore 5) 2 70 := ⟨by decide +kernel, rfl⟩
theorem eX2_quarrel_70 : Dc cX2_quarrel 70 (.aload_n 0) 1 71 := ⟨by decide +kernel, rfl⟩
theorem eX2_quarrel_71 : Dc cX2_quarrel 71 (.getfield 8) 3 74 := ⟨by decide +kernel, rfl⟩
theorem eX2_quarrel_74 : Dc cX2_quarrel 74 (.sipush 7160) 3 77 := ⟨by decide +kernel, rfl⟩
theorem eX2_quarrel_77 : Dc cX2_quarrel 77 (.bipush 41) 2 79 := ⟨by decide +kernel, rfl⟩
theorem eX2_quarrel_79 : Dc cX2_quarrel 79 (.iload_n 1) 1 80 := ⟨by decide +kernel, rfl⟩
theorem eX2_quarrel_80 : Dc cX2_quarrel 80 (.imul) 1 81 := ⟨by decide +kernel, rfl⟩
theorem eX2_quarrel_81 : Dc cX2_quarrel 81 (.iadd) 1 82 := ⟨by decide +kernel, rfl⟩
theorem eX2_quarrel_82 : Dc cX2_quarrel 82 (.iload_n 3) 1 83 := ⟨by decide +kernel, rfl⟩
theorem eX2_quarrel_83 : Dc cX2_quarrel 83 (.iadd) 1 84 := ⟨by decide +kernel, rfl⟩
theorem eX2_quarrel_84 : Dc cX2_quarrel 84 (.iaload) 1 85 := ⟨by decide +kernel, rfl⟩
theorem eX2_quarrel_85 : Dc cX2_quarrel 85 (.istore 6) 2 87 := ⟨by decide +kernel, rfl⟩
theorem eX2_quarrel_87 : Dc cX2_quarrel 87 (.iload 5) 2 89 := ⟨by decide +kernel, rfl⟩
theorem eX2_quarrel_89 : Dc cX2_quarrel 89 (.iconst (-1)) 1 90 := ⟨by decide +kernel, rfl⟩
theorem eX2_quarrel_90 : Db cX2_quarrel 90 (fun o => .if_icmp .ne o) 98 93 := ⟨8, by decide +kernel, by decide, rfl⟩
theorem eX2_quarrel_93 : Dc cX2_quarrel 93 (.ldc 181) 2 95 := ⟨by decide +kernel, rfl⟩
theorem eX2_quarrel_95 : Db cX2_quarrel 95 (fun o => .goto o) 114 98 := ⟨19, by decide +kernel, by decide, rfl⟩
theorem eX2_quarrel_98 : Dc cX2_quarrel 98 (.aload_n 0) 1 99 := ⟨by decide +kernel, rfl⟩
theorem eX2_quarrel_99 : Dc cX2_quarrel 99 (.getfield 8) 3 102 := ⟨by decide +kernel, rfl⟩
theorem eX2_quarrel_102 : Dc cX2_quarrel 102 (.sipush 7160) 3 105 := ⟨by decide +kernel, rfl⟩
theorem eX2_quarrel_105 : Dc cX2_quarrel 105 (.bipush 41) 2 107 := ⟨by decide +kernel, rfl⟩
theorem eX2_quarrel_107 : Dc cX2_quarrel 107 (.iload_n 2) 1 108 := ⟨by decide +kernel, rfl⟩
theorem eX2_quarrel_108 : Dc cX2_quarrel 108 (.imul) 1 109 := ⟨by decide +kernel, rfl⟩
theorem eX2_quarrel_109 : Dc cX2_quarrel 109 (.iadd) 1 110 := ⟨by decide +kernel, rfl⟩
theorem eX2_quarrel_110 : Dc cX2_quarrel 110 (.iload 5) 2 112 := ⟨by decide +kernel, rfl⟩
theorem eX2_quarrel_112 : Dc cX2_quarrel 112 (.iadd) 1 113 := ⟨by decide +kernel, rfl⟩
theorem eX2_quarrel_113 : Dc cX2_quarrel 113 (.iaload) 1 114 := ⟨by decide +kernel, rfl⟩
theorem eX2_quarrel_114 : Dc cX2_quarrel 114 (.istore 7) 2 116 := ⟨by decide +kernel, rfl⟩
theorem eX2_quarrel_116 : Dc cX2_quarrel 116 (.iload 6) 2 118 := ⟨by decide +kernel, rfl⟩
theorem eX2_quarrel_118 : Dc cX2_quarrel 118 (.ldc 181) 2 120 := ⟨by decide +kernel, rfl⟩
theorem eX2_quarrel_120 : Db cX2_quarrel 120 (fun o => .if_icmp .eq o) 140 123 := ⟨20, by decide +kernel, by decide, rfl⟩
theorem eX2_quarrel_123 : Dc cX2_quarrel 123 (.iload 7) 2 125 := ⟨by decide +kernel, rfl⟩
theorem eX2_quarrel_125 : Dc cX2_quarrel 125 (.ldc 181) 2 127 := ⟨by decide +kernel, rfl⟩
theorem eX2_quarrel_127 : Db cX2_quarrel 127 (fun o => .if_icmp .eq o) 140 130 := ⟨13, by decide +kernel, by decide, rfl⟩
theorem eX2_quarrel_130 : Dc cX2_quarrel 130 (.iload 6) 2 132 := ⟨by decide +kernel, rfl⟩
theorem eX2_quarrel_132 : Dc cX2_quarrel 132 (.iload 7) 2 134 := ⟨by decide +kernel, rfl⟩
theorem eX2_quarrel_134 : Db cX2_quarrel 134 (fun o => .if_icmp .eq o) 140 137 := ⟨6, by decide +kernel, by decide, rfl⟩
theorem eX2_quarrel_137 : Dc cX2_quarrel 137 (.iload 4) 2 139 := ⟨by decide +kernel, rfl⟩
theorem eX2_quarrel_139 : Dc cX2_quarrel 139 (.ireturn) 1 140 := ⟨by decide +kernel, rfl⟩
theorem eX2_quarrel_140 : Dc cX2_quarrel 140 (.iinc 3 1) 3 143 := ⟨by decide +kernel, rfl⟩
theorem eX2_quarrel_143 : Db cX2_quarrel 143 (fun o => .goto o) 30 146 := ⟨-113, by decide +kernel, by decide, rfl⟩
theorem eX2_quarrel_146 : Dc cX2_quarrel 146 (.bipush (-5)) 2 148 := ⟨by decide +kernel, rfl⟩
theorem eX2_quarrel_148 : Dc cX2_quarrel 148 (.ireturn) 1 149 := ⟨by decide +kernel, rfl⟩
theorem eX2_slope_0 : Dc cX2_slope 0 (.aload_n 0) 1 1 := ⟨by decide +kernel, rfl⟩
theorem eX2_slope_1 : Dc cX2_slope 1 (.iload_n 1) 1 2 := ⟨by decide +kernel, rfl⟩
theorem eX2_slope_2 : Dc cX2_slope 2 (.invokevirtual 155) 3 5 := ⟨by decide +kernel, rfl⟩
theorem eX2_slope_5 : Db cX2_slope 5 (fun o => .ifCond .eq o) 32 8 := ⟨27, by decide +kernel, by decide, rfl⟩
theorem eX2_slope_8 : Dc cX2_slope 8 (.aload_n 0) 1 9 := ⟨by decide +kernel, rfl⟩
theorem eX2_slope_9 : Dc cX2_slope 9 (.iload_n 2) 1 10 := ⟨by decide +kernel, rfl⟩
theorem eX2_slope_10 : Dc cX2_slope 10 (.invokevirtual 155) 3 13 := ⟨by decide +kernel, rfl⟩
theorem eX2_slope_13 : Db cX2_slope 13 (fun o => .ifCond .eq o) 32 16 := ⟨19, by decide +kernel, by decide, rfl⟩
theorem eX2_slope_16 : Dc cX2_slope 16 (.iload 4) 2 18 := ⟨by decide +kernel, rfl⟩
theorem eX2_slope_18 : Db cX2_slope 18 (fun o => .ifCond .lt o) 32 21 := ⟨14, by decide +kernel, by decide, rfl⟩
theorem eX2_slope_21 : Dc cX2_slope 21 (.iload 4) 2 23 := ⟨by decide +kernel, rfl⟩
theorem eX2_slope_23 : Dc cX2_slope 23 (.iconst 2) 1 24 := ⟨by decide +kernel, rfl⟩
theorem eX2_slope_24 : Dc cX2_slope 24 (.bipush 9) 2 26 := ⟨by decide +kernel, rfl⟩
theorem eX2_slope_26 : Dc cX2_slope 26 (.invokestatic 58) 3 29 := ⟨by decide +kernel, rfl⟩
theorem eX2_slope_29 : Db cX2_slope 29 (fun o => .ifCond .eq o) 34 32 := ⟨5, by decide +kernel, by decide, rfl⟩
theorem eX2_slope_32 : Dc cX2_slope 32 (.iconst (-1)) 1 33 := ⟨by decide +kernel, rfl⟩
theorem eX2_slope_33 : Dc cX2_slope 33 (.ireturn) 1 34 := ⟨by decide +kernel, rfl⟩
theorem eX2_slope_34 : Dc cX2_slope 34 (.iload_n 1) 1 35 := ⟨by decide +kernel, rfl⟩
theorem eX2_slope_35 : Dc cX2_slope 35 (.iload_n 2) 1 36 := ⟨by decide +kernel, rfl⟩
theorem eX2_slope_36 : Db cX2_slope 36 (fun o => .if_icmp .eq o) 46 39 := ⟨10, by decide +kernel, by decide, rfl⟩
theorem eX2_slope_39 : Dc cX2_slope 39 (.iload_n 3) 1 40 := ⟨by decide +kernel, rfl⟩
theorem eX2_slope_40 : Dc cX2_slope 40 (.invokestatic 141) 3 43 := ⟨by decide +kernel, rfl⟩
theorem eX2_slope_43 : Db cX2_slope 43 (fun o => .ifCond .ne o) 49 46 := ⟨6, by decide +kernel, by decide, rfl⟩
theorem eX2_slope_46 : Dc cX2_slope 46 (.bipush (-2)) 2 48 := ⟨by decide +kernel, rfl⟩
theorem eX2_slope_48 : Dc cX2_slope 48 (.ireturn) 1 49 := ⟨by decide +kernel, rfl⟩
theorem eX2_slope_49 : Dc cX2_slope 49 (.aload_n 0) 1 50 := ⟨by decide +kernel, rfl⟩
theorem eX2_slope_50 : Dc cX2_slope 50 (.getfield 8) 3 53 := ⟨by decide +kernel, rfl⟩
theorem eX2_slope_53 : Dc cX2_slope 53 (.sipush 180) 3 56 := ⟨by decide +kernel, rfl⟩
theorem eX2_slope_56 : Dc cX2_slope 56 (.iload_n 1) 1 57 := ⟨by decide +kernel, rfl⟩
theorem eX2_slope_57 : Dc cX2_slope 57 (.iadd) 1 58 := ⟨by decide +kernel, rfl⟩
theorem eX2_slope_58 : Dc cX2_slope 58 (.iaload) 1 59 := ⟨by decide +kernel, rfl⟩
theorem eX2_slope_59 : Dc cX2_slope 59 (.istore 5) 2 61 := ⟨by decide +kernel, rfl⟩
theorem eX2_slope_61 : Dc cX2_slope 61 (.aload_n 0) 1 62 := ⟨by decide +kernel, rfl⟩
theorem eX2_slope_62 : Dc cX2_slope 62 (.getfield 8) 3 65 := ⟨by decide +kernel, rfl⟩
theorem eX2_slope_65 : Dc cX2_slope 65 (.sipush 180) 3 68 := ⟨by decide +kernel, rfl⟩
theorem eX2_slope_68 : Dc cX2_slope 68 (.iload_n 2) 1 69 := ⟨by decide +kernel, rfl⟩
theorem eX2_slope_69 : Dc cX2_slope 69 (.iadd) 1 70 := ⟨by decide +kernel, rfl⟩
theorem eX2_slope_70 : Dc cX2_slope 70 (.iaload) 1 71 := ⟨by decide +kernel, rfl⟩
theorem eX2_slope_71 : Dc cX2_slope 71 (.istore 6) 2 73 := ⟨by decide +kernel, rfl⟩
theorem eX2_slope_73 : Dc cX2_slope 73 (.aload_n 0) 1 74 := ⟨by decide +kernel, rfl⟩
theorem eX2_slope_74 : Dc cX2_slope 74 (.iload 5) 2 76 := ⟨by decide +kernel, rfl⟩
theorem eX2_slope_76 : Dc cX2_slope 76 (.iload 6) 2 78 := ⟨by decide +kernel, rfl⟩
theorem eX2_slope_78 : Dc cX2_slope 78 (.iload_n 3) 1 79 := ⟨by decide +kernel, rfl⟩
theorem eX2_slope_79 : Dc cX2_slope 79 (.invokevirtual 203) 3 82 := ⟨by decide +kernel, rfl⟩
theorem eX2_slope_82 : Dc cX2_slope 82 (.aload_n 0) 1 83 := ⟨by decide +kernel, rfl⟩
theorem eX2_slope_83 : Dc cX2_slope 83 (.getfield 20) 3 86 := ⟨by decide +kernel, rfl⟩
theorem eX2_slope_86 : Dc cX2_slope 86 (.iload 5) 2 88 := ⟨by decide +kernel, rfl⟩
theorem eX2_slope_88 : Dc cX2_slope 88 (.iaload) 1 89 := ⟨by decide +kernel, rfl⟩
theorem eX2_slope_89 : Dc cX2_slope 89 (.iconst (-1)) 1 90 := ⟨by decide +kernel, rfl⟩
theorem eX2_slope_90 : Db cX2_slope 90 (fun o => .if_icmp .ne o) 96 93 := ⟨6, by decide +kernel, by decide, rfl⟩
theorem eX2_slope_93 : Dc cX2_slope 93 (.bipush (-5)) 2 95 := ⟨by decide +kernel, rfl⟩
theorem eX2_slope_95 : Dc cX2_slope 95 (.ireturn) 1 96 := ⟨by decide +kernel, rfl⟩
theorem eX2_slope_96 : Dc cX2_slope 96 (.iload 4) 2 98 := ⟨by decide +kernel, rfl⟩
theorem eX2_slope_98 : Db cX2_slope 98 (fun o => .ifCond .ne o) 109 101 := ⟨11, by decide +kernel, by decide, rfl⟩
theorem eX2_slope_101 : Dc cX2_slope 101 (.aload_n 0) 1 102 := ⟨by decide +kernel, rfl⟩
theorem eX2_slope_102 : Dc cX2_slope 102 (.getfield 20) 3 105 := ⟨by decide +kernel, rfl⟩
theorem eX2_slope_105 : Dc cX2_slope 105 (.iload 5) 2 107 := ⟨by decide +kernel, rfl⟩
theorem eX2_slope_107 : Dc cX2_slope 107 (.iaload) 1 108 := ⟨by decide +kernel, rfl⟩
theorem eX2_slope_108 : Dc cX2_slope 108 (.ireturn) 1 109 := ⟨by decide +kernel, rfl⟩
theorem eX2_slope_109 : Dc cX2_slope 109 (.iconst 1) 1 110 := ⟨by decide +kernel, rfl⟩
theorem eX2_slope_110 : Dc cX2_slope 110 (.istore 7) 2 112 := ⟨by decide +kernel, rfl⟩
theorem eX2_slope_112 : Dc cX2_slope 112 (.aload_n 0) 1 113 := ⟨by decide +kernel, rfl⟩
theorem eX2_slope_113 : Dc cX2_slope 113 (.getfield 23) 3 116 := ⟨by decide +kernel, rfl⟩
theorem eX2_slope_116 : Dc cX2_slope 116 (.iconst 0) 1 117 := ⟨by decide +kernel, rfl⟩
theorem eX2_slope_117 : Dc cX2_slope 117 (.iload 5) 2 119 := ⟨by decide +kernel, rfl⟩
theorem eX2_slope_119 : Dc cX2_slope 119 (.iastore) 1 120 := ⟨by decide +kernel, rfl⟩
theorem eX2_slope_120 : Dc cX2_slope 120 (.aload_n 0) 1 121 := ⟨by decide +kernel, rfl⟩
theorem eX2_slope_121 : Dc cX2_slope 121 (.getfield 23) 3 124 := ⟨by decide +kernel, rfl⟩
theorem eX2_slope_124 : Dc cX2_slope 124 (.iload 7) 2 126 := ⟨by decide +kernel, rfl⟩
theorem eX2_slope_126 : Dc cX2_slope 126 (.iconst 1) 1 127 := ⟨by decide +kernel, rfl⟩
theorem eX2_slope_127 : Dc cX2_slope 127 (.isub) 1 128 := ⟨by decide +kernel, rfl⟩
theorem eX2_slope_128 : Dc cX2_slope 128 (.iaload) 1 129 := ⟨by decide +kernel, rfl⟩
theorem eX2_slope_129 : Dc cX2_slope 129 (.iload 6) 2 131 := ⟨by decide +kernel, rfl⟩
theorem eX2_slope_131 : Db cX2_slope 131 (fun o => .if_icmp .eq o) 232 134 := ⟨101, by decide +kernel, by decide, rfl⟩
theorem eX2_slope_134 : Dc cX2_slope 134 (.aload_n 0) 1 135 := ⟨by decide +kernel, rfl⟩
theorem eX2_slope_135 : Dc cX2_slope 135 (.getfield 23) 3 138 := ⟨by decide +kernel, rfl⟩
theorem eX2_slope_138 : Dc cX2_slope 138 (.iload 7) 2 140 := ⟨by decide +kernel, rfl⟩
theorem eX2_slope_140 : Dc cX2_slope 140 (.iconst 1) 1 141 := ⟨by decide +kernel, rfl⟩
theorem eX2_slope_141 : Dc cX2_slope 141 (.isub) 1 142 := ⟨by decide +kernel, rfl⟩
theorem eX2_slope_142 : Dc cX2_slope 142 (.iaload) 1 143 := ⟨by decide +kernel, rfl⟩
theorem eX2_slope_143 : Dc cX2_slope 143 (.istore 8) 2 145 := ⟨by decide +kernel, rfl⟩
theorem eX2_slope_145 : Dc cX2_slope 145 (.iconst 0) 1 146 := ⟨by decide +kernel, rfl⟩
theorem eX2_slope_146 : Dc cX2_slope 146 (.istore 9) 2 148 := ⟨by decide +kernel, rfl⟩
theorem eX2_slope_148 : Dc cX2_slope 148 (.iload 8) 2 150 := ⟨by decide +kernel, rfl⟩
theorem eX2_slope_150 : Dc cX2_slope 150 (.iload 9) 2 152 := ⟨by decide +kernel, rfl⟩
theorem eX2_slope_152 : Dc cX2_slope 152 (.invokestatic 171) 3 155 := ⟨by decide +kernel, rfl⟩
theorem eX2_slope_155 : Db cX2_slope 155 (fun o => .ifCond .eq o) 211 158 := ⟨56, by decide +kernel, by decide, rfl⟩
theorem eX2_slope_158 : Dc cX2_slope 158 (.aload_n 0) 1 159 := ⟨by decide +kernel, rfl⟩
theorem eX2_slope_159 : Dc cX2_slope 159 (.getfield 20) 3 162 := ⟨by decide +kernel, rfl⟩
theorem eX2_slope_162 : Dc cX2_slope 162 (.iload 9) 2 164 := ⟨by decide +kernel, rfl⟩
theorem eX2_slope_164 : Dc cX2_slope 164 (.iaload) 1 165 := ⟨by decide +kernel, rfl⟩
theorem eX2_slope_165 : Dc cX2_slope 165 (.iconst (-1)) 1 166 := ⟨by decide +kernel, rfl⟩
theorem eX2_slope_166 : Db cX2_slope 166 (fun o => .if_icmp .eq o) 211 169 := ⟨45, by decide +kernel, by decide, rfl⟩
theorem eX2_slope_169 : Dc cX2_slope 169 (.aload_n 0) 1 170 := ⟨by decide +kernel, rfl⟩
theorem eX2_slope_170 : Dc cX2_slope 170 (.iload 8) 2 172 := ⟨by decide +kernel, rfl⟩
theorem eX2_slope_172 : Dc cX2_slope 172 (.iload 9) 2 174 := ⟨by decide +kernel, rfl⟩
theorem eX2_slope_174 : Dc cX2_slope 174 (.iload 5) 2 176 := ⟨by decide +kernel, rfl⟩
theorem eX2_slope_176 : Dc cX2_slope 176 (.iload 6) 2 178 := ⟨by decide +kernel, rfl⟩
theorem eX2_slope_178 : Dc cX2_slope 178 (.iload_n 3) 1 179 := ⟨by decide +kernel, rfl⟩
theorem eX2_slope_179 : Dc cX2_slope 179 (.invokevirtual 199) 3 182 := ⟨by decide +kernel, rfl⟩
theorem eX2_slope_182 : Db cX2_slope 182 (fun o => .ifCond .eq o) 211 185 := ⟨29, by decide +kernel, by decide, rfl⟩
theorem eX2_slope_185 : Dc cX2_slope 185 (.aload_n 0) 1 186 := ⟨by decide +kernel, rfl⟩
theorem eX2_slope_186 : Dc cX2_slope 186 (.iload 8) 2 188 := ⟨by decide +kernel, rfl⟩
theorem eX2_slope_188 : Dc cX2_slope 188 (.iload 9) 2 190 := ⟨by decide +kernel, rfl⟩
theorem eX2_slope_190 : Dc cX2_slope 190 (.invokevirtual 187) 3 193 := ⟨by decide +kernel, rfl⟩
theorem eX2_slope_193 : Dc cX2_slope 193 (.aload_n 0) 1 194 := ⟨by decide +kernel, rfl⟩
theorem eX2_slope_194 : Dc cX2_slope 194 (.getfield 20) 3 197 := ⟨by decide +kernel, rfl⟩
theorem eX2_slope_197 : Dc cX2_slope 197 (.iload 9) 2 199 := ⟨by decide +kernel, rfl⟩
theorem eX2_slope_199 : Dc cX2_slope 199 (.iaload) 1 200 := ⟨by decide +kernel, rfl⟩
theorem eX2_slope_200 : Dc cX2_slope 200 (.iadd) 1 201 := ⟨by decide +kernel, rfl⟩
theorem eX2_slope_201 : Dc cX2_slope 201 (.aload_n 0) 1 202 := ⟨by decide +kernel, rfl⟩
theorem eX2_slope_202 : Dc cX2_slope 202 (.getfield 20) 3 205 := ⟨by decide +kernel, rfl⟩
theorem eX2_slope_205 : Dc cX2_slope 205 (.iload 8) 2 207 := ⟨by decide +kernel, rfl⟩
theorem eX2_slope_207 : Dc cX2_slope 207 (.iaload) 1 208 := ⟨by decide +kernel, rfl⟩
theorem eX2_slope_208 : Db cX2_slope 208 (fun o => .if_icmp .eq o) 217 211 := ⟨9, by decide +kernel, by decide, rfl⟩
theorem eX2_slope_211 : Dc cX2_slope 211 (.iinc 9 1) 3 214 := ⟨by decide +kernel, rfl⟩
theorem eX2_slope_214 : Db cX2_slope 214 (fun o => .goto o) 148 217 := ⟨-66, by decide +kernel, by decide, rfl⟩
theorem eX2_slope_217 : Dc cX2_slope 217 (.aload_n 0) 1 218 := ⟨by decide +kernel, rfl⟩
theorem eX2_slope_218 : Dc cX2_slope 218 (.getfield 23) 3 221 := ⟨by decide +kernel, rfl⟩
theorem eX2_slope_221 : Dc cX2_slope 221 (.iload 7) 2 223 := ⟨by decide +kernel, rfl⟩
theorem eX2_slope_223 : Dc cX2_slope 223 (.iload 9) 2 225 := ⟨by decide +kernel, rfl⟩
theorem eX2_slope_225 : Dc cX2_slope 225 (.iastore) 1 226 := ⟨by decide +kernel, rfl⟩
theorem eX2_slope_226 : Dc cX2_slope 226 (.iinc 7 1) 3 229 := ⟨by decide +kernel, rfl⟩
theorem eX2_slope_229 : Db cX2_slope 229 (fun o => .goto o) 120 232 := ⟨-109, by decide +kernel, by decide, rfl⟩
theorem eX2_slope_232 : Dc cX2_slope 232 (.iload 4) 2 234 := ⟨by decide +kernel, rfl⟩
theorem eX2_slope_234 : Dc cX2_slope 234 (.iconst 1) 1 235 := ⟨by decide +kernel, rfl⟩
theorem eX2_slope_235 : Db cX2_slope 235 (fun o => .if_icmp .ne o) 243 238 := ⟨8, by decide +kernel, by decide, rfl⟩
theorem eX2_slope_238 : Dc cX2_slope 238 (.iload 7) 2 240 := ⟨by decide +kernel, rfl⟩
theorem eX2_slope_240 : Db cX2_slope 240 (fun o => .goto o) 267 243 := ⟨27, by decide +kernel, by decide, rfl⟩
theorem eX2_slope_243 : Dc cX2_slope 243 (.iload 4) 2 245 := ⟨by decide +kernel, rfl⟩
theorem eX2_slope_245 : Dc cX2_slope 245 (.bipush 10) 2 247 := ⟨by decide +kernel, rfl⟩
theorem eX2_slope_247 : Dc cX2_slope 247 (.isub) 1 248 := ⟨by decide +kernel, rfl⟩
theorem eX2_slope_248 : Dc cX2_slope 248 (.iload 7) 2 250 := ⟨by decide +kernel, rfl⟩
theorem eX2_slope_250 : Db cX2_slope 250 (fun o => .if_icmp .ge o) 266 253 := ⟨16, by decide +kernel, by decide, rfl⟩
theorem eX2_slope_253 : Dc cX2_slope 253 (.aload_n 0) 1 254 := ⟨by decide +kernel, rfl⟩
theorem eX2_slope_254 : Dc cX2_slope 254 (.getfield 23) 3 257 := ⟨by decide +kernel, rfl⟩
theorem eX2_slope_257 : Dc cX2_slope 257 (.iload 4) 2 259 := ⟨by decide +kernel, rfl⟩
theorem eX2_slope_259 : Dc cX2_slope 259 (.bipush 10) 2 261 := ⟨by decide +kernel, rfl⟩
theorem eX2_slope_261 : Dc cX2_slope 261 (.isub) 1 262 := ⟨by decide +kernel, rfl⟩
theorem eX2_slope_262 : Dc cX2_slope 262 (.iaload) 1 263 := ⟨by decide +kernel, rfl⟩
theorem eX2_slope_263 : Db cX2_slope 263 (fun o => .goto o) 267 266 := ⟨4, by decide +kernel, by decide, rfl⟩
theorem eX2_slope_266 : Dc cX2_slope 266 (.iconst (-1)) 1 267 := ⟨by decide +kernel, rfl⟩
theorem eX2_slope_267 : Dc cX2_slope 267 (.ireturn) 1 268 := ⟨by decide +kernel, rfl⟩
theorem eX2_works_0 : Dc cX2_works 0 (.iconst 0) 1 1 := ⟨by decide +kernel, rfl⟩
theorem eX2_works_1 : Dc cX2_works 1 (.istore 4) 2 3 := ⟨by decide +kernel, rfl⟩
theorem eX2_works_3 : Dc cX2_works 3 (.iload 4) 2 5 := ⟨by decide +kernel, rfl⟩
theorem eX2_works_5 : Dc cX2_works 5 (.bipush 80) 2 7 := ⟨by decide +kernel, rfl⟩
theorem eX2_works_7 : Db cX2_works 7 (fun o => .if_icmp .ge o) 34 10 := ⟨27, by decide +kernel, by decide, rfl⟩
theorem eX2_works_10 : Dc cX2_works 10 (.aload_n 0) 1 11 := ⟨by decide +kernel, rfl⟩
theorem eX2_works_11 : Dc cX2_works 11 (.getfield 20) 3 14 := ⟨by decide +kernel, rfl⟩
theorem eX2_works_14 : Dc cX2_works 14 (.iload 4) 2 16 := ⟨by decide +kernel, rfl⟩
theorem eX2_works_16 : Dc cX2_works 16 (.iload 4) 2 18 := ⟨by decide +kernel, rfl⟩
theorem eX2_works_18 : Dc cX2_works 18 (.iload_n 2) 1 19 := ⟨by decide +kernel, rfl⟩
theorem eX2_works_19 : Db cX2_works 19 (fun o => .if_icmp .ne o) 26 22 := ⟨7, by decide +kernel, by decide, rfl⟩
theorem eX2_works_22 : Dc cX2_works 22 (.iconst 0) 1 23 := ⟨by decide +kernel, rfl⟩
theorem eX2_works_23 : Db cX2_works 23 (fun o => .goto o) 27 26 := ⟨4, by decide +kernel, by decide, rfl⟩
theorem eX2_works_26 : Dc cX2_works 26 (.iconst (-1)) 1 27 := ⟨by decide +kernel, rfl⟩
theorem eX2_works_27 : Dc cX2_works 27 (.iastore) 1 28 := ⟨by decide +kernel, rfl⟩
theorem eX2_works_28 : Dc cX2_works 28 (.iinc 4 1) 3 31 := ⟨by decide +kernel, rfl⟩
theorem eX2_works_31 : Db cX2_works 31 (fun o => .goto o) 3 34 := ⟨-28, by decide +kernel, by decide, rfl⟩
theorem eX2_works_34 : Dc cX2_works 34 (.iconst 1) 1 35 := ⟨by decide +kernel, rfl⟩
theorem eX2_works_35 : Dc cX2_works 35 (.istore 4) 2 37 := ⟨by decide +kernel, rfl⟩
theorem eX2_works_37 : Dc cX2_works 37 (.iload 4) 2 39 := ⟨by decide +kernel, rfl⟩
theorem eX2_works_39 : Db cX2_works 39 (fun o => .ifCond .eq o) 238 42 := ⟨199, by decide +kernel, by decide, rfl⟩
theorem eX2_works_42 : Dc cX2_works 42 (.iconst 0) 1 43 := ⟨by decide +kernel, rfl⟩
theorem eX2_works_43 : Dc cX2_works 43 (.istore 4) 2 45 := ⟨by decide +kernel, rfl⟩
theorem eX2_works_45 : Dc cX2_works 45 (.iconst 0) 1 46 := ⟨by decide +kernel, rfl⟩
theorem eX2_works_46 : Dc cX2_works 46 (.istore 5) 2 48 := ⟨by decide +kernel, rfl⟩
theorem eX2_works_48 : Dc cX2_works 48 (.iload 5) 2 50 := ⟨by decide +kernel, rfl⟩
theorem eX2_works_50 : Dc cX2_works 50 (.bipush 80) 2 52 := ⟨by decide +kernel, rfl⟩
theorem eX2_works_52 : Db cX2_works 52 (fun o => .if_icmp .ge o) 235 55 := ⟨183, by decide +kernel, by decide, rfl⟩
theorem eX2_works_55 : Dc cX2_works 55 (.iconst 0) 1 56 := ⟨by decide +kernel, rfl⟩
theorem eX2_works_56 : Dc cX2_works 56 (.istore 6) 2 58 := ⟨by decide +kernel, rfl⟩
theorem eX2_works_58 : Dc cX2_works 58 (.iload 6) 2 60 := ⟨by decide +kernel, rfl⟩
theorem eX2_works_60 : Dc cX2_works 60 (.iconst 4) 1 61 := ⟨by decide +kernel, rfl⟩
theorem eX2_works_61 : Db cX2_works 61 (fun o => .if_icmp .ge o) 229 64 := ⟨168, by decide +kernel, by decide, rfl⟩
theorem eX2_works_64 : Dc cX2_works 64 (.iload 5) 2 66 := ⟨by decide +kernel, rfl⟩
theorem eX2_works_66 : Dc cX2_works 66 (.iload 6) 2 68 := ⟨by decide +kernel, rfl⟩
theorem eX2_works_68 : Db cX2_works 68 (fun o => .ifCond .ne o) 75 71 := ⟨7, by decide +kernel, by decide, rfl⟩
theorem eX2_works_71 : Dc cX2_works 71 (.iconst 1) 1 72 := ⟨by decide +kernel, rfl⟩
theorem eX2_works_72 : Db cX2_works 72 (fun o => .goto o) 98 75 := ⟨26, by decide +kernel, by decide, rfl⟩
theorem eX2_works_75 : Dc cX2_works 75 (.iload 6) 2 77 := ⟨by decide +kernel, rfl⟩
theorem eX2_works_77 : Dc cX2_works 77 (.iconst 1) 1 78 := ⟨by decide +kernel, rfl⟩
theorem eX2_works_78 : Db cX2_works 78 (fun o => .if_icmp .ne o) 85 81 := ⟨7, by decide +kernel, by decide, rfl⟩
theorem eX2_works_81 : Dc cX2_works 81 (.iconst (-1)) 1 82 := ⟨by decide +kernel, rfl⟩
theorem eX2_works_82 : Db cX2_works 82 (fun o => .goto o) 98 85 := ⟨16, by decide +kernel, by decide, rfl⟩
theorem eX2_works_85 : Dc cX2_works 85 (.iload 6) 2 87 := ⟨by decide +kernel, rfl⟩
theorem eX2_works_87 : Dc cX2_works 87 (.iconst 2) 1 88 := ⟨by decide +kernel, rfl⟩
theorem eX2_works_88 : Db cX2_works 88 (fun o => .if_icmp .ne o) 96 91 := ⟨8, by decide +kernel, by decide, rfl⟩
theorem eX2_works_91 : Dc cX2_works 91 (.bipush 10) 2 93 := ⟨by decide +kernel, rfl⟩
theorem eX2_works_93 : Db cX2_works 93 (fun o => .goto o) 98 96 := ⟨5, by decide +kernel, by decide, rfl⟩
theorem eX2_works_96 : Dc cX2_works 96 (.bipush (-10)) 2 98 := ⟨by decide +kernel, rfl⟩
theorem eX2_works_98 : Dc cX2_works 98 (.iadd) 1 99 := ⟨by decide +kernel, rfl⟩
theorem eX2_works_99 : Dc cX2_works 99 (.istore 7) 2 101 := ⟨by decide +kernel, rfl⟩
theorem eX2_works_101 : Dc cX2_works 101 (.iload 7) 2 103 := ⟨by decide +kernel, rfl⟩
theorem eX2_works_103 : Dc cX2_works 103 (.invokestatic 66) 3 106 := ⟨by decide +kernel, rfl⟩
theorem eX2_works_106 : Db cX2_works 106 (fun o => .ifCond .eq o) 223 109 := ⟨117, by decide +kernel, by decide, rfl⟩
theorem eX2_works_109 : Dc cX2_works 109 (.aload_n 0) 1 110 := ⟨by decide +kernel, rfl⟩
theorem eX2_works_110 : Dc cX2_works 110 (.getfield 20) 3 113 := ⟨by decide +kernel, rfl⟩
theorem eX2_works_113 : Dc cX2_works 113 (.iload 7) 2 115 := ⟨by decide +kernel, rfl⟩
theorem eX2_works_115 : Dc cX2_works 115 (.iaload) 1 116 := ⟨by decide +kernel, rfl⟩
theorem eX2_works_116 : Dc cX2_works 116 (.iconst (-1)) 1 117 := ⟨by decide +kernel, rfl⟩
theorem eX2_works_117 : Db cX2_works 117 (fun o => .if_icmp .eq o) 223 120 := ⟨106, by decide +kernel, by decide, rfl⟩
theorem eX2_works_120 : Dc cX2_works 120 (.aload_n 0) 1 121 := ⟨by decide +kernel, rfl⟩
theorem eX2_works_121 : Dc cX2_works 121 (.iload 5) 2 123 := ⟨by decide +kernel, rfl⟩
theorem eX2_works_123 : Dc cX2_works 123 (.iload 7) 2 125 := ⟨by decide +kernel, rfl⟩
theorem eX2_works_125 : Dc cX2_works 125 (.iload_n 1) 1 126 := ⟨by decide +kernel, rfl⟩
theorem eX2_works_126 : Dc cX2_works 126 (.iload_n 2) 1 127 := ⟨by decide +kernel, rfl⟩
theorem eX2_works_127 : Dc cX2_works 127 (.iload_n 3) 1 128 := ⟨by decide +kernel, rfl⟩
theorem eX2_works_128 : Dc cX2_works 128 (.invokevirtual 199) 3 131 := ⟨by decide +kernel, rfl⟩
theorem eX2_works_131 : Db cX2_works 131 (fun o => .ifCond .eq o) 223 134 := ⟨92, by decide +kernel, by decide, rfl⟩
theorem eX2_works_134 : Dc cX2_works 134 (.aload_n 0) 1 135 := ⟨by decide +kernel, rfl⟩
theorem eX2_works_135 : Dc cX2_works 135 (.iload 5) 2 137 := ⟨by decide +kernel, rfl⟩
theorem eX2_works_137 : Dc cX2_works 137 (.iload 7) 2 139 := ⟨by decide +kernel, rfl⟩
theorem eX2_works_139 : Dc cX2_works 139 (.invokevirtual 187) 3 142 := ⟨by decide +kernel, rfl⟩
theorem eX2_works_142 : Dc cX2_works 142 (.aload_n 0) 1 143 := ⟨by decide +kernel, rfl⟩
theorem eX2_works_143 : Dc cX2_works 143 (.getfield 20) 3 146 := ⟨by decide +kernel, rfl⟩
theorem eX2_works_146 : Dc cX2_works 146 (.iload 7) 2 148 := ⟨by decide +kernel, rfl⟩
theorem eX2_works_148 : Dc cX2_works 148 (.iaload) 1 149 := ⟨by decide +kernel, rfl⟩
theorem eX2_works_149 : Dc cX2_works 149 (.iadd) 1 150 := ⟨by decide +kernel, rfl⟩
theorem eX2_works_150 : Dc cX2_works 150 (.istore 8) 2 152 := ⟨by decide +kernel, rfl⟩
theorem eX2_works_152 : Dc cX2_works 152 (.aload_n 0) 1 153 := ⟨by decide +kernel, rfl⟩
theorem eX2_works_153 : Dc cX2_works 153 (.getfield 20) 3 156 := ⟨by decide +kernel, rfl⟩
theorem eX2_works_156 : Dc cX2_works 156 (.iload 5) 2 158 := ⟨by decide +kernel, rfl⟩
theorem eX2_works_158 : Dc cX2_works 158 (.iaload) 1 159 := ⟨by decide +kernel, rfl⟩
theorem eX2_works_159 : Dc cX2_works 159 (.iconst (-1)) 1 160 := ⟨by decide +kernel, rfl⟩
theorem eX2_works_160 : Db cX2_works 160 (fun o => .if_icmp .eq o) 175 163 := ⟨15, by decide +kernel, by decide, rfl⟩
theorem eX2_works_163 : Dc cX2_works 163 (.iload 8) 2 165 := ⟨by decide +kernel, rfl⟩
theorem eX2_works_165 : Dc cX2_works 165 (.aload_n 0) 1 166 := ⟨by decide +kernel, rfl⟩
theorem eX2_works_166 : Dc cX2_works 166 (.getfield 20) 3 169 := ⟨by decide +kernel, rfl⟩
theorem eX2_works_169 : Dc cX2_works 169 (.iload 5) 2 171 := ⟨by decide +kernel, rfl⟩
theorem eX2_works_171 : Dc cX2_works 171 (.iaload) 1 172 := ⟨by decide +kernel, rfl⟩
theorem eX2_works_172 : Db cX2_works 172 (fun o => .if_icmp .ge o) 179 175 := ⟨7, by decide +kernel, by decide, rfl⟩
theorem eX2_works_175 : Dc cX2_works 175 (.iconst 1) 1 176 := ⟨by decide +kernel, rfl⟩
theorem eX2_works_176 : Db cX2_works 176 (fun o => .goto o) 180 179 := ⟨4, by decide +kernel, by decide, rfl⟩
theorem eX2_works_179 : Dc cX2_works 179 (.iconst 0) 1 180 := ⟨by decide +kernel, rfl⟩
theorem eX2_works_180 : Dc cX2_works 180 (.istore 9) 2 182 := ⟨by decide +kernel, rfl⟩
theorem eX2_works_182 : Dc cX2_works 182 (.aload_n 0) 1 183 := ⟨by decide +kernel, rfl⟩
theorem eX2_works_183 : Dc cX2_works 183 (.getfield 20) 3 186 := ⟨by decide +kernel, rfl⟩
theorem eX2_works_186 : Dc cX2_works 186 (.iload 5) 2 188 := ⟨by decide +kernel, rfl⟩
theorem eX2_works_188 : Dc cX2_works 188 (.iload 9) 2 190 := ⟨by decide +kernel, rfl⟩
theorem eX2_works_190 : Db cX2_works 190 (fun o => .ifCond .eq o) 198 193 := ⟨8, by decide +kernel, by decide, rfl⟩
theorem eX2_works_193 : Dc cX2_works 193 (.iload 8) 2 195 := ⟨by decide +kernel, rfl⟩
theorem eX2_works_195 : Db cX2_works 195 (fun o => .goto o) 205 198 := ⟨10, by decide +kernel, by decide, rfl⟩
theorem eX2_works_198 : Dc cX2_works 198 (.aload_n 0) 1 199 := ⟨by decide +kernel, rfl⟩
theorem eX2_works_199 : Dc cX2_works 199 (.getfield 20) 3 202 := ⟨by decide +kernel, rfl⟩
theorem eX2_works_202 : Dc cX2_works 202 (.iload 5) 2 204 := ⟨by decide +kernel, rfl⟩
theorem eX2_works_204 : Dc cX2_works 204 (.iaload) 1 205 := ⟨by decide +kernel, rfl⟩
theorem eX2_works_205 : Dc cX2_works 205 (.iastore) 1 206 := ⟨by decide +kernel, rfl⟩
theorem eX2_works_206 : Dc cX2_works 206 (.iload 4) 2 208 := ⟨by decide +kernel, rfl⟩
theorem eX2_works_208 : Db cX2_works 208 (fun o => .ifCond .ne o) 216 211 := ⟨8, by decide +kernel, by decide, rfl⟩
theorem eX2_works_211 : Dc cX2_works 211 (.iload 9) 2 213 := ⟨by decide +kernel, rfl⟩
theorem eX2_works_213 : Db cX2_works 213 (fun o => .ifCond .eq o) 220 216 := ⟨7, by decide +kernel, by decide, rfl⟩
theorem eX2_works_216 : Dc cX2_works 216 (.iconst 1) 1 217 := ⟨by decide +kernel, rfl⟩
theorem eX2_works_217 : Db cX2_works 217 (fun o => .goto o) 221 220 := ⟨4, by decide +kernel, by decide, rfl⟩
theorem eX2_works_220 : Dc cX2_works 220 (.iconst 0) 1 221 := ⟨by decide +kernel, rfl⟩
theorem eX2_works_221 : Dc cX2_works 221 (.istore 4) 2 223 := ⟨by decide +kernel, rfl⟩
theorem eX2_works_223 : Dc cX2_works 223 (.iinc 6 1) 3 226 := ⟨by decide +kernel, rfl⟩
theorem eX2_works_226 : Db cX2_works 226 (fun o => .goto o) 58 229 := ⟨-168, by decide +kernel, by decide, rfl⟩
theorem eX2_works_229 : Dc cX2_works 229 (.iinc 5 1) 3 232 := ⟨by decide +kernel, rfl⟩
theorem eX2_works_232 : Db cX2_works 232 (fun o => .goto o) 48 235 := ⟨-184, by decide +kernel, by decide, rfl⟩
theorem eX2_works_235 : Db cX2_works 235 (fun o => .goto o) 37 238 := ⟨-198, by decide +kernel, by decide, rfl⟩
theorem eX2_works_238 : Dc cX2_works 238 (.return_) 1 239 := ⟨by decide +kernel, rfl⟩
theorem eX2_canStep_0 : Dc cX2_canStep 0 (.aload_n 0) 1 1 := ⟨by decide +kernel, rfl⟩
theorem eX2_canStep_1 : Dc cX2_canStep 1 (.iconst 5) 1 2 := ⟨by decide +kernel, rfl⟩
theorem eX2_canStep_2 : Dc cX2_canStep 2 (.iload 5) 2 4 := ⟨by decide +kernel, rfl⟩
theorem eX2_canStep_4 : Dc cX2_canStep 4 (.invokevirtual 152) 3 7 := ⟨by decide +kernel, rfl⟩
theorem eX2_canStep_7 : Db cX2_canStep 7 (fun o => .ifCond .ne o) 38 10 := ⟨31, by decide +kernel, by decide, rfl⟩
theorem eX2_canStep_10 : Dc cX2_canStep 10 (.aload_n 0) 1 11 := ⟨by decide +kernel, rfl⟩
theorem eX2_canStep_11 : Dc cX2_canStep 11 (.getfield 8) 3 14 := ⟨by decide +kernel, rfl⟩
theorem eX2_canStep_14 : Dc cX2_canStep 14 (.bipush 100) 2 16 := ⟨by decide +kernel, rfl⟩
theorem eX2_canStep_16 : Dc cX2_canStep 16 (.iload_n 2) 1 17 := ⟨by decide +kernel, rfl⟩
theorem eX2_canStep_17 : Dc cX2_canStep 17 (.iadd) 1 18 := ⟨by decide +kernel, rfl⟩
theorem eX2_canStep_18 : Dc cX2_canStep 18 (.iaload) 1 19 := ⟨by decide +kernel, rfl⟩
theorem eX2_canStep_19 : Dc cX2_canStep 19 (.iconst 2) 1 20 := ⟨by decide +kernel, rfl⟩
theorem eX2_canStep_20 : Db cX2_canStep 20 (fun o => .if_icmp .ne o) 38 23 := ⟨18, by decide +kernel, by decide, rfl⟩
theorem eX2_canStep_23 : Dc cX2_canStep 23 (.iload_n 2) 1 24 := ⟨by decide +kernel, rfl⟩
theorem eX2_canStep_24 : Dc cX2_canStep 24 (.iload_n 3) 1 25 := ⟨by decide +kernel, rfl⟩
theorem eX2_canStep_25 : Db cX2_canStep 25 (fun o => .if_icmp .eq o) 38 28 := ⟨13, by decide +kernel, by decide, rfl⟩
theorem eX2_canStep_28 : Dc cX2_canStep 28 (.iload_n 2) 1 29 := ⟨by decide +kernel, rfl⟩
theorem eX2_canStep_29 : Dc cX2_canStep 29 (.iload 4) 2 31 := ⟨by decide +kernel, rfl⟩
theorem eX2_canStep_31 : Db cX2_canStep 31 (fun o => .if_icmp .eq o) 38 34 := ⟨7, by decide +kernel, by decide, rfl⟩
theorem eX2_canStep_34 : Dc cX2_canStep 34 (.iconst 1) 1 35 := ⟨by decide +kernel, rfl⟩
theorem eX2_canStep_35 : Db cX2_canStep 35 (fun o => .goto o) 39 38 := ⟨4, by decide +kernel, by decide, rfl⟩
theorem eX2_canStep_38 : Dc cX2_canStep 38 (.iconst 0) 1 39 := ⟨by decide +kernel, rfl⟩
theorem eX2_canStep_39 : Dc cX2_canStep 39 (.istore 6) 2 41 := ⟨by decide +kernel, rfl⟩
theorem eX2_canStep_41 : Dc cX2_canStep 41 (.iload_n 1) 1 42 := ⟨by decide +kernel, rfl⟩
theorem eX2_canStep_42 : Dc cX2_canStep 42 (.iload_n 2) 1 43 := ⟨by decide +kernel, rfl⟩
theorem eX2_canStep_43 : Dc cX2_canStep 43 (.invokestatic 171) 3 46 := ⟨by decide +kernel, rfl⟩
theorem eX2_canStep_46 : Db cX2_canStep 46 (fun o => .ifCond .eq o) 90 49 := ⟨44, by decide +kernel, by decide, rfl⟩
theorem eX2_canStep_49 : Dc cX2_canStep 49 (.iload 6) 2 51 := ⟨by decide +kernel, rfl⟩
theorem eX2_canStep_51 : Db cX2_canStep 51 (fun o => .ifCond .ne o) 90 54 := ⟨39, by decide +kernel, by decide, rfl⟩
theorem eX2_canStep_54 : Dc cX2_canStep 54 (.aload_n 0) 1 55 := ⟨by decide +kernel, rfl⟩
theorem eX2_canStep_55 : Dc cX2_canStep 55 (.getfield 8) 3 58 := ⟨by decide +kernel, rfl⟩
theorem eX2_canStep_58 : Dc cX2_canStep 58 (.bipush 20) 2 60 := ⟨by decide +kernel, rfl⟩
theorem eX2_canStep_60 : Dc cX2_canStep 60 (.iload_n 1) 1 61 := ⟨by decide +kernel, rfl⟩
theorem eX2_canStep_61 : Dc cX2_canStep 61 (.iadd) 1 62 := ⟨by decide +kernel, rfl⟩
theorem eX2_canStep_62 : Dc cX2_canStep 62 (.iaload) 1 63 := ⟨by decide +kernel, rfl⟩
theorem eX2_canStep_63 : Dc cX2_canStep 63 (.aload_n 0) 1 64 := ⟨by decide +kernel, rfl⟩
theorem eX2_canStep_64 : Dc cX2_canStep 64 (.getfield 8) 3 67 := ⟨by decide +kernel, rfl⟩
theorem eX2_canStep_67 : Dc cX2_canStep 67 (.bipush 20) 2 69 := ⟨by decide +kernel, rfl⟩
theorem eX2_canStep_69 : Dc cX2_canStep 69 (.iload_n 2) 1 70 := ⟨by decide +kernel, rfl⟩
theorem eX2_canStep_70 : Dc cX2_canStep 70 (.iadd) 1 71 := ⟨by decide +kernel, rfl⟩
theorem eX2_canStep_71 : Dc cX2_canStep 71 (.iaload) 1 72 := ⟨by decide +kernel, rfl⟩
theorem eX2_canStep_72 : Dc cX2_canStep 72 (.isub) 1 73 := ⟨by decide +kernel, rfl⟩
theorem eX2_canStep_73 : Dc cX2_canStep 73 (.invokestatic 183) 3 76 := ⟨by decide +kernel, rfl⟩
theorem eX2_canStep_76 : Dc cX2_canStep 76 (.aload_n 0) 1 77 := ⟨by decide +kernel, rfl⟩
theorem eX2_canStep_77 : Dc cX2_canStep 77 (.iconst 0) 1 78 := ⟨by decide +kernel, rfl⟩
theorem eX2_canStep_78 : Dc cX2_canStep 78 (.iload 5) 2 80 := ⟨by decide +kernel, rfl⟩
theorem eX2_canStep_80 : Dc cX2_canStep 80 (.invokevirtual 152) 3 83 := ⟨by decide +kernel, rfl⟩
theorem eX2_canStep_83 : Db cX2_canStep 83 (fun o => .if_icmp .gt o) 90 86 := ⟨7, by decide +kernel, by decide, rfl⟩
theorem eX2_canStep_86 : Dc cX2_canStep 86 (.iconst 1) 1 87 := ⟨by decide +kernel, rfl⟩
theorem eX2_canStep_87 : Db cX2_canStep 87 (fun o => .goto o) 91 90 := ⟨4, by decide +kernel, by decide, rfl⟩
theorem eX2_canStep_90 : Dc cX2_canStep 90 (.iconst 0) 1 91 := ⟨by decide +kernel, rfl⟩
theorem eX2_canStep_91 : Dc cX2_canStep 91 (.ireturn) 1 92 := ⟨by decide +kernel, rfl⟩
theorem eX2_claim_0 : Dc cX2_claim 0 (.iload_n 1) 1 1 := ⟨by decide +kernel, rfl⟩
theorem eX2_claim_1 : Dc cX2_claim 1 (.invokestatic 66) 3 4 := ⟨by decide +kernel, rfl⟩
theorem eX2_claim_4 : Db cX2_claim 4 (fun o => .ifCond .ne o) 9 7 := ⟨5, by decide +kernel, by decide, rfl⟩
theorem eX2_claim_7 : Dc cX2_claim 7 (.iconst (-1)) 1 8 := ⟨by decide +kernel, rfl⟩
theorem eX2_claim_8 : Dc cX2_claim 8 (.ireturn) 1 9 := ⟨by decide +kernel, rfl⟩
theorem eX2_claim_9 : Dc cX2_claim 9 (.iload_n 2) 1 10 := ⟨by decide +kernel, rfl⟩
theorem eX2_claim_10 : Dc cX2_claim 10 (.iconst 1) 1 11 := ⟨by decide +kernel, rfl⟩
theorem eX2_claim_11 : Dc cX2_claim 11 (.sipush 9999) 3 14 := ⟨by decide +kernel, rfl⟩
theorem eX2_claim_14 : Dc cX2_claim 14 (.invokestatic 58) 3 17 := ⟨by decide +kernel, rfl⟩
theorem eX2_claim_17 : Db cX2_claim 17 (fun o => .ifCond .ne o) 23 20 := ⟨6, by decide +kernel, by decide, rfl⟩
theorem eX2_claim_20 : Dc cX2_claim 20 (.bipush (-2)) 2 22 := ⟨by decide +kernel, rfl⟩
theorem eX2_claim_22 : Dc cX2_claim 22 (.ireturn) 1 23 := ⟨by decide +kernel, rfl⟩
theorem eX2_claim_23 : Dc cX2_claim 23 (.aload_n 0) 1 24 := ⟨by decide +kernel, rfl⟩
theorem eX2_claim_24 : Dc cX2_claim 24 (.getfield 8) 3 27 := ⟨by decide +kernel, rfl⟩
theorem eX2_claim_27 : Dc cX2_claim 27 (.iconst 2) 1 28 := ⟨by decide +kernel, rfl⟩
theorem eX2_claim_28 : Dc cX2_claim 28 (.iaload) 1 29 := ⟨by decide +kernel, rfl⟩
theorem eX2_claim_29 : Dc cX2_claim 29 (.bipush 60) 2 31 := ⟨by decide +kernel, rfl⟩
theorem eX2_claim_31 : Db cX2_claim 31 (fun o => .if_icmp .ne o) 39 34 := ⟨8, by decide +kernel, by decide, rfl⟩
theorem eX2_claim_34 : Dc cX2_claim 34 (.bipush (-4)) 2 36 := ⟨by decide +kernel, rfl⟩
theorem eX2_claim_36 : Db cX2_claim 36 (fun o => .goto o) 50 39 := ⟨14, by decide +kernel, by decide, rfl⟩
theorem eX2_claim_39 : Dc cX2_claim 39 (.aload_n 0) 1 40 := ⟨by decide +kernel, rfl⟩
theorem eX2_claim_40 : Dc cX2_claim 40 (.bipush 6) 2 42 := ⟨by decide +kernel, rfl⟩
theorem eX2_claim_42 : Dc cX2_claim 42 (.iconst (-1)) 1 43 := ⟨by decide +kernel, rfl⟩
theorem eX2_claim_43 : Dc cX2_claim 43 (.iload_n 1) 1 44 := ⟨by decide +kernel, rfl⟩
theorem eX2_claim_44 : Dc cX2_claim 44 (.iconst (-1)) 1 45 := ⟨by decide +kernel, rfl⟩
theorem eX2_claim_45 : Dc cX2_claim 45 (.iconst (-1)) 1 46 := ⟨by decide +kernel, rfl⟩
theorem eX2_claim_46 : Dc cX2_claim 46 (.iload_n 2) 1 47 := ⟨by decide +kernel, rfl⟩
theorem eX2_claim_47 : Dc cX2_claim 47 (.invokevirtual 158) 3 50 := ⟨by decide +kernel, rfl⟩
theorem eX2_claim_50 : Dc cX2_claim 50 (.ireturn) 1 51 := ⟨by decide +kernel, rfl⟩
theorem eX2_bill_0 : Dc cX2_bill 0 (.aload_n 0) 1 1 := ⟨by decide +kernel, rfl⟩
theorem eX2_bill_1 : Dc cX2_bill 1 (.iload_n 1) 1 2 := ⟨by decide +kernel, rfl⟩
theorem eX2_bill_2 : Dc cX2_bill 2 (.iconst 2) 1 3 := ⟨by decide +kernel, rfl⟩
theorem eX2_bill_3 : Dc cX2_bill 3 (.invokevirtual 165) 3 6 := ⟨by decide +kernel, rfl⟩
theorem eX2_bill_6 : Db cX2_bill 6 (fun o => .ifCond .ne o) 11 9 := ⟨5, by decide +kernel, by decide, rfl⟩
theorem eX2_bill_9 : Dc cX2_bill 9 (.iconst (-1)) 1 10 := ⟨by decide +kernel, rfl⟩
theorem eX2_bill_10 : Dc cX2_bill 10 (.ireturn) 1 11 := ⟨by decide +kernel, rfl⟩
theorem eX2_bill_11 : Dc cX2_bill 11 (.aload_n 0) 1 12 := ⟨by decide +kernel, rfl⟩
theorem eX2_bill_12 : Dc cX2_bill 12 (.getfield 8) 3 15 := ⟨by decide +kernel, rfl⟩
theorem eX2_bill_15 : Dc cX2_bill 15 (.sipush 910) 3 18 := ⟨by decide +kernel, rfl⟩
theorem eX2_bill_18 : Dc cX2_bill 18 (.iload_n 1) 1 19 := ⟨by decide +kernel, rfl⟩
theorem eX2_bill_19 : Dc cX2_bill 19 (.iadd) 1 20 := ⟨by decide +kernel, rfl⟩
theorem eX2_bill_20 : Dc cX2_bill 20 (.iaload) 1 21 := ⟨by decide +kernel, rfl⟩
theorem eX2_bill_21 : Dc cX2_bill 21 (.bipush (-5)) 2 23 := ⟨by decide +kernel, rfl⟩
theorem eX2_bill_23 : Db cX2_bill 23 (fun o => .if_icmp .ne o) 82 26 := ⟨59, by decide +kernel, by decide, rfl⟩
theorem eX2_bill_26 : Dc cX2_bill 26 (.aload_n 0) 1 27 := ⟨by decide +kernel, rfl⟩
theorem eX2_bill_27 : Dc cX2_bill 27 (.iload_n 1) 1 28 := ⟨by decide +kernel, rfl⟩
theorem eX2_bill_28 : Dc cX2_bill 28 (.aload_n 0) 1 29 := ⟨by decide +kernel, rfl⟩
theorem eX2_bill_29 : Dc cX2_bill 29 (.getfield 8) 3 32 := ⟨by decide +kernel, rfl⟩
theorem eX2_bill_32 : Dc cX2_bill 32 (.iconst 0) 1 33 := ⟨by decide +kernel, rfl⟩
theorem eX2_bill_33 : Dc cX2_bill 33 (.iaload) 1 34 := ⟨by decide +kernel, rfl⟩
theorem eX2_bill_34 : Dc cX2_bill 34 (.invokevirtual 193) 3 37 := ⟨by decide +kernel, rfl⟩
theorem eX2_bill_37 : Dc cX2_bill 37 (.bipush (-5)) 2 39 := ⟨by decide +kernel, rfl⟩
theorem eX2_bill_39 : Db cX2_bill 39 (fun o => .if_icmp .ne o) 82 42 := ⟨43, by decide +kernel, by decide, rfl⟩
theorem eX2_bill_42 : Dc cX2_bill 42 (.aload_n 0) 1 43 := ⟨by decide +kernel, rfl⟩
theorem eX2_bill_43 : Dc cX2_bill 43 (.iload_n 1) 1 44 := ⟨by decide +kernel, rfl⟩
theorem eX2_bill_44 : Dc cX2_bill 44 (.aload_n 0) 1 45 := ⟨by decide +kernel, rfl⟩
theorem eX2_bill_45 : Dc cX2_bill 45 (.getfield 8) 3 48 := ⟨by decide +kernel, rfl⟩
theorem eX2_bill_48 : Dc cX2_bill 48 (.iconst 0) 1 49 := ⟨by decide +kernel, rfl⟩
theorem eX2_bill_49 : Dc cX2_bill 49 (.iaload) 1 50 := ⟨by decide +kernel, rfl⟩
theorem eX2_bill_50 : Dc cX2_bill 50 (.invokevirtual 196) 3 53 := ⟨by decide +kernel, rfl⟩
theorem eX2_bill_53 : Dc cX2_bill 53 (.bipush (-5)) 2 55 := ⟨by decide +kernel, rfl⟩
theorem eX2_bill_55 : Db cX2_bill 55 (fun o => .if_icmp .ne o) 82 58 := ⟨27, by decide +kernel, by decide, rfl⟩
theorem eX2_bill_58 : Dc cX2_bill 58 (.aload_n 0) 1 59 := ⟨by decide +kernel, rfl⟩
theorem eX2_bill_59 : Dc cX2_bill 59 (.getfield 8) 3 62 := ⟨by decide +kernel, rfl⟩
theorem eX2_bill_62 : Dc cX2_bill 62 (.iconst 0) 1 63 := ⟨by decide +kernel, rfl⟩
theorem eX2_bill_63 : Dc cX2_bill 63 (.iaload) 1 64 := ⟨by decide +kernel, rfl⟩
theorem eX2_bill_64 : Dc cX2_bill 64 (.aload_n 0) 1 65 := ⟨by decide +kernel, rfl⟩
theorem eX2_bill_65 : Dc cX2_bill 65 (.iconst 2) 1 66 := ⟨by decide +kernel, rfl⟩
theorem eX2_bill_66 : Dc cX2_bill 66 (.aload_n 0) 1 67 := ⟨by decide +kernel, rfl⟩
theorem eX2_bill_67 : Dc cX2_bill 67 (.getfield 8) 3 70 := ⟨by decide +kernel, rfl⟩
theorem eX2_bill_70 : Dc cX2_bill 70 (.iconst 0) 1 71 := ⟨by decide +kernel, rfl⟩
theorem eX2_bill_71 : Dc cX2_bill 71 (.iaload) 1 72 := ⟨by decide +kernel, rfl⟩
theorem eX2_bill_72 : Dc cX2_bill 72 (.invokevirtual 152) 3 75 := ⟨by decide +kernel, rfl⟩
theorem eX2_bill_75 : Db cX2_bill 75 (fun o => .if_icmp .gt o) 82 78 := ⟨7, by decide +kernel, by decide, rfl⟩
theorem eX2_bill_78 : Dc cX2_bill 78 (.iconst 1) 1 79 := ⟨by decide +kernel, rfl⟩
theorem eX2_bill_79 : Db cX2_bill 79 (fun o => .goto o) 83 82 := ⟨4, by decide +kernel, by decide, rfl⟩
theorem eX2_bill_82 : Dc cX2_bill 82 (.iconst 0) 1 83 := ⟨by decide +kernel, rfl⟩
theorem eX2_bill_83 : Dc cX2_bill 83 (.istore_n 2) 1 84 := ⟨by decide +kernel, rfl⟩
theorem eX2_bill_84 : Dc cX2_bill 84 (.iconst 0) 1 85 := ⟨by decide +kernel, rfl⟩
theorem eX2_bill_85 : Dc cX2_bill 85 (.istore_n 3) 1 86 := ⟨by decide +kernel, rfl⟩
theorem eX2_bill_86 : Dc cX2_bill 86 (.iload_n 3) 1 87 := ⟨by decide +kernel, rfl⟩
theorem eX2_bill_87 : Dc cX2_bill 87 (.aload_n 0) 1 88 := ⟨by decide +kernel, rfl⟩
theorem eX2_bill_88 : Dc cX2_bill 88 (.getfield 8) 3 91 := ⟨by decide +kernel, rfl⟩
theorem eX2_bill_91 : Dc cX2_bill 91 (.iconst 2) 1 92 := ⟨by decide +kernel, rfl⟩
theorem eX2_bill_92 : Dc cX2_bill 92 (.iaload) 1 93 := ⟨by decide +kernel, rfl⟩
theorem eX2_bill_93 : Db cX2_bill 93 (fun o => .if_icmp .ge o) 140 96 := ⟨47, by decide +kernel, by decide, rfl⟩
theorem eX2_bill_96 : Dc cX2_bill 96 (.iload_n 2) 1 97 := ⟨by decide +kernel, rfl⟩
theorem eX2_bill_97 : Db cX2_bill 97 (fun o => .ifCond .eq o) 132 100 := ⟨35, by decide +kernel, by decide, rfl⟩
theorem eX2_bill_100 : Dc cX2_bill 100 (.aload_n 0) 1 101 := ⟨by decide +kernel, rfl⟩
theorem eX2_bill_101 : Dc cX2_bill 101 (.getfield 8) 3 104 := ⟨by decide +kernel, rfl⟩
theorem eX2_bill_104 : Dc cX2_bill 104 (.sipush 370) 3 107 := ⟨by decide +kernel, rfl⟩
theorem eX2_bill_107 : Dc cX2_bill 107 (.iload_n 3) 1 108 := ⟨by decide +kernel, rfl⟩
theorem eX2_bill_108 : Dc cX2_bill 108 (.iadd) 1 109 := ⟨by decide +kernel, rfl⟩
theorem eX2_bill_109 : Dc cX2_bill 109 (.iaload) 1 110 := ⟨by decide +kernel, rfl⟩
theorem eX2_bill_110 : Dc cX2_bill 110 (.iconst 3) 1 111 := ⟨by decide +kernel, rfl⟩
theorem eX2_bill_111 : Db cX2_bill 111 (fun o => .if_icmp .ne o) 128 114 := ⟨17, by decide +kernel, by decide, rfl⟩
theorem eX2_bill_114 : Dc cX2_bill 114 (.aload_n 0) 1 115 := ⟨by decide +kernel, rfl⟩
theorem eX2_bill_115 : Dc cX2_bill 115 (.getfield 8) 3 118 := ⟨by decide +kernel, rfl⟩
theorem eX2_bill_118 : Dc cX2_bill 118 (.sipush 430) 3 121 := ⟨by decide +kernel, rfl⟩
theorem eX2_bill_121 : Dc cX2_bill 121 (.iload_n 3) 1 122 := ⟨by decide +kernel, rfl⟩
theorem eX2_bill_122 : Dc cX2_bill 122 (.iadd) 1 123 := ⟨by decide +kernel, rfl⟩
theorem eX2_bill_123 : Dc cX2_bill 123 (.iaload) 1 124 := ⟨by decide +kernel, rfl⟩
theorem eX2_bill_124 : Dc cX2_bill 124 (.iload_n 1) 1 125 := ⟨by decide +kernel, rfl⟩
theorem eX2_bill_125 : Db cX2_bill 125 (fun o => .if_icmp .eq o) 132 128 := ⟨7, by decide +kernel, by decide, rfl⟩
theorem eX2_bill_128 : Dc cX2_bill 128 (.iconst 1) 1 129 := ⟨by decide +kernel, rfl⟩
theorem eX2_bill_129 : Db cX2_bill 129 (fun o => .goto o) 133 132 := ⟨4, by decide +kernel, by decide, rfl⟩
theorem eX2_bill_132 : Dc cX2_bill 132 (.iconst 0) 1 133 := ⟨by decide +kernel, rfl⟩
theorem eX2_bill_133 : Dc cX2_bill 133 (.istore_n 2) 1 134 := ⟨by decide +kernel, rfl⟩
theorem eX2_bill_134 : Dc cX2_bill 134 (.iinc 3 1) 3 137 := ⟨by decide +kernel, rfl⟩
theorem eX2_bill_137 : Db cX2_bill 137 (fun o => .goto o) 86 140 := ⟨-51, by decide +kernel, by decide, rfl⟩
theorem eX2_bill_140 : Dc cX2_bill 140 (.iload_n 2) 1 141 := ⟨by decide +kernel, rfl⟩
theorem eX2_bill_141 : Db cX2_bill 141 (fun o => .ifCond .ne o) 147 144 := ⟨6, by decide +kernel, by decide, rfl⟩
theorem eX2_bill_144 : Dc cX2_bill 144 (.bipush (-3)) 2 146 := ⟨by decide +kernel, rfl⟩
theorem eX2_bill_146 : Dc cX2_bill 146 (.ireturn) 1 147 := ⟨by decide +kernel, rfl⟩
theorem eX2_bill_147 : Dc cX2_bill 147 (.aload_n 0) 1 148 := ⟨by decide +kernel, rfl⟩
theorem eX2_bill_148 : Dc cX2_bill 148 (.getfield 8) 3 151 := ⟨by decide +kernel, rfl⟩
theorem eX2_bill_151 : Dc cX2_bill 151 (.iconst 2) 1 152 := ⟨by decide +kernel, rfl⟩
theorem eX2_bill_152 : Dc cX2_bill 152 (.iaload) 1 153 := ⟨by decide +kernel, rfl⟩
theorem eX2_bill_153 : Dc cX2_bill 153 (.bipush 60) 2 155 := ⟨by decide +kernel, rfl⟩
theorem eX2_bill_155 : Db cX2_bill 155 (fun o => .if_icmp .ne o) 163 158 := ⟨8, by decide +kernel, by decide, rfl⟩
theorem eX2_bill_158 : Dc cX2_bill 158 (.bipush (-4)) 2 160 := ⟨by decide +kernel, rfl⟩
theorem eX2_bill_160 : Db cX2_bill 160 (fun o => .goto o) 200 163 := ⟨40, by decide +kernel, by decide, rfl⟩
theorem eX2_bill_163 : Dc cX2_bill 163 (.aload_n 0) 1 164 := ⟨by decide +kernel, rfl⟩
theorem eX2_bill_164 : Dc cX2_bill 164 (.iconst 3) 1 165 := ⟨by decide +kernel, rfl⟩
theorem eX2_bill_165 : Dc cX2_bill 165 (.iload_n 1) 1 166 := ⟨by decide +kernel, rfl⟩
theorem eX2_bill_166 : Dc cX2_bill 166 (.aload_n 0) 1 167 := ⟨by decide +kernel, rfl⟩
theorem eX2_bill_167 : Dc cX2_bill 167 (.getfield 8) 3 170 := ⟨by decide +kernel, rfl⟩
theorem eX2_bill_170 : Dc cX2_bill 170 (.sipush 550) 3 173 := ⟨by decide +kernel, rfl⟩
theorem eX2_bill_173 : Dc cX2_bill 173 (.iload_n 1) 1 174 := ⟨by decide +kernel, rfl⟩
theorem eX2_bill_174 : Dc cX2_bill 174 (.iadd) 1 175 := ⟨by decide +kernel, rfl⟩
theorem eX2_bill_175 : Dc cX2_bill 175 (.iaload) 1 176 := ⟨by decide +kernel, rfl⟩
theorem eX2_bill_176 : Dc cX2_bill 176 (.aload_n 0) 1 177 := ⟨by decide +kernel, rfl⟩
theorem eX2_bill_177 : Dc cX2_bill 177 (.getfield 8) 3 180 := ⟨by decide +kernel, rfl⟩
theorem eX2_bill_180 : Dc cX2_bill 180 (.sipush 610) 3 183 := ⟨by decide +kernel, rfl⟩
theorem eX2_bill_183 : Dc cX2_bill 183 (.iload_n 1) 1 184 := ⟨by decide +kernel, rfl⟩
theorem eX2_bill_184 : Dc cX2_bill 184 (.iadd) 1 185 := ⟨by decide +kernel, rfl⟩
theorem eX2_bill_185 : Dc cX2_bill 185 (.iaload) 1 186 := ⟨by decide +kernel, rfl⟩
theorem eX2_bill_186 : Dc cX2_bill 186 (.aload_n 0) 1 187 := ⟨by decide +kernel, rfl⟩
theorem eX2_bill_187 : Dc cX2_bill 187 (.getfield 8) 3 190 := ⟨by decide +kernel, rfl⟩
theorem eX2_bill_190 : Dc cX2_bill 190 (.sipush 670) 3 193 := ⟨by decide +kernel, rfl⟩
theorem eX2_bill_193 : Dc cX2_bill 193 (.iload_n 1) 1 194 := ⟨by decide +kernel, rfl⟩
theorem eX2_bill_194 : Dc cX2_bill 194 (.iadd) 1 195 := ⟨by decide +kernel, rfl⟩
theorem eX2_bill_195 : Dc cX2_bill 195 (.iaload) 1 196 := ⟨by decide +kernel, rfl⟩
theorem eX2_bill_196 : Dc cX2_bill 196 (.iconst (-1)) 1 197 := ⟨by decide +kernel, rfl⟩
theorem eX2_bill_197 : Dc cX2_bill 197 (.invokevirtual 158) 3 200 := ⟨by decide +kernel, rfl⟩
theorem eX2_bill_200 : Dc cX2_bill 200 (.ireturn) 1 201 := ⟨by decide +kernel, rfl⟩
theorem eX2_hear_0 : Dc cX2_hear 0 (.aload_n 0) 1 1 := ⟨by decide +kernel, rfl⟩
theorem eX2_hear_1 : Dc cX2_hear 1 (.iload_n 1) 1 2 := ⟨by decide +kernel, rfl⟩
theorem eX2_hear_2 : Dc cX2_hear 2 (.iconst 3) 1 3 := ⟨by decide +kernel, rfl⟩
theorem eX2_hear_3 : Dc cX2_hear 3 (.invokevirtual 165) 3 6 := ⟨by decide +kernel, rfl⟩
theorem eX2_hear_6 : Db cX2_hear 6 (fun o => .ifCond .ne o) 13 9 := ⟨7, by decide +kernel, by decide, rfl⟩
theorem eX2_hear_9 : Dc cX2_hear 9 (.iconst (-1)) 1 10 := ⟨by decide +kernel, rfl⟩
theorem eX2_hear_10 : Db cX2_hear 10 (fun o => .goto o) 39 13 := ⟨29, by decide +kernel, by decide, rfl⟩
theorem eX2_hear_13 : Dc cX2_hear 13 (.iload_n 2) 1 14 := ⟨by decide +kernel, rfl⟩
theorem eX2_hear_14 : Dc cX2_hear 14 (.invokestatic 141) 3 17 := ⟨by decide +kernel, rfl⟩
theorem eX2_hear_17 : Db cX2_hear 17 (fun o => .ifCond .ne o) 25 20 := ⟨8, by decide +kernel, by decide, rfl⟩
theorem eX2_hear_20 : Dc cX2_hear 20 (.bipush (-2)) 2 22 := ⟨by decide +kernel, rfl⟩
theorem eX2_hear_22 : Db cX2_hear 22 (fun o => .goto o) 39 25 := ⟨17, by decide +kernel, by decide, rfl⟩
theorem eX2_hear_25 : Dc cX2_hear 25 (.aload_n 0) 1 26 := ⟨by decide +kernel, rfl⟩
theorem eX2_hear_26 : Dc cX2_hear 26 (.iload_n 1) 1 27 := ⟨by decide +kernel, rfl⟩
theorem eX2_hear_27 : Dc cX2_hear 27 (.iload_n 2) 1 28 := ⟨by decide +kernel, rfl⟩
theorem eX2_hear_28 : Dc cX2_hear 28 (.invokevirtual 213) 3 31 := ⟨by decide +kernel, rfl⟩
theorem eX2_hear_31 : Db cX2_hear 31 (fun o => .ifCond .eq o) 38 34 := ⟨7, by decide +kernel, by decide, rfl⟩
theorem eX2_hear_34 : Dc cX2_hear 34 (.iconst 1) 1 35 := ⟨by decide +kernel, rfl⟩
theorem eX2_hear_35 : Db cX2_hear 35 (fun o => .goto o) 39 38 := ⟨4, by decide +kernel, by decide, rfl⟩
theorem eX2_hear_38 : Dc cX2_hear 38 (.iconst 0) 1 39 := ⟨by decide +kernel, rfl⟩
theorem eX2_hear_39 : Dc cX2_hear 39 (.ireturn) 1 40 := ⟨by decide +kernel, rfl⟩
theorem eX2_canBeLet_0 : Dc cX2_canBeLet 0 (.aload_n 0) 1 1 := ⟨by decide +kernel, rfl⟩
theorem eX2_canBeLet_1 : Dc cX2_canBeLet 1 (.bipush 6) 2 3 := ⟨by decide +kernel, rfl⟩
theorem eX2_canBeLet_3 : Dc cX2_canBeLet 3 (.iload_n 2) 1 4 := ⟨by decide +kernel, rfl⟩
theorem eX2_canBeLet_4 : Dc cX2_canBeLet 4 (.invokevirtual 148) 3 7 := ⟨by decide +kernel, rfl⟩
theorem eX2_canBeLet_7 : Dc cX2_canBeLet 7 (.istore_n 3) 1 8 := ⟨by decide +kernel, rfl⟩
theorem eX2_canBeLet_8 : Dc cX2_canBeLet 8 (.iload_n 3) 1 9 := ⟨by decide +kernel, rfl⟩
theorem eX2_canBeLet_9 : Dc cX2_canBeLet 9 (.iconst (-1)) 1 10 := ⟨by decide +kernel, rfl⟩
theorem eX2_canBeLet_10 : Db cX2_canBeLet 10 (fun o => .if_icmp .ne o) 15 13 := ⟨5, by decide +kernel, by decide, rfl⟩
theorem eX2_canBeLet_13 : Dc cX2_canBeLet 13 (.iconst 1) 1 14 := ⟨by decide +kernel, rfl⟩
theorem eX2_canBeLet_14 : Dc cX2_canBeLet 14 (.ireturn) 1 15 := ⟨by decide +kernel, rfl⟩
theorem eX2_canBeLet_15 : Dc cX2_canBeLet 15 (.aload_n 0) 1 16 := ⟨by decide +kernel, rfl⟩
theorem eX2_canBeLet_16 : Dc cX2_canBeLet 16 (.getfield 17) 3 19 := ⟨by decide +kernel, rfl⟩
theorem eX2_canBeLet_19 : Dc cX2_canBeLet 19 (.iconst 0) 1 20 := ⟨by decide +kernel, rfl⟩
theorem eX2_canBeLet_20 : Dc cX2_canBeLet 20 (.aload_n 0) 1 21 := ⟨by decide +kernel, rfl⟩
theorem eX2_canBeLet_21 : Dc cX2_canBeLet 21 (.aload_n 0) 1 22 := ⟨by decide +kernel, rfl⟩
theorem eX2_canBeLet_22 : Dc cX2_canBeLet 22 (.getfield 8) 3 25 := ⟨by decide +kernel, rfl⟩
theorem eX2_canBeLet_25 : Dc cX2_canBeLet 25 (.sipush 430) 3 28 := ⟨by decide +kernel, rfl⟩
theorem eX2_canBeLet_28 : Dc cX2_canBeLet 28 (.iload_n 1) 1 29 := ⟨by decide +kernel, rfl⟩
theorem eX2_canBeLet_29 : Dc cX2_canBeLet 29 (.iadd) 1 30 := ⟨by decide +kernel, rfl⟩
theorem eX2_canBeLet_30 : Dc cX2_canBeLet 30 (.iaload) 1 31 := ⟨by decide +kernel, rfl⟩
theorem eX2_canBeLet_31 : Dc cX2_canBeLet 31 (.invokevirtual 190) 3 34 := ⟨by decide +kernel, rfl⟩
theorem eX2_canBeLet_34 : Dc cX2_canBeLet 34 (.bipush 10) 2 36 := ⟨by decide +kernel, rfl⟩
theorem eX2_canBeLet_36 : Dc cX2_canBeLet 36 (.idiv) 1 37 := ⟨by decide +kernel, rfl⟩
theorem eX2_canBeLet_37 : Dc cX2_canBeLet 37 (.iastore) 1 38 := ⟨by decide +kernel, rfl⟩
theorem eX2_canBeLet_38 : Dc cX2_canBeLet 38 (.aload_n 0) 1 39 := ⟨by decide +kernel, rfl⟩
theorem eX2_canBeLet_39 : Dc cX2_canBeLet 39 (.getfield 17) 3 42 := ⟨by decide +kernel, rfl⟩
theorem eX2_canBeLet_42 : Dc cX2_canBeLet 42 (.iconst 1) 1 43 := ⟨by decide +kernel, rfl⟩
theorem eX2_canBeLet_43 : Dc cX2_canBeLet 43 (.aload_n 0) 1 44 := ⟨by decide +kernel, rfl⟩
theorem eX2_canBeLet_44 : Dc cX2_canBeLet 44 (.getfield 8) 3 47 := ⟨by decide +kernel, rfl⟩
theorem eX2_canBeLet_47 : Dc cX2_canBeLet 47 (.sipush 186) 3 50 := ⟨by decide +kernel, rfl⟩
theorem eX2_canBeLet_50 : Dc cX2_canBeLet 50 (.aload_n 0) 1 51 := ⟨by decide +kernel, rfl⟩
theorem eX2_canBeLet_51 : Dc cX2_canBeLet 51 (.getfield 8) 3 54 := ⟨by decide +kernel, rfl⟩
theorem eX2_canBeLet_54 : Dc cX2_canBeLet 54 (.sipush 550) 3 57 := ⟨by decide +kernel, rfl⟩
theorem eX2_canBeLet_57 : Dc cX2_canBeLet 57 (.iload_n 1) 1 58 := ⟨by decide +kernel, rfl⟩
theorem eX2_canBeLet_58 : Dc cX2_canBeLet 58 (.iadd) 1 59 := ⟨by decide +kernel, rfl⟩
theorem eX2_canBeLet_59 : Dc cX2_canBeLet 59 (.iaload) 1 60 := ⟨by decide +kernel, rfl⟩
theorem eX2_canBeLet_60 : Dc cX2_canBeLet 60 (.iadd) 1 61 := ⟨by decide +kernel, rfl⟩
theorem eX2_canBeLet_61 : Dc cX2_canBeLet 61 (.iaload) 1 62 := ⟨by decide +kernel, rfl⟩
theorem eX2_canBeLet_62 : Dc cX2_canBeLet 62 (.aload_n 0) 1 63 := ⟨by decide +kernel, rfl⟩
theorem eX2_canBeLet_63 : Dc cX2_canBeLet 63 (.getfield 8) 3 66 := ⟨by decide +kernel, rfl⟩
theorem eX2_canBeLet_66 : Dc cX2_canBeLet 66 (.sipush 186) 3 69 := ⟨by decide +kernel, rfl⟩
theorem eX2_canBeLet_69 : Dc cX2_canBeLet 69 (.aload_n 0) 1 70 := ⟨by decide +kernel, rfl⟩
theorem eX2_canBeLet_70 : Dc cX2_canBeLet 70 (.getfield 8) 3 73 := ⟨by decide +kernel, rfl⟩
theorem eX2_canBeLet_73 : Dc cX2_canBeLet 73 (.sipush 610) 3 76 := ⟨by decide +kernel, rfl⟩
theorem eX2_canBeLet_76 : Dc cX2_canBeLet 76 (.iload_n 1) 1 77 := ⟨by decide +kernel, rfl⟩
theorem eX2_canBeLet_77 : Dc cX2_canBeLet 77 (.iadd) 1 78 := ⟨by decide +kernel, rfl⟩
theorem eX2_canBeLet_78 : Dc cX2_canBeLet 78 (.iaload) 1 79 := ⟨by decide +kernel, rfl⟩
theorem eX2_canBeLet_79 : Dc cX2_canBeLet 79 (.iadd) 1 80 := ⟨by decide +kernel, rfl⟩
theorem eX2_canBeLet_80 : Dc cX2_canBeLet 80 (.iaload) 1 81 := ⟨by decide +kernel, rfl⟩
theorem eX2_canBeLet_81 : Dc cX2_canBeLet 81 (.iadd) 1 82 := ⟨by decide +kernel, rfl⟩
theorem eX2_canBeLet_82 : Dc cX2_canBeLet 82 (.iastore) 1 83 := ⟨by decide +kernel, rfl⟩
theorem eX2_canBeLet_83 : Dc cX2_canBeLet 83 (.aload_n 0) 1 84 := ⟨by decide +kernel, rfl⟩
theorem eX2_canBeLet_84 : Dc cX2_canBeLet 84 (.getfield 17) 3 87 := ⟨by decide +kernel, rfl⟩
theorem eX2_canBeLet_87 : Dc cX2_canBeLet 87 (.iconst 2) 1 88 := ⟨by decide +kernel, rfl⟩
theorem eX2_canBeLet_88 : Dc cX2_canBeLet 88 (.aload_n 0) 1 89 := ⟨by decide +kernel, rfl⟩
theorem eX2_canBeLet_89 : Dc cX2_canBeLet 89 (.iload_n 1) 1 90 := ⟨by decide +kernel, rfl⟩
theorem eX2_canBeLet_90 : Dc cX2_canBeLet 90 (.iconst 2) 1 91 := ⟨by decide +kernel, rfl⟩
theorem eX2_canBeLet_91 : Dc cX2_canBeLet 91 (.invokevirtual 207) 3 94 := ⟨by decide +kernel, rfl⟩
theorem eX2_canBeLet_94 : Dc cX2_canBeLet 94 (.iastore) 1 95 := ⟨by decide +kernel, rfl⟩
theorem eX2_canBeLet_95 : Dc cX2_canBeLet 95 (.aload_n 0) 1 96 := ⟨by decide +kernel, rfl⟩
theorem eX2_canBeLet_96 : Dc cX2_canBeLet 96 (.getfield 17) 3 99 := ⟨by decide +kernel, rfl⟩
theorem eX2_canBeLet_99 : Dc cX2_canBeLet 99 (.iconst 3) 1 100 := ⟨by decide +kernel, rfl⟩
theorem eX2_canBeLet_100 : Dc cX2_canBeLet 100 (.aload_n 0) 1 101 := ⟨by decide +kernel, rfl⟩
theorem eX2_canBeLet_101 : Dc cX2_canBeLet 101 (.iload_n 1) 1 102 := ⟨by decide +kernel, rfl⟩
theorem eX2_canBeLet_102 : Dc cX2_canBeLet 102 (.iconst 1) 1 103 := ⟨by decide +kernel, rfl⟩
theorem eX2_canBeLet_103 : Dc cX2_canBeLet 103 (.invokevirtual 207) 3 106 := ⟨by decide +kernel, rfl⟩
theorem eX2_canBeLet_106 : Dc cX2_canBeLet 106 (.iastore) 1 107 := ⟨by decide +kernel, rfl⟩
theorem eX2_canBeLet_107 : Dc cX2_canBeLet 107 (.aload_n 0) 1 108 := ⟨by decide +kernel, rfl⟩
theorem eX2_canBeLet_108 : Dc cX2_canBeLet 108 (.getfield 17) 3 111 := ⟨by decide +kernel, rfl⟩
theorem eX2_canBeLet_111 : Dc cX2_canBeLet 111 (.iconst 4) 1 112 := ⟨by decide +kernel, rfl⟩
theorem eX2_canBeLet_112 : Dc cX2_canBeLet 112 (.aload_n 0) 1 113 := ⟨by decide +kernel, rfl⟩
theorem eX2_canBeLet_113 : Dc cX2_canBeLet 113 (.iload_n 1) 1 114 := ⟨by decide +kernel, rfl⟩
theorem eX2_canBeLet_114 : Dc cX2_canBeLet 114 (.invokevirtual 210) 3 117 := ⟨by decide +kernel, rfl⟩
theorem eX2_canBeLet_117 : Dc cX2_canBeLet 117 (.iastore) 1 118 := ⟨by decide +kernel, rfl⟩
theorem eX2_canBeLet_118 : Dc cX2_canBeLet 118 (.aload_n 0) 1 119 := ⟨by decide +kernel, rfl⟩
theorem eX2_canBeLet_119 : Dc cX2_canBeLet 119 (.getfield 17) 3 122 := ⟨by decide +kernel, rfl⟩
theorem eX2_canBeLet_122 : Dc cX2_canBeLet 122 (.iconst 5) 1 123 := ⟨by decide +kernel, rfl⟩
theorem eX2_canBeLet_123 : Dc cX2_canBeLet 123 (.aload_n 0) 1 124 := ⟨by decide +kernel, rfl⟩
theorem eX2_canBeLet_124 : Dc cX2_canBeLet 124 (.getfield 8) 3 127 := ⟨by decide +kernel, rfl⟩
theorem eX2_canBeLet_127 : Dc cX2_canBeLet 127 (.sipush 670) 3 130 := ⟨by decide +kernel, rfl⟩
theorem eX2_canBeLet_130 : Dc cX2_canBeLet 130 (.iload_n 1) 1 131 := ⟨by decide +kernel, rfl⟩
theorem eX2_canBeLet_131 : Dc cX2_canBeLet 131 (.iadd) 1 132 := ⟨by decide +kernel, rfl⟩
theorem eX2_canBeLet_132 : Dc cX2_canBeLet 132 (.iaload) 1 133 := ⟨by decide +kernel, rfl⟩
theorem eX2_canBeLet_133 : Dc cX2_canBeLet 133 (.iastore) 1 134 := ⟨by decide +kernel, rfl⟩
theorem eX2_canBeLet_134 : Dc cX2_canBeLet 134 (.aload_n 0) 1 135 := ⟨by decide +kernel, rfl⟩
theorem eX2_canBeLet_135 : Dc cX2_canBeLet 135 (.iload_n 3) 1 136 := ⟨by decide +kernel, rfl⟩
theorem eX2_canBeLet_136 : Dc cX2_canBeLet 136 (.bipush 8) 2 138 := ⟨by decide +kernel, rfl⟩
theorem eX2_canBeLet_138 : Dc cX2_canBeLet 138 (.idiv) 1 139 := ⟨by decide +kernel, rfl⟩
theorem eX2_canBeLet_139 : Dc cX2_canBeLet 139 (.putfield 78) 3 142 := ⟨by decide +kernel, rfl⟩
theorem eX2_canBeLet_142 : Dc cX2_canBeLet 142 (.aload_n 0) 1 143 := ⟨by decide +kernel, rfl⟩
theorem eX2_canBeLet_143 : Dc cX2_canBeLet 143 (.aload_n 0) 1 144 := ⟨by decide +kernel, rfl⟩
theorem eX2_canBeLet_144 : Dc cX2_canBeLet 144 (.getfield 8) 3 147 := ⟨by decide +kernel, rfl⟩
theorem eX2_canBeLet_147 : Dc cX2_canBeLet 147 (.sipush 11070) 3 150 := ⟨by decide +kernel, rfl⟩
theorem eX2_canBeLet_150 : Dc cX2_canBeLet 150 (.iload_n 3) 1 151 := ⟨by decide +kernel, rfl⟩
theorem eX2_canBeLet_151 : Dc cX2_canBeLet 151 (.iadd) 1 152 := ⟨by decide +kernel, rfl⟩
theorem eX2_canBeLet_152 : Dc cX2_canBeLet 152 (.iaload) 1 153 := ⟨by decide +kernel, rfl⟩
theorem eX2_canBeLet_153 : Dc cX2_canBeLet 153 (.putfield 75) 3 156 := ⟨by decide +kernel, rfl⟩
theorem eX2_canBeLet_156 : Dc cX2_canBeLet 156 (.aload_n 0) 1 157 := ⟨by decide +kernel, rfl⟩
theorem eX2_canBeLet_157 : Dc cX2_canBeLet 157 (.iconst 0) 1 158 := ⟨by decide +kernel, rfl⟩
theorem eX2_canBeLet_158 : Dc cX2_canBeLet 158 (.putfield 116) 3 161 := ⟨by decide +kernel, rfl⟩
theorem eX2_canBeLet_161 : Dc cX2_canBeLet 161 (.aload_n 0) 1 162 := ⟨by decide +kernel, rfl⟩
theorem eX2_canBeLet_162 : Dc cX2_canBeLet 162 (.iconst 0) 1 163 := ⟨by decide +kernel, rfl⟩
theorem eX2_canBeLet_163 : Dc cX2_canBeLet 163 (.putfield 81) 3 166 := ⟨by decide +kernel, rfl⟩
theorem eX2_canBeLet_166 : Dc cX2_canBeLet 166 (.aload_n 0) 1 167 := ⟨by decide +kernel, rfl⟩
theorem eX2_canBeLet_167 : Dc cX2_canBeLet 167 (.invokevirtual 123) 3 170 := ⟨by decide +kernel, rfl⟩
theorem eX2_canBeLet_170 : Dc cX2_canBeLet 170 (.ireturn) 1 171 := ⟨by decide +kernel, rfl⟩
theorem eX2_inWay_0 : Dc cX2_inWay 0 (.aload_n 0) 1 1 := ⟨by decide +kernel, rfl⟩
theorem eX2_inWay_1 : Dc cX2_inWay 1 (.getfield 8) 3 4 := ⟨by decide +kernel, rfl⟩
theorem eX2_inWay_4 : Dc cX2_inWay 4 (.sipush 430) 3 7 := ⟨by decide +kernel, rfl⟩
theorem eX2_inWay_7 : Dc cX2_inWay 7 (.iload_n 1) 1 8 := ⟨by decide +kernel, rfl⟩
theorem eX2_inWay_8 : Dc cX2_inWay 8 (.iadd) 1 9 := ⟨by decide +kernel, rfl⟩
theorem eX2_inWay_9 : Dc cX2_inWay 9 (.iaload) 1 10 := ⟨by decide +kernel, rfl⟩
theorem eX2_inWay_10 : Dc cX2_inWay 10 (.istore_n 3) 1 11 := ⟨by decide +kernel, rfl⟩
theorem eX2_inWay_11 : Dc cX2_inWay 11 (.iconst 0) 1 12 := ⟨by decide +kernel, rfl⟩
theorem eX2_inWay_12 : Dc cX2_inWay 12 (.istore 4) 2 14 := ⟨by decide +kernel, rfl⟩
theorem eX2_inWay_14 : Dc cX2_inWay 14 (.iconst 0) 1 15 := ⟨by decide +kernel, rfl⟩
theorem eX2_inWay_15 : Dc cX2_inWay 15 (.istore 5) 2 17 := ⟨by decide +kernel, rfl⟩
theorem eX2_inWay_17 : Dc cX2_inWay 17 (.iload 5) 2 19 := ⟨by decide +kernel, rfl⟩
theorem eX2_inWay_19 : Dc cX2_inWay 19 (.aload_n 0) 1 20 := ⟨by decide +kernel, rfl⟩
theorem eX2_inWay_20 : Dc cX2_inWay 20 (.getfield 8) 3 23 := ⟨by decide +kernel, rfl⟩
theorem eX2_inWay_23 : Dc cX2_inWay 23 (.sipush 850) 3 26 := ⟨by decide +kernel, rfl⟩
theorem eX2_inWay_26 : Dc cX2_inWay 26 (.iload_n 3) 1 27 := ⟨by decide +kernel, rfl⟩
theorem eX2_inWay_27 : Dc cX2_inWay 27 (.iadd) 1 28 := ⟨by decide +kernel, rfl⟩
theorem eX2_inWay_28 : Dc cX2_inWay 28 (.iaload) 1 29 := ⟨by decide +kernel, rfl⟩
theorem eX2_inWay_29 : Db cX2_inWay 29 (fun o => .if_icmp .ge o) 76 32 := ⟨47, by decide +kernel, by decide, rfl⟩
theorem eX2_inWay_32 : Dc cX2_inWay 32 (.iload 4) 2 34 := ⟨by decide +kernel, rfl⟩
theorem eX2_inWay_34 : Dc cX2_inWay 34 (.aload_n 0) 1 35 := ⟨by decide +kernel, rfl⟩
theorem eX2_inWay_35 : Dc cX2_inWay 35 (.getfield 8) 3 38 := ⟨by decide +kernel, rfl⟩
theorem eX2_inWay_38 : Dc cX2_inWay 38 (.bipush 100) 2 40 := ⟨by decide +kernel, rfl⟩
theorem eX2_inWay_40 : Dc cX2_inWay 40 (.aload_n 0) 1 41 := ⟨by decide +kernel, rfl⟩
theorem eX2_inWay_41 : Dc cX2_inWay 41 (.getfield 8) 3 44 := ⟨by decide +kernel, rfl⟩
theorem eX2_inWay_44 : Dc cX2_inWay 44 (.sipush 4700) 3 47 := ⟨by decide +kernel, rfl⟩
theorem eX2_inWay_47 : Dc cX2_inWay 47 (.bipush 41) 2 49 := ⟨by decide +kernel, rfl⟩
theorem eX2_inWay_49 : Dc cX2_inWay 49 (.iload_n 3) 1 50 := ⟨by decide +kernel, rfl⟩
theorem eX2_inWay_50 : Dc cX2_inWay 50 (.imul) 1 51 := ⟨by decide +kernel, rfl⟩
theorem eX2_inWay_51 : Dc cX2_inWay 51 (.iadd) 1 52 := ⟨by decide +kernel, rfl⟩
theorem eX2_inWay_52 : Dc cX2_inWay 52 (.iload 5) 2 54 := ⟨by decide +kernel, rfl⟩
theorem eX2_inWay_54 : Dc cX2_inWay 54 (.iadd) 1 55 := ⟨by decide +kernel, rfl⟩
theorem eX2_inWay_55 : Dc cX2_inWay 55 (.iaload) 1 56 := ⟨by decide +kernel, rfl⟩
theorem eX2_inWay_56 : Dc cX2_inWay 56 (.iadd) 1 57 := ⟨by decide +kernel, rfl⟩
theorem eX2_inWay_57 : Dc cX2_inWay 57 (.iaload) 1 58 := ⟨by decide +kernel, rfl⟩
theorem eX2_inWay_58 : Dc cX2_inWay 58 (.iload_n 2) 1 59 := ⟨by decide +kernel, rfl⟩
theorem eX2_inWay_59 : Db cX2_inWay 59 (fun o => .if_icmp .ne o) 66 62 := ⟨7, by decide +kernel, by decide, rfl⟩
theorem eX2_inWay_62 : Dc cX2_inWay 62 (.iconst 1) 1 63 := ⟨by decide +kernel, rfl⟩
theorem eX2_inWay_63 : Db cX2_inWay 63 (fun o => .goto o) 67 66 := ⟨4, by decide +kernel, by decide, rfl⟩
theorem eX2_inWay_66 : Dc cX2_inWay 66 (.iconst 0) 1 67 := ⟨by decide +kernel, rfl⟩
theorem eX2_inWay_67 : Dc cX2_inWay 67 (.iadd) 1 68 := ⟨by decide +kernel, rfl⟩
theorem eX2_inWay_68 : Dc cX2_inWay 68 (.istore 4) 2 70 := ⟨by decide +kernel, rfl⟩
theorem eX2_inWay_70 : Dc cX2_inWay 70 (.iinc 5 1) 3 73 := ⟨by decide +kernel, rfl⟩
theorem eX2_inWay_73 : Db cX2_inWay 73 (fun o => .goto o) 17 76 := ⟨-56, by decide +kernel, by decide, rfl⟩
theorem eX2_inWay_76 : Dc cX2_inWay 76 (.iload 4) 2 78 := ⟨by decide +kernel, rfl⟩
theorem eX2_inWay_78 : Dc cX2_inWay 78 (.ireturn) 1 79 := ⟨by decide +kernel, rfl⟩
