/-! contracts: printed by tools/mk.py out of s98zzzn_ctX0.py -/
set_option maxRecDepth 100000
set_option maxHeartbeats 800000
/-! the constructor of SearchHouse, piece 0 -/
def cX0 : List (Nat × Nat × Nat × Nat) := []
theorem wcX0 : WF 0 0 cX0 := ⟨rfl, rfl⟩
def cX1 : List (Nat × Nat × Nat × Nat) := (0, 100, 104, 0) :: cX0
theorem wcX1 : WF 1 104 cX1 := ⟨rfl, by decide, wcX0⟩
theorem DX0_init_0 : DD cX0_init 0 1 1 (.aload_n 0) := ⟨by decide +kernel, rfl⟩
theorem DX0_init_1 : DD cX0_init 1 3 4 (.invokespecial 125) := ⟨by decide +kernel, rfl⟩
theorem DX0_init_4 : DD cX0_init 4 1 5 (.aload_n 0) := ⟨by decide +kernel, rfl⟩
theorem DX0_init_5 : DD cX0_init 5 3 8 (.sipush 30000) := ⟨by decide +kernel, rfl⟩
theorem DX0_init_8 : DD cX0_init 8 2 10 (.newarray .byte) := ⟨by decide +kernel, rfl⟩
theorem DX0_init_10 : DD cX0_init 10 3 13 (.putfield 1) := ⟨by decide +kernel, rfl⟩
theorem DX0_init_13 : DD cX0_init 13 1 14 (.aload_n 0) := ⟨by decide +kernel, rfl⟩
theorem DX0_init_14 : DD cX0_init 14 3 17 (.sipush 30000) := ⟨by decide +kernel, rfl⟩
theorem DX0_init_17 : DD cX0_init 17 2 19 (.newarray .byte) := ⟨by decide +kernel, rfl⟩
theorem DX0_init_19 : DD cX0_init 19 3 22 (.putfield 28) := ⟨by decide +kernel, rfl⟩
theorem DX0_init_22 : DD cX0_init 22 1 23 (.aload_n 0) := ⟨by decide +kernel, rfl⟩
theorem DX0_init_23 : DD cX0_init 23 2 25 (.bipush 6) := ⟨by decide +kernel, rfl⟩
theorem DX0_init_25 : DD cX0_init 25 3 28 (.anewarray 26) := ⟨by decide +kernel, rfl⟩
theorem DX0_init_28 : DD cX0_init 28 3 31 (.putfield 22) := ⟨by decide +kernel, rfl⟩
theorem DX0_init_31 : DD cX0_init 31 1 32 (.aload_n 0) := ⟨by decide +kernel, rfl⟩
theorem DX0_init_32 : DD cX0_init 32 3 35 (.new 95) := ⟨by decide +kernel, rfl⟩
theorem DX0_init_35 : DD cX0_init 35 1 36 (.dup) := ⟨by decide +kernel, rfl⟩
theorem DX0_init_36 : DD cX0_init 36 3 39 (.invokespecial 130) := ⟨by decide +kernel, rfl⟩
theorem DX0_init_39 : DD cX0_init 39 3 42 (.putfield 86) := ⟨by decide +kernel, rfl⟩
theorem DX0_init_42 : DD cX0_init 42 1 43 (.aload_n 0) := ⟨by decide +kernel, rfl⟩
theorem DX0_init_43 : DD cX0_init 43 3 46 (.new 95) := ⟨by decide +kernel, rfl⟩
theorem DX0_init_46 : DD cX0_init 46 1 47 (.dup) := ⟨by decide +kernel, rfl⟩
theorem DX0_init_47 : DD cX0_init 47 3 50 (.invokespecial 130) := ⟨by decide +kernel, rfl⟩
theorem DX0_init_50 : DD cX0_init 50 3 53 (.putfield 131) := ⟨by decide +kernel, rfl⟩
theorem DX0_init_53 : DD cX0_init 53 1 54 (.aload_n 0) := ⟨by decide +kernel, rfl⟩
theorem DX0_init_54 : DD cX0_init 54 2 56 (.bipush 12) := ⟨by decide +kernel, rfl⟩
theorem DX0_init_56 : DD cX0_init 56 2 58 (.newarray .int) := ⟨by decide +kernel, rfl⟩
theorem DX0_init_58 : DD cX0_init 58 3 61 (.putfield 119) := ⟨by decide +kernel, rfl⟩
theorem DX0_init_61 : DD cX0_init 61 1 62 (.aload_n 0) := ⟨by decide +kernel, rfl⟩
theorem DX0_init_62 : DD cX0_init 62 2 64 (.bipush 12) := ⟨by decide +kernel, rfl⟩
theorem DX0_init_64 : DD cX0_init 64 2 66 (.newarray .int) := ⟨by decide +kernel, rfl⟩
theorem DX0_init_66 : DD cX0_init 66 3 69 (.putfield 122) := ⟨by decide +kernel, rfl⟩
theorem DX0_init_69 : DD cX0_init 69 1 70 (.aload_n 0) := ⟨by decide +kernel, rfl⟩
theorem DX0_init_70 : DD cX0_init 70 3 73 (.new 134) := ⟨by decide +kernel, rfl⟩
theorem DX0_init_73 : DD cX0_init 73 1 74 (.dup) := ⟨by decide +kernel, rfl⟩
theorem DX0_init_74 : DD cX0_init 74 1 75 (.aload_n 0) := ⟨by decide +kernel, rfl⟩
theorem DX0_init_75 : DD cX0_init 75 3 78 (.invokespecial 136) := ⟨by decide +kernel, rfl⟩
theorem DX0_init_78 : DD cX0_init 78 3 81 (.putfield 139) := ⟨by decide +kernel, rfl⟩
theorem DX0_init_81 : DD cX0_init 81 1 82 (.aload_n 0) := ⟨by decide +kernel, rfl⟩
theorem DX0_init_82 : DD cX0_init 82 3 85 (.sipush 6000) := ⟨by decide +kernel, rfl⟩
theorem DX0_init_85 : DD cX0_init 85 2 87 (.newarray .byte) := ⟨by decide +kernel, rfl⟩
theorem DX0_init_87 : DD cX0_init 87 3 90 (.putfield 143) := ⟨by decide +kernel, rfl⟩
theorem DX0_init_90 : DD cX0_init 90 1 91 (.aload_n 0) := ⟨by decide +kernel, rfl⟩
theorem DX0_init_91 : DD cX0_init 91 3 94 (.sipush 6000) := ⟨by decide +kernel, rfl⟩
theorem DX0_init_94 : DD cX0_init 94 2 96 (.newarray .short) := ⟨by decide +kernel, rfl⟩
theorem DX0_init_96 : DD cX0_init 96 3 99 (.putfield 146) := ⟨by decide +kernel, rfl⟩
theorem DX0_init_99 : DD cX0_init 99 1 100 (.aload_n 0) := ⟨by decide +kernel, rfl⟩
theorem DX0_init_100 : DD cX0_init 100 3 103 (.sipush 6000) := ⟨by decide +kernel, rfl⟩
theorem DX0_init_103 : DD cX0_init 103 2 105 (.newarray .int) := ⟨by decide +kernel, rfl⟩
theorem DX0_init_105 : DD cX0_init 105 3 108 (.putfield 150) := ⟨by decide +kernel, rfl⟩
theorem DX0_init_108 : DD cX0_init 108 1 109 (.aload_n 0) := ⟨by decide +kernel, rfl⟩
theorem DX0_init_109 : DD cX0_init 109 3 112 (.sipush 6000) := ⟨by decide +kernel, rfl⟩
theorem DX0_init_112 : DD cX0_init 112 2 114 (.newarray .int) := ⟨by decide +kernel, rfl⟩
theorem DX0_init_114 : DD cX0_init 114 3 117 (.putfield 153) := ⟨by decide +kernel, rfl⟩
theorem DX0_init_117 : DD cX0_init 117 1 118 (.aload_n 0) := ⟨by decide +kernel, rfl⟩
theorem DX0_init_118 : DD cX0_init 118 3 121 (.sipush 6000) := ⟨by decide +kernel, rfl⟩
theorem DX0_init_121 : DD cX0_init 121 2 123 (.newarray .long) := ⟨by decide +kernel, rfl⟩
theorem DX0_init_123 : DD cX0_init 123 3 126 (.putfield 156) := ⟨by decide +kernel, rfl⟩
theorem DX0_init_126 : DD cX0_init 126 1 127 (.aload_n 0) := ⟨by decide +kernel, rfl⟩
theorem DX0_init_127 : DD cX0_init 127 3 130 (.sipush 6000) := ⟨by decide +kernel, rfl⟩
theorem DX0_init_130 : DD cX0_init 130 2 132 (.newarray .int) := ⟨by decide +kernel, rfl⟩
theorem DX0_init_132 : DD cX0_init 132 3 135 (.putfield 160) := ⟨by decide +kernel, rfl⟩
theorem DX0_init_135 : DD cX0_init 135 1 136 (.aload_n 0) := ⟨by decide +kernel, rfl⟩
theorem DX0_init_136 : DD cX0_init 136 3 139 (.sipush 6000) := ⟨by decide +kernel, rfl⟩
theorem DX0_init_139 : DD cX0_init 139 2 141 (.newarray .int) := ⟨by decide +kernel, rfl⟩
theorem DX0_init_141 : DD cX0_init 141 3 144 (.putfield 163) := ⟨by decide +kernel, rfl⟩
theorem DX0_init_144 : DD cX0_init 144 1 145 (.aload_n 0) := ⟨by decide +kernel, rfl⟩
theorem DX0_init_145 : DD cX0_init 145 3 148 (.sipush 6000) := ⟨by decide +kernel, rfl⟩
theorem DX0_init_148 : DD cX0_init 148 2 150 (.newarray .int) := ⟨by decide +kernel, rfl⟩
theorem DX0_init_150 : DD cX0_init 150 3 153 (.putfield 166) := ⟨by decide +kernel, rfl⟩
theorem DX0_init_153 : DD cX0_init 153 1 154 (.aload_n 0) := ⟨by decide +kernel, rfl⟩
theorem DX0_init_154 : DD cX0_init 154 3 157 (.sipush 6000) := ⟨by decide +kernel, rfl⟩
theorem DX0_init_157 : DD cX0_init 157 2 159 (.newarray .int) := ⟨by decide +kernel, rfl⟩
theorem DX0_init_159 : DD cX0_init 159 3 162 (.putfield 169) := ⟨by decide +kernel, rfl⟩
theorem DX0_init_162 : DD cX0_init 162 1 163 (.aload_n 0) := ⟨by decide +kernel, rfl⟩
theorem DX0_init_163 : DD cX0_init 163 2 165 (.ldc 172) := ⟨by decide +kernel, rfl⟩
theorem DX0_init_165 : DD cX0_init 165 2 167 (.newarray .byte) := ⟨by decide +kernel, rfl⟩
theorem DX0_init_167 : DD cX0_init 167 3 170 (.putfield 173) := ⟨by decide +kernel, rfl⟩
theorem DX0_init_170 : DD cX0_init 170 1 171 (.aload_n 0) := ⟨by decide +kernel, rfl⟩
theorem DX0_init_171 : DD cX0_init 171 3 174 (.sipush 24000) := ⟨by decide +kernel, rfl⟩
theorem DX0_init_174 : DD cX0_init 174 2 176 (.newarray .int) := ⟨by decide +kernel, rfl⟩
theorem DX0_init_176 : DD cX0_init 176 3 179 (.putfield 176) := ⟨by decide +kernel, rfl⟩
theorem DX0_init_179 : DD cX0_init 179 1 180 (.aload_n 0) := ⟨by decide +kernel, rfl⟩
theorem DX0_init_180 : DD cX0_init 180 3 183 (.sipush 24000) := ⟨by decide +kernel, rfl⟩
theorem DX0_init_183 : DD cX0_init 183 2 185 (.newarray .int) := ⟨by decide +kernel, rfl⟩
theorem DX0_init_185 : DD cX0_init 185 3 188 (.putfield 179) := ⟨by decide +kernel, rfl⟩
theorem DX0_init_188 : DD cX0_init 188 1 189 (.aload_n 0) := ⟨by decide +kernel, rfl⟩
theorem DX0_init_189 : DD cX0_init 189 3 192 (.sipush 24000) := ⟨by decide +kernel, rfl⟩
theorem DX0_init_192 : DD cX0_init 192 2 194 (.newarray .short) := ⟨by decide +kernel, rfl⟩
theorem DX0_init_194 : DD cX0_init 194 3 197 (.putfield 182) := ⟨by decide +kernel, rfl⟩
theorem DX0_init_197 : DD cX0_init 197 1 198 (.aload_n 0) := ⟨by decide +kernel, rfl⟩
theorem DX0_init_198 : DD cX0_init 198 3 201 (.sipush 24000) := ⟨by decide +kernel, rfl⟩
theorem DX0_init_201 : DD cX0_init 201 2 203 (.newarray .short) := ⟨by decide +kernel, rfl⟩
theorem DX0_init_203 : DD cX0_init 203 3 206 (.putfield 185) := ⟨by decide +kernel, rfl⟩
theorem DX0_init_206 : DD cX0_init 206 1 207 (.aload_n 0) := ⟨by decide +kernel, rfl⟩
theorem DX0_init_207 : DD cX0_init 207 3 210 (.sipush 24000) := ⟨by decide +kernel, rfl⟩
theorem DX0_init_210 : DD cX0_init 210 2 212 (.newarray .short) := ⟨by decide +kernel, rfl⟩
theorem DX0_init_212 : DD cX0_init 212 3 215 (.putfield 188) := ⟨by decide +kernel, rfl⟩
theorem DX0_init_215 : DD cX0_init 215 1 216 (.aload_n 0) := ⟨by decide +kernel, rfl⟩
theorem DX0_init_216 : DD cX0_init 216 3 219 (.sipush 24000) := ⟨by decide +kernel, rfl⟩
theorem DX0_init_219 : DD cX0_init 219 2 221 (.newarray .short) := ⟨by decide +kernel, rfl⟩
theorem DX0_init_221 : DD cX0_init 221 3 224 (.putfield 191) := ⟨by decide +kernel, rfl⟩
theorem DX0_init_224 : DD cX0_init 224 1 225 (.aload_n 0) := ⟨by decide +kernel, rfl⟩
theorem DX0_init_225 : DD cX0_init 225 3 228 (.sipush 601) := ⟨by decide +kernel, rfl⟩
theorem DX0_init_228 : DD cX0_init 228 2 230 (.newarray .int) := ⟨by decide +kernel, rfl⟩
theorem DX0_init_230 : DD cX0_init 230 3 233 (.putfield 194) := ⟨by decide +kernel, rfl⟩
theorem DX0_init_233 : DD cX0_init 233 1 234 (.aload_n 0) := ⟨by decide +kernel, rfl⟩
theorem DX0_init_234 : DD cX0_init 234 3 237 (.sipush 601) := ⟨by decide +kernel, rfl⟩
theorem DX0_init_237 : DD cX0_init 237 2 239 (.newarray .int) := ⟨by decide +kernel, rfl⟩
theorem DX0_init_239 : DD cX0_init 239 3 242 (.putfield 197) := ⟨by decide +kernel, rfl⟩
theorem DX0_init_242 : DD cX0_init 242 1 243 (.aload_n 0) := ⟨by decide +kernel, rfl⟩
theorem DX0_init_243 : DD cX0_init 243 3 246 (.sipush 601) := ⟨by decide +kernel, rfl⟩
theorem DX0_init_246 : DD cX0_init 246 2 248 (.newarray .int) := ⟨by decide +kernel, rfl⟩
theorem DX0_init_248 : DD cX0_init 248 3 251 (.putfield 200) := ⟨by decide +kernel, rfl⟩
theorem DX0_init_251 : DD cX0_init 251 1 252 (.aload_n 0) := ⟨by decide +kernel, rfl⟩
theorem DX0_init_252 : DD cX0_init 252 3 255 (.sipush 600) := ⟨by decide +kernel, rfl⟩
theorem DX0_init_255 : DD cX0_init 255 2 257 (.newarray .int) := ⟨by decide +kernel, rfl⟩
theorem DX0_init_257 : DD cX0_init 257 3 260 (.putfield 203) := ⟨by decide +kernel, rfl⟩
theorem DX0_init_260 : DD cX0_init 260 1 261 (.aload_n 0) := ⟨by decide +kernel, rfl⟩
theorem DX0_init_261 : DD cX0_init 261 3 264 (.sipush 600) := ⟨by decide +kernel, rfl⟩
theorem DX0_init_264 : DD cX0_init 264 2 266 (.newarray .int) := ⟨by decide +kernel, rfl⟩
theorem DX0_init_266 : DD cX0_init 266 3 269 (.putfield 206) := ⟨by decide +kernel, rfl⟩
theorem DX0_init_269 : DD cX0_init 269 1 270 (.aload_n 0) := ⟨by decide +kernel, rfl⟩
theorem DX0_init_270 : DD cX0_init 270 3 273 (.sipush 600) := ⟨by decide +kernel, rfl⟩
theorem DX0_init_273 : DD cX0_init 273 2 275 (.newarray .boolean) := ⟨by decide +kernel, rfl⟩
theorem DX0_init_275 : DD cX0_init 275 3 278 (.putfield 209) := ⟨by decide +kernel, rfl⟩
theorem DX0_init_278 : DD cX0_init 278 1 279 (.aload_n 0) := ⟨by decide +kernel, rfl⟩
theorem DX0_init_279 : DD cX0_init 279 1 280 (.iconst 4) := ⟨by decide +kernel, rfl⟩
theorem DX0_init_280 : DD cX0_init 280 2 282 (.newarray .int) := ⟨by decide +kernel, rfl⟩
theorem DX0_init_282 : DD cX0_init 282 1 283 (.dup) := ⟨by decide +kernel, rfl⟩
theorem DX0_init_283 : DD cX0_init 283 1 284 (.iconst 0) := ⟨by decide +kernel, rfl⟩
theorem DX0_init_284 : DD cX0_init 284 1 285 (.iconst (-1)) := ⟨by decide +kernel, rfl⟩
theorem DX0_init_285 : DD cX0_init 285 1 286 (.iastore) := ⟨by decide +kernel, rfl⟩
theorem DX0_init_286 : DD cX0_init 286 1 287 (.dup) := ⟨by decide +kernel, rfl⟩
theorem DX0_init_287 : DD cX0_init 287 1 288 (.iconst 1) := ⟨by decide +kernel, rfl⟩
theorem DX0_init_288 : DD cX0_init 288 1 289 (.iconst (-1)) := ⟨by decide +kernel, rfl⟩
theorem DX0_init_289 : DD cX0_init 289 1 290 (.iastore) := ⟨by decide +kernel, rfl⟩
theorem DX0_init_290 : DD cX0_init 290 1 291 (.dup) := ⟨by decide +kernel, rfl⟩
theorem DX0_init_291 : DD cX0_init 291 1 292 (.iconst 2) := ⟨by decide +kernel, rfl⟩
theorem DX0_init_292 : DD cX0_init 292 1 293 (.iconst (-1)) := ⟨by decide +kernel, rfl⟩
theorem DX0_init_293 : DD cX0_init 293 1 294 (.iastore) := ⟨by decide +kernel, rfl⟩
theorem DX0_init_294 : DD cX0_init 294 1 295 (.dup) := ⟨by decide +kernel, rfl⟩
theorem DX0_init_295 : DD cX0_init 295 1 296 (.iconst 3) := ⟨by decide +kernel, rfl⟩
theorem DX0_init_296 : DD cX0_init 296 1 297 (.iconst (-1)) := ⟨by decide +kernel, rfl⟩
theorem DX0_init_297 : DD cX0_init 297 1 298 (.iastore) := ⟨by decide +kernel, rfl⟩
theorem DX0_init_298 : DD cX0_init 298 3 301 (.putfield 213) := ⟨by decide +kernel, rfl⟩
theorem DX0_init_301 : DD cX0_init 301 1 302 (.aload_n 0) := ⟨by decide +kernel, rfl⟩
theorem DX0_init_302 : DD cX0_init 302 2 304 (.ldc 216) := ⟨by decide +kernel, rfl⟩
theorem DX0_init_304 : DD cX0_init 304 2 306 (.newarray .int) := ⟨by decide +kernel, rfl⟩
theorem DX0_init_306 : DD cX0_init 306 3 309 (.putfield 217) := ⟨by decide +kernel, rfl⟩
theorem DX0_init_309 : DD cX0_init 309 1 310 (.aload_n 0) := ⟨by decide +kernel, rfl⟩
theorem DX0_init_310 : DD cX0_init 310 1 311 (.iconst 4) := ⟨by decide +kernel, rfl⟩
theorem DX0_init_311 : DD cX0_init 311 3 314 (.anewarray 220) := ⟨by decide +kernel, rfl⟩
theorem DX0_init_314 : DD cX0_init 314 3 317 (.putfield 222) := ⟨by decide +kernel, rfl⟩
theorem DX0_init_317 : DD cX0_init 317 1 318 (.aload_n 0) := ⟨by decide +kernel, rfl⟩
theorem DX0_init_318 : DD cX0_init 318 3 321 (.new 226) := ⟨by decide +kernel, rfl⟩
theorem DX0_init_321 : DD cX0_init 321 1 322 (.dup) := ⟨by decide +kernel, rfl⟩
theorem DX0_init_322 : DD cX0_init 322 3 325 (.invokespecial 228) := ⟨by decide +kernel, rfl⟩
theorem DX0_init_325 : DD cX0_init 325 3 328 (.putfield 229) := ⟨by decide +kernel, rfl⟩
theorem DX0_init_328 : DD cX0_init 328 1 329 (.aload_n 0) := ⟨by decide +kernel, rfl⟩
theorem DX0_init_329 : DD cX0_init 329 3 332 (.new 226) := ⟨by decide +kernel, rfl⟩
theorem DX0_init_332 : DD cX0_init 332 1 333 (.dup) := ⟨by decide +kernel, rfl⟩
theorem DX0_init_333 : DD cX0_init 333 3 336 (.invokespecial 228) := ⟨by decide +kernel, rfl⟩
theorem DX0_init_336 : DD cX0_init 336 3 339 (.putfield 233) := ⟨by decide +kernel, rfl⟩
theorem DX0_init_339 : DD cX0_init 339 1 340 (.aload_n 0) := ⟨by decide +kernel, rfl⟩
theorem DX0_init_340 : DD cX0_init 340 2 342 (.bipush 20) := ⟨by decide +kernel, rfl⟩
theorem DX0_init_342 : DD cX0_init 342 3 345 (.anewarray 226) := ⟨by decide +kernel, rfl⟩
theorem DX0_init_345 : DD cX0_init 345 3 348 (.putfield 236) := ⟨by decide +kernel, rfl⟩
theorem DX0_init_348 : DD cX0_init 348 1 349 (.aload_n 0) := ⟨by decide +kernel, rfl⟩
theorem DX0_init_349 : DD cX0_init 349 3 352 (.new 240) := ⟨by decide +kernel, rfl⟩
theorem DX0_init_352 : DD cX0_init 352 1 353 (.dup) := ⟨by decide +kernel, rfl⟩
theorem DX0_init_353 : DD cX0_init 353 1 354 (.aload_n 0) := ⟨by decide +kernel, rfl⟩
theorem DX0_init_354 : DD cX0_init 354 3 357 (.invokespecial 242) := ⟨by decide +kernel, rfl⟩
theorem DX0_init_357 : DD cX0_init 357 3 360 (.putfield 243) := ⟨by decide +kernel, rfl⟩
theorem DX0_init_360 : DD cX0_init 360 1 361 (.aload_n 0) := ⟨by decide +kernel, rfl⟩
theorem DX0_init_361 : DD cX0_init 361 3 364 (.sipush 484) := ⟨by decide +kernel, rfl⟩
theorem DX0_init_364 : DD cX0_init 364 2 366 (.newarray .int) := ⟨by decide +kernel, rfl⟩
theorem DX0_init_366 : DD cX0_init 366 3 369 (.putfield 247) := ⟨by decide +kernel, rfl⟩
theorem DX0_init_369 : DD cX0_init 369 1 370 (.aload_n 0) := ⟨by decide +kernel, rfl⟩
theorem DX0_init_370 : DD cX0_init 370 3 373 (.sipush 24000) := ⟨by decide +kernel, rfl⟩
theorem DX0_init_373 : DD cX0_init 373 2 375 (.newarray .boolean) := ⟨by decide +kernel, rfl⟩
theorem DX0_init_375 : DD cX0_init 375 3 378 (.putfield 250) := ⟨by decide +kernel, rfl⟩
theorem DX0_init_378 : DD cX0_init 378 1 379 (.aload_n 0) := ⟨by decide +kernel, rfl⟩
theorem DX0_init_379 : DD cX0_init 379 3 382 (.sipush 200) := ⟨by decide +kernel, rfl⟩
theorem DX0_init_382 : DD cX0_init 382 2 384 (.newarray .int) := ⟨by decide +kernel, rfl⟩
theorem DX0_init_384 : DD cX0_init 384 3 387 (.putfield 253) := ⟨by decide +kernel, rfl⟩
theorem DX0_init_387 : DD cX0_init 387 1 388 (.aload_n 0) := ⟨by decide +kernel, rfl⟩
theorem DX0_init_388 : DD cX0_init 388 3 391 (.sipush 200) := ⟨by decide +kernel, rfl⟩
theorem DX0_init_391 : DD cX0_init 391 2 393 (.newarray .int) := ⟨by decide +kernel, rfl⟩
theorem DX0_init_393 : DD cX0_init 393 3 396 (.putfield 256) := ⟨by decide +kernel, rfl⟩
theorem DX0_init_396 : DD cX0_init 396 1 397 (.aload_n 0) := ⟨by decide +kernel, rfl⟩
theorem DX0_init_397 : DD cX0_init 397 3 400 (.sipush 200) := ⟨by decide +kernel, rfl⟩
theorem DX0_init_400 : DD cX0_init 400 2 402 (.newarray .long) := ⟨by decide +kernel, rfl⟩
theorem DX0_init_402 : DD cX0_init 402 3 405 (.putfield 259) := ⟨by decide +kernel, rfl⟩
theorem DX0_init_405 : DD cX0_init 405 1 406 (.aload_n 0) := ⟨by decide +kernel, rfl⟩
theorem DX0_init_406 : DD cX0_init 406 3 409 (.sipush 200) := ⟨by decide +kernel, rfl⟩
theorem DX0_init_409 : DD cX0_init 409 2 411 (.newarray .int) := ⟨by decide +kernel, rfl⟩
theorem DX0_init_411 : DD cX0_init 411 3 414 (.putfield 262) := ⟨by decide +kernel, rfl⟩
theorem DX0_init_414 : DD cX0_init 414 1 415 (.aload_n 0) := ⟨by decide +kernel, rfl⟩
theorem DX0_init_415 : DD cX0_init 415 3 418 (.new 265) := ⟨by decide +kernel, rfl⟩
theorem DX0_init_418 : DD cX0_init 418 1 419 (.dup) := ⟨by decide +kernel, rfl⟩
theorem DX0_init_419 : DD cX0_init 419 1 420 (.aload_n 0) := ⟨by decide +kernel, rfl⟩
theorem DX0_init_420 : DD cX0_init 420 3 423 (.invokespecial 267) := ⟨by decide +kernel, rfl⟩
theorem DX0_init_423 : DD cX0_init 423 3 426 (.putfield 268) := ⟨by decide +kernel, rfl⟩
theorem DX0_init_426 : DD cX0_init 426 1 427 (.aload_n 0) := ⟨by decide +kernel, rfl⟩
theorem DX0_init_427 : DD cX0_init 427 3 430 (.new 265) := ⟨by decide +kernel, rfl⟩
theorem DX0_init_430 : DD cX0_init 430 1 431 (.dup) := ⟨by decide +kernel, rfl⟩
theorem DX0_init_431 : DD cX0_init 431 1 432 (.aload_n 0) := ⟨by decide +kernel, rfl⟩
theorem DX0_init_432 : DD cX0_init 432 3 435 (.invokespecial 267) := ⟨by decide +kernel, rfl⟩
theorem DX0_init_435 : DD cX0_init 435 3 438 (.putfield 272) := ⟨by decide +kernel, rfl⟩
theorem DX0_init_438 : DD cX0_init 438 1 439 (.aload_n 0) := ⟨by decide +kernel, rfl⟩
theorem DX0_init_439 : DD cX0_init 439 3 442 (.new 265) := ⟨by decide +kernel, rfl⟩
theorem DX0_init_442 : DD cX0_init 442 1 443 (.dup) := ⟨by decide +kernel, rfl⟩
theorem DX0_init_443 : DD cX0_init 443 1 444 (.aload_n 0) := ⟨by decide +kernel, rfl⟩
theorem DX0_init_444 : DD cX0_init 444 3 447 (.invokespecial 267) := ⟨by decide +kernel, rfl⟩
theorem DX0_init_447 : DD cX0_init 447 3 450 (.putfield 275) := ⟨by decide +kernel, rfl⟩
theorem DX0_init_450 : DD cX0_init 450 1 451 (.aload_n 0) := ⟨by decide +kernel, rfl⟩
theorem DX0_init_451 : DD cX0_init 451 1 452 (.iconst (-1)) := ⟨by decide +kernel, rfl⟩
theorem DX0_init_452 : DD cX0_init 452 3 455 (.putfield 278) := ⟨by decide +kernel, rfl⟩
theorem DX0_init_455 : DD cX0_init 455 1 456 (.aload_n 0) := ⟨by decide +kernel, rfl⟩
theorem DX0_init_456 : DD cX0_init 456 3 459 (.sipush 600) := ⟨by decide +kernel, rfl⟩
theorem DX0_init_459 : DD cX0_init 459 2 461 (.newarray .int) := ⟨by decide +kernel, rfl⟩
theorem DX0_init_461 : DD cX0_init 461 3 464 (.putfield 281) := ⟨by decide +kernel, rfl⟩
theorem DX0_init_464 : DD cX0_init 464 1 465 (.aload_n 0) := ⟨by decide +kernel, rfl⟩
theorem DX0_init_465 : DD cX0_init 465 3 468 (.sipush 600) := ⟨by decide +kernel, rfl⟩
theorem DX0_init_468 : DD cX0_init 468 2 470 (.newarray .long) := ⟨by decide +kernel, rfl⟩
theorem DX0_init_470 : DD cX0_init 470 3 473 (.putfield 284) := ⟨by decide +kernel, rfl⟩
theorem DX0_init_473 : DD cX0_init 473 1 474 (.aload_n 0) := ⟨by decide +kernel, rfl⟩
theorem DX0_init_474 : DD cX0_init 474 3 477 (.sipush 600) := ⟨by decide +kernel, rfl⟩
theorem DX0_init_477 : DD cX0_init 477 2 479 (.newarray .long) := ⟨by decide +kernel, rfl⟩
theorem DX0_init_479 : DD cX0_init 479 3 482 (.putfield 287) := ⟨by decide +kernel, rfl⟩
theorem DX0_init_482 : DD cX0_init 482 1 483 (.aload_n 0) := ⟨by decide +kernel, rfl⟩
theorem DX0_init_483 : DD cX0_init 483 3 486 (.sipush 600) := ⟨by decide +kernel, rfl⟩
theorem DX0_init_486 : DD cX0_init 486 2 488 (.newarray .boolean) := ⟨by decide +kernel, rfl⟩
theorem DX0_init_488 : DD cX0_init 488 3 491 (.putfield 290) := ⟨by decide +kernel, rfl⟩
theorem DX0_init_491 : DD cX0_init 491 1 492 (.aload_n 0) := ⟨by decide +kernel, rfl⟩
theorem DX0_init_492 : DD cX0_init 492 3 495 (.sipush 6000) := ⟨by decide +kernel, rfl⟩
theorem DX0_init_495 : DD cX0_init 495 2 497 (.newarray .int) := ⟨by decide +kernel, rfl⟩
theorem DX0_init_497 : DD cX0_init 497 3 500 (.putfield 293) := ⟨by decide +kernel, rfl⟩
theorem DX0_init_500 : DD cX0_init 500 1 501 (.aload_n 0) := ⟨by decide +kernel, rfl⟩
theorem DX0_init_501 : DD cX0_init 501 3 504 (.sipush 6000) := ⟨by decide +kernel, rfl⟩
theorem DX0_init_504 : DD cX0_init 504 2 506 (.newarray .int) := ⟨by decide +kernel, rfl⟩
theorem DX0_init_506 : DD cX0_init 506 3 509 (.putfield 296) := ⟨by decide +kernel, rfl⟩
theorem DX0_init_509 : DD cX0_init 509 1 510 (.aload_n 0) := ⟨by decide +kernel, rfl⟩
theorem DX0_init_510 : DD cX0_init 510 3 513 (.sipush 6000) := ⟨by decide +kernel, rfl⟩
theorem DX0_init_513 : DD cX0_init 513 2 515 (.newarray .int) := ⟨by decide +kernel, rfl⟩
theorem DX0_init_515 : DD cX0_init 515 3 518 (.putfield 299) := ⟨by decide +kernel, rfl⟩
theorem DX0_init_518 : DD cX0_init 518 1 519 (.aload_n 0) := ⟨by decide +kernel, rfl⟩
theorem DX0_init_519 : DD cX0_init 519 3 522 (.sipush 6000) := ⟨by decide +kernel, rfl⟩
theorem DX0_init_522 : DD cX0_init 522 2 524 (.newarray .long) := ⟨by decide +kernel, rfl⟩
theorem DX0_init_524 : DD cX0_init 524 3 527 (.putfield 302) := ⟨by decide +kernel, rfl⟩
theorem DX0_init_527 : DD cX0_init 527 1 528 (.aload_n 0) := ⟨by decide +kernel, rfl⟩
theorem DX0_init_528 : DD cX0_init 528 3 531 (.sipush 6000) := ⟨by decide +kernel, rfl⟩
theorem DX0_init_531 : DD cX0_init 531 2 533 (.newarray .int) := ⟨by decide +kernel, rfl⟩
theorem DX0_init_533 : DD cX0_init 533 3 536 (.putfield 305) := ⟨by decide +kernel, rfl⟩
theorem DX0_init_536 : DD cX0_init 536 1 537 (.aload_n 0) := ⟨by decide +kernel, rfl⟩
theorem DX0_init_537 : DD cX0_init 537 3 540 (.sipush 6000) := ⟨by decide +kernel, rfl⟩
theorem DX0_init_540 : DD cX0_init 540 2 542 (.newarray .int) := ⟨by decide +kernel, rfl⟩
theorem DX0_init_542 : DD cX0_init 542 3 545 (.putfield 308) := ⟨by decide +kernel, rfl⟩
theorem DX0_init_545 : DD cX0_init 545 1 546 (.aload_n 0) := ⟨by decide +kernel, rfl⟩
theorem DX0_init_546 : DD cX0_init 546 2 548 (.ldc 216) := ⟨by decide +kernel, rfl⟩
theorem DX0_init_548 : DD cX0_init 548 2 550 (.newarray .int) := ⟨by decide +kernel, rfl⟩
theorem DX0_init_550 : DD cX0_init 550 3 553 (.putfield 311) := ⟨by decide +kernel, rfl⟩
theorem DX0_init_553 : DD cX0_init 553 1 554 (.aload_n 0) := ⟨by decide +kernel, rfl⟩
theorem DX0_init_554 : DD cX0_init 554 3 557 (.sipush 6000) := ⟨by decide +kernel, rfl⟩
theorem DX0_init_557 : DD cX0_init 557 2 559 (.newarray .int) := ⟨by decide +kernel, rfl⟩
theorem DX0_init_559 : DD cX0_init 559 3 562 (.putfield 314) := ⟨by decide +kernel, rfl⟩
theorem DX0_init_562 : DD cX0_init 562 1 563 (.aload_n 0) := ⟨by decide +kernel, rfl⟩
theorem DX0_init_563 : DD cX0_init 563 2 565 (.bipush 11) := ⟨by decide +kernel, rfl⟩
theorem DX0_init_565 : DD cX0_init 565 2 567 (.newarray .int) := ⟨by decide +kernel, rfl⟩
theorem DX0_init_567 : DD cX0_init 567 3 570 (.putfield 317) := ⟨by decide +kernel, rfl⟩
theorem DX0_init_570 : DD cX0_init 570 1 571 (.aload_n 0) := ⟨by decide +kernel, rfl⟩
theorem DX0_init_571 : DD cX0_init 571 2 573 (.bipush 11) := ⟨by decide +kernel, rfl⟩
theorem DX0_init_573 : DD cX0_init 573 2 575 (.newarray .int) := ⟨by decide +kernel, rfl⟩
theorem DX0_init_575 : DD cX0_init 575 3 578 (.putfield 320) := ⟨by decide +kernel, rfl⟩
theorem DX0_init_578 : DD cX0_init 578 1 579 (.aload_n 0) := ⟨by decide +kernel, rfl⟩
theorem DX0_init_579 : DD cX0_init 579 2 581 (.bipush 11) := ⟨by decide +kernel, rfl⟩
theorem DX0_init_581 : DD cX0_init 581 2 583 (.newarray .int) := ⟨by decide +kernel, rfl⟩
theorem DX0_init_583 : DD cX0_init 583 3 586 (.putfield 323) := ⟨by decide +kernel, rfl⟩
theorem DX0_init_586 : DD cX0_init 586 1 587 (.aload_n 0) := ⟨by decide +kernel, rfl⟩
theorem DX0_init_587 : DD cX0_init 587 3 590 (.sipush 200) := ⟨by decide +kernel, rfl⟩
theorem DX0_init_590 : DD cX0_init 590 2 592 (.newarray .byte) := ⟨by decide +kernel, rfl⟩
theorem DX0_init_592 : DD cX0_init 592 3 595 (.putfield 326) := ⟨by decide +kernel, rfl⟩
theorem DX0_init_595 : DD cX0_init 595 1 596 (.aload_n 0) := ⟨by decide +kernel, rfl⟩
theorem DX0_init_596 : DD cX0_init 596 2 598 (.bipush 10) := ⟨by decide +kernel, rfl⟩
theorem DX0_init_598 : DD cX0_init 598 2 600 (.newarray .int) := ⟨by decide +kernel, rfl⟩
theorem DX0_init_600 : DD cX0_init 600 3 603 (.putfield 329) := ⟨by decide +kernel, rfl⟩
theorem DX0_init_603 : DD cX0_init 603 1 604 (.aload_n 0) := ⟨by decide +kernel, rfl⟩
theorem DX0_init_604 : DD cX0_init 604 2 606 (.ldc 216) := ⟨by decide +kernel, rfl⟩
theorem DX0_init_606 : DD cX0_init 606 2 608 (.newarray .int) := ⟨by decide +kernel, rfl⟩
theorem DX0_init_608 : DD cX0_init 608 3 611 (.putfield 332) := ⟨by decide +kernel, rfl⟩
theorem DX0_init_611 : DD cX0_init 611 1 612 (.aload_n 0) := ⟨by decide +kernel, rfl⟩
theorem DX0_init_612 : DD cX0_init 612 2 614 (.bipush 6) := ⟨by decide +kernel, rfl⟩
theorem DX0_init_614 : DD cX0_init 614 2 616 (.newarray .int) := ⟨by decide +kernel, rfl⟩
theorem DX0_init_616 : DD cX0_init 616 3 619 (.putfield 335) := ⟨by decide +kernel, rfl⟩
theorem DX0_init_619 : DD cX0_init 619 1 620 (.aload_n 0) := ⟨by decide +kernel, rfl⟩
theorem DX0_init_620 : DD cX0_init 620 2 622 (.bipush 6) := ⟨by decide +kernel, rfl⟩
theorem DX0_init_622 : DD cX0_init 622 2 624 (.newarray .long) := ⟨by decide +kernel, rfl⟩
theorem DX0_init_624 : DD cX0_init 624 3 627 (.putfield 338) := ⟨by decide +kernel, rfl⟩
theorem DX0_init_627 : DD cX0_init 627 1 628 (.aload_n 0) := ⟨by decide +kernel, rfl⟩
theorem DX0_init_628 : DD cX0_init 628 2 630 (.bipush 20) := ⟨by decide +kernel, rfl⟩
theorem DX0_init_630 : DD cX0_init 630 2 632 (.newarray .int) := ⟨by decide +kernel, rfl⟩
theorem DX0_init_632 : DD cX0_init 632 3 635 (.putfield 341) := ⟨by decide +kernel, rfl⟩
theorem DX0_init_635 : DD cX0_init 635 1 636 (.aload_n 0) := ⟨by decide +kernel, rfl⟩
theorem DX0_init_636 : DD cX0_init 636 1 637 (.iconst 1) := ⟨by decide +kernel, rfl⟩
theorem DX0_init_637 : DD cX0_init 637 3 640 (.putfield 344) := ⟨by decide +kernel, rfl⟩
theorem DX0_init_640 : DD cX0_init 640 1 641 (.aload_n 0) := ⟨by decide +kernel, rfl⟩
theorem DX0_init_641 : DD cX0_init 641 1 642 (.iconst 1) := ⟨by decide +kernel, rfl⟩
theorem DX0_init_642 : DD cX0_init 642 3 645 (.putfield 347) := ⟨by decide +kernel, rfl⟩
theorem DX0_init_645 : DD cX0_init 645 1 646 (.aload_n 0) := ⟨by decide +kernel, rfl⟩
theorem DX0_init_646 : DD cX0_init 646 2 648 (.bipush 8) := ⟨by decide +kernel, rfl⟩
theorem DX0_init_648 : DD cX0_init 648 2 650 (.newarray .boolean) := ⟨by decide +kernel, rfl⟩
theorem DX0_init_650 : DD cX0_init 650 3 653 (.putfield 350) := ⟨by decide +kernel, rfl⟩
theorem DX0_init_653 : DD cX0_init 653 1 654 (.aload_n 0) := ⟨by decide +kernel, rfl⟩
theorem DX0_init_654 : DD cX0_init 654 2 656 (.bipush 8) := ⟨by decide +kernel, rfl⟩
theorem DX0_init_656 : DD cX0_init 656 2 658 (.newarray .int) := ⟨by decide +kernel, rfl⟩
theorem DX0_init_658 : DD cX0_init 658 3 661 (.putfield 353) := ⟨by decide +kernel, rfl⟩
theorem DX0_init_661 : DD cX0_init 661 1 662 (.aload_n 0) := ⟨by decide +kernel, rfl⟩
theorem DX0_init_662 : DD cX0_init 662 3 665 (.sipush 30000) := ⟨by decide +kernel, rfl⟩
theorem DX0_init_665 : DD cX0_init 665 2 667 (.newarray .byte) := ⟨by decide +kernel, rfl⟩
theorem DX0_init_667 : DD cX0_init 667 3 670 (.putfield 356) := ⟨by decide +kernel, rfl⟩
theorem DX0_init_670 : DD cX0_init 670 1 671 (.aload_n 0) := ⟨by decide +kernel, rfl⟩
theorem DX0_init_671 : DD cX0_init 671 3 674 (.sipush 30000) := ⟨by decide +kernel, rfl⟩
theorem DX0_init_674 : DD cX0_init 674 2 676 (.newarray .byte) := ⟨by decide +kernel, rfl⟩
theorem DX0_init_676 : DD cX0_init 676 3 679 (.putfield 359) := ⟨by decide +kernel, rfl⟩
theorem DX0_init_679 : DD cX0_init 679 1 680 (.aload_n 0) := ⟨by decide +kernel, rfl⟩
theorem DX0_init_680 : DD cX0_init 680 3 683 (.new 362) := ⟨by decide +kernel, rfl⟩
theorem DX0_init_683 : DD cX0_init 683 1 684 (.dup) := ⟨by decide +kernel, rfl⟩
theorem DX0_init_684 : DD cX0_init 684 1 685 (.aload_n 0) := ⟨by decide +kernel, rfl⟩
theorem DX0_init_685 : DD cX0_init 685 3 688 (.invokespecial 364) := ⟨by decide +kernel, rfl⟩
theorem DX0_init_688 : DD cX0_init 688 3 691 (.putfield 365) := ⟨by decide +kernel, rfl⟩
theorem DX0_init_691 : DD cX0_init 691 1 692 (.aload_n 0) := ⟨by decide +kernel, rfl⟩
theorem DX0_init_692 : DD cX0_init 692 3 695 (.getfield 139) := ⟨by decide +kernel, rfl⟩
theorem DX0_init_695 : DD cX0_init 695 3 698 (.invokevirtual 369) := ⟨by decide +kernel, rfl⟩
theorem DX0_init_698 : DD cX0_init 698 1 699 (.iconst 0) := ⟨by decide +kernel, rfl⟩
theorem DX0_init_699 : DD cX0_init 699 1 700 (.istore_n 1) := ⟨by decide +kernel, rfl⟩
theorem DX0_init_700 : DD cX0_init 700 1 701 (.iload_n 1) := ⟨by decide +kernel, rfl⟩
theorem DX0_init_701 : DD cX0_init 701 1 702 (.iconst 4) := ⟨by decide +kernel, rfl⟩
theorem DX0_init_702 : DD cX0_init 702 3 705 (.if_icmp .ge 22) := ⟨by decide +kernel, rfl⟩
theorem DX0_init_705 : DD cX0_init 705 1 706 (.aload_n 0) := ⟨by decide +kernel, rfl⟩
theorem DX0_init_706 : DD cX0_init 706 3 709 (.getfield 222) := ⟨by decide +kernel, rfl⟩
theorem DX0_init_709 : DD cX0_init 709 1 710 (.iload_n 1) := ⟨by decide +kernel, rfl⟩
theorem DX0_init_710 : DD cX0_init 710 3 713 (.new 220) := ⟨by decide +kernel, rfl⟩
theorem DX0_init_713 : DD cX0_init 713 1 714 (.dup) := ⟨by decide +kernel, rfl⟩
theorem DX0_init_714 : DD cX0_init 714 3 717 (.invokespecial 372) := ⟨by decide +kernel, rfl⟩
theorem DX0_init_717 : DD cX0_init 717 1 718 (.aastore) := ⟨by decide +kernel, rfl⟩
theorem DX0_init_718 : DD cX0_init 718 3 721 (.iinc 1 1) := ⟨by decide +kernel, rfl⟩
theorem DX0_init_721 : decode cX0_init 721 = .ok (.goto (-21), 3) := by decide +kernel
theorem DX0_init_724 : DD cX0_init 724 1 725 (.iconst 0) := ⟨by decide +kernel, rfl⟩
theorem DX0_init_725 : DD cX0_init 725 1 726 (.istore_n 1) := ⟨by decide +kernel, rfl⟩
theorem DX0_init_726 : DD cX0_init 726 1 727 (.iload_n 1) := ⟨by decide +kernel, rfl⟩
theorem DX0_init_727 : DD cX0_init 727 2 729 (.bipush 20) := ⟨by decide +kernel, rfl⟩
theorem DX0_init_729 : DD cX0_init 729 3 732 (.if_icmp .ge 22) := ⟨by decide +kernel, rfl⟩
theorem DX0_init_732 : DD cX0_init 732 1 733 (.aload_n 0) := ⟨by decide +kernel, rfl⟩
theorem DX0_init_733 : DD cX0_init 733 3 736 (.getfield 236) := ⟨by decide +kernel, rfl⟩
theorem DX0_init_736 : DD cX0_init 736 1 737 (.iload_n 1) := ⟨by decide +kernel, rfl⟩
theorem DX0_init_737 : DD cX0_init 737 3 740 (.new 226) := ⟨by decide +kernel, rfl⟩
theorem DX0_init_740 : DD cX0_init 740 1 741 (.dup) := ⟨by decide +kernel, rfl⟩
theorem DX0_init_741 : DD cX0_init 741 3 744 (.invokespecial 228) := ⟨by decide +kernel, rfl⟩
theorem DX0_init_744 : DD cX0_init 744 1 745 (.aastore) := ⟨by decide +kernel, rfl⟩
theorem DX0_init_745 : DD cX0_init 745 3 748 (.iinc 1 1) := ⟨by decide +kernel, rfl⟩
theorem DX0_init_748 : decode cX0_init 748 = .ok (.goto (-22), 3) := by decide +kernel
theorem DX0_init_751 : DD cX0_init 751 1 752 (.return_) := ⟨by decide +kernel, rfl⟩
def cX2 : List (Nat × Nat × Nat × Nat) := (0, 1, 30000, 1) :: cX1
theorem wcX2 : WF 2 30104 cX2 := ⟨rfl, by decide, wcX1⟩
def cX3 : List (Nat × Nat × Nat × Nat) := (1, 0, 0, 1) :: cX2
theorem wcX3 : WF 2 30104 cX3 := ⟨by decide, wcX2⟩
def cX4 : List (Nat × Nat × Nat × Nat) := (0, 1, 30000, 2) :: cX3
theorem wcX4 : WF 3 60104 cX4 := ⟨rfl, by decide, wcX3⟩
def cX5 : List (Nat × Nat × Nat × Nat) := (1, 0, 2, 2) :: cX4
theorem wcX5 : WF 3 60104 cX5 := ⟨by decide, wcX4⟩
def cX6 : List (Nat × Nat × Nat × Nat) := (0, 5, 6, 3) :: cX5
theorem wcX6 : WF 4 60110 cX6 := ⟨rfl, by decide, wcX5⟩
def cX7 : List (Nat × Nat × Nat × Nat) := (1, 0, 3, 3) :: cX6
theorem wcX7 : WF 4 60110 cX7 := ⟨by decide, wcX6⟩
def cX8 : List (Nat × Nat × Nat × Nat) := (0, 101, 6, 4) :: cX7
theorem wcX8 : WF 5 60116 cX8 := ⟨rfl, by decide, wcX7⟩
theorem DX1_init_0 : DD cX1_init 0 1 1 (.aload_n 0) := ⟨by decide +kernel, rfl⟩
theorem DX1_init_1 : DD cX1_init 1 3 4 (.invokespecial 3) := ⟨by decide +kernel, rfl⟩
theorem DX1_init_4 : DD cX1_init 4 1 5 (.aload_n 0) := ⟨by decide +kernel, rfl⟩
theorem DX1_init_5 : DD cX1_init 5 3 8 (.sipush 5000) := ⟨by decide +kernel, rfl⟩
theorem DX1_init_8 : DD cX1_init 8 2 10 (.newarray .byte) := ⟨by decide +kernel, rfl⟩
theorem DX1_init_10 : DD cX1_init 10 3 13 (.putfield 9) := ⟨by decide +kernel, rfl⟩
theorem DX1_init_13 : DD cX1_init 13 1 14 (.aload_n 0) := ⟨by decide +kernel, rfl⟩
theorem DX1_init_14 : DD cX1_init 14 3 17 (.sipush 250) := ⟨by decide +kernel, rfl⟩
theorem DX1_init_17 : DD cX1_init 17 2 19 (.newarray .int) := ⟨by decide +kernel, rfl⟩
theorem DX1_init_19 : DD cX1_init 19 3 22 (.putfield 15) := ⟨by decide +kernel, rfl⟩
theorem DX1_init_22 : DD cX1_init 22 1 23 (.aload_n 0) := ⟨by decide +kernel, rfl⟩
theorem DX1_init_23 : DD cX1_init 23 3 26 (.sipush 250) := ⟨by decide +kernel, rfl⟩
theorem DX1_init_26 : DD cX1_init 26 2 28 (.newarray .int) := ⟨by decide +kernel, rfl⟩
theorem DX1_init_28 : DD cX1_init 28 3 31 (.putfield 19) := ⟨by decide +kernel, rfl⟩
theorem DX1_init_31 : DD cX1_init 31 1 32 (.aload_n 0) := ⟨by decide +kernel, rfl⟩
theorem DX1_init_32 : DD cX1_init 32 3 35 (.sipush 250) := ⟨by decide +kernel, rfl⟩
theorem DX1_init_35 : DD cX1_init 35 2 37 (.newarray .int) := ⟨by decide +kernel, rfl⟩
theorem DX1_init_37 : DD cX1_init 37 3 40 (.putfield 22) := ⟨by decide +kernel, rfl⟩
theorem DX1_init_40 : DD cX1_init 40 1 41 (.aload_n 0) := ⟨by decide +kernel, rfl⟩
theorem DX1_init_41 : DD cX1_init 41 3 44 (.sipush 250) := ⟨by decide +kernel, rfl⟩
theorem DX1_init_44 : DD cX1_init 44 2 46 (.newarray .int) := ⟨by decide +kernel, rfl⟩
theorem DX1_init_46 : DD cX1_init 46 3 49 (.putfield 25) := ⟨by decide +kernel, rfl⟩
theorem DX1_init_49 : DD cX1_init 49 1 50 (.return_) := ⟨by decide +kernel, rfl⟩
def cX9 : List (Nat × Nat × Nat × Nat) := (0, 1, 5000, 5) :: cX8
theorem wcX9 : WF 6 65116 cX9 := ⟨rfl, by decide, wcX8⟩
def cX10 : List (Nat × Nat × Nat × Nat) := (1, 4, 0, 5) :: cX9
theorem wcX10 : WF 6 65116 cX10 := ⟨by decide, wcX9⟩
def cX11 : List (Nat × Nat × Nat × Nat) := (0, 0, 250, 6) :: cX10
theorem wcX11 : WF 7 65366 cX11 := ⟨rfl, by decide, wcX10⟩
def cX12 : List (Nat × Nat × Nat × Nat) := (1, 4, 1, 6) :: cX11
theorem wcX12 : WF 7 65366 cX12 := ⟨by decide, wcX11⟩
def cX13 : List (Nat × Nat × Nat × Nat) := (0, 0, 250, 7) :: cX12
theorem wcX13 : WF 8 65616 cX13 := ⟨rfl, by decide, wcX12⟩
def cX14 : List (Nat × Nat × Nat × Nat) := (1, 4, 2, 7) :: cX13
theorem wcX14 : WF 8 65616 cX14 := ⟨by decide, wcX13⟩
def cX15 : List (Nat × Nat × Nat × Nat) := (0, 0, 250, 8) :: cX14
theorem wcX15 : WF 9 65866 cX15 := ⟨rfl, by decide, wcX14⟩
def cX16 : List (Nat × Nat × Nat × Nat) := (1, 4, 3, 8) :: cX15
theorem wcX16 : WF 9 65866 cX16 := ⟨by decide, wcX15⟩
def cX17 : List (Nat × Nat × Nat × Nat) := (0, 0, 250, 9) :: cX16
theorem wcX17 : WF 10 66116 cX17 := ⟨rfl, by decide, wcX16⟩
def cX18 : List (Nat × Nat × Nat × Nat) := (1, 4, 4, 9) :: cX17
theorem wcX18 : WF 10 66116 cX18 := ⟨by decide, wcX17⟩
theorem ct_X0_1 {E : XE} {d : Nat} (hd : 2 ≤ d) : CC E mX1_init d [aO 4] (crun cX8 e00) (RV (fun τ => τ = crun cX18 e00)) := by
  refine v_aload_n 0 DX1_init_0 rfl rfl ?_
  refine v_objInit DX1_init_1 q627 q309 q310 (by omega) (by decide) ?_
  refine v_aload_n 0 DX1_init_4 rfl rfl ?_
  refine v_sipush DX1_init_5 (by decide) ?_
  refine v_newa (t := 1) (z := 5000) DX1_init_8 rfl (by decide) q336 rfl (by decide) (cn_ok wcX8 (by decide)) (cz_ok wcX8 (by decide)) ?_
  rw [cnn wcX8]
  show VV E mX1_init d 10 _ _ (crun cX9 e00) _
  refine v_putR (ci := 1) (kf := 0) (z := 6) DX1_init_10 (csh wcX9 (by decide +kernel)) rfl (by decide) (Or.inr (Or.inr ⟨rfl, rfl, rfl, q628⟩)) (fun _ _ => rfl) rfl rfl (Or.inr (cR wcX9 (by decide +kernel))) ?_
  show VV E mX1_init d 13 _ _ (crun cX10 e00) _
  refine v_aload_n 0 DX1_init_13 rfl rfl ?_
  refine v_sipush DX1_init_14 (by decide) ?_
  refine v_newa (t := 0) (z := 250) DX1_init_17 rfl (by decide) q337 rfl (by decide) (cn_ok wcX10 (by decide)) (cz_ok wcX10 (by decide)) ?_
  rw [cnn wcX10]
  show VV E mX1_init d 19 _ _ (crun cX11 e00) _
  refine v_putR (ci := 1) (kf := 1) (z := 6) DX1_init_19 (csh wcX11 (by decide +kernel)) rfl (by decide) (Or.inr (Or.inr ⟨rfl, rfl, rfl, q631⟩)) (fun _ _ => rfl) rfl rfl (Or.inr (cR wcX11 (by decide +kernel))) ?_
  show VV E mX1_init d 22 _ _ (crun cX12 e00) _
  refine v_aload_n 0 DX1_init_22 rfl rfl ?_
  refine v_sipush DX1_init_23 (by decide) ?_
  refine v_newa (t := 0) (z := 250) DX1_init_26 rfl (by decide) q337 rfl (by decide) (cn_ok wcX12 (by decide)) (cz_ok wcX12 (by decide)) ?_
  rw [cnn wcX12]
  show VV E mX1_init d 28 _ _ (crun cX13 e00) _
  refine v_putR (ci := 1) (kf := 2) (z := 6) DX1_init_28 (csh wcX13 (by decide +kernel)) rfl (by decide) (Or.inr (Or.inr ⟨rfl, rfl, rfl, q634⟩)) (fun _ _ => rfl) rfl rfl (Or.inr (cR wcX13 (by decide +kernel))) ?_
  show VV E mX1_init d 31 _ _ (crun cX14 e00) _
  refine v_aload_n 0 DX1_init_31 rfl rfl ?_
  refine v_sipush DX1_init_32 (by decide) ?_
  refine v_newa (t := 0) (z := 250) DX1_init_35 rfl (by decide) q337 rfl (by decide) (cn_ok wcX14 (by decide)) (cz_ok wcX14 (by decide)) ?_
  rw [cnn wcX14]
  show VV E mX1_init d 37 _ _ (crun cX15 e00) _
  refine v_putR (ci := 1) (kf := 3) (z := 6) DX1_init_37 (csh wcX15 (by decide +kernel)) rfl (by decide) (Or.inr (Or.inr ⟨rfl, rfl, rfl, q636⟩)) (fun _ _ => rfl) rfl rfl (Or.inr (cR wcX15 (by decide +kernel))) ?_
  show VV E mX1_init d 40 _ _ (crun cX16 e00) _
  refine v_aload_n 0 DX1_init_40 rfl rfl ?_
  refine v_sipush DX1_init_41 (by decide) ?_
  refine v_newa (t := 0) (z := 250) DX1_init_44 rfl (by decide) q337 rfl (by decide) (cn_ok wcX16 (by decide)) (cz_ok wcX16 (by decide)) ?_
  rw [cnn wcX16]
  show VV E mX1_init d 46 _ _ (crun cX17 e00) _
  refine v_putR (ci := 1) (kf := 4) (z := 6) DX1_init_46 (csh wcX17 (by decide +kernel)) rfl (by decide) (Or.inr (Or.inr ⟨rfl, rfl, rfl, q638⟩)) (fun _ _ => rfl) rfl rfl (Or.inr (cR wcX17 (by decide +kernel))) ?_
  show VV E mX1_init d 49 _ _ (crun cX18 e00) _
  exact v_vret DX1_init_49 rfl (RV_mk rfl)
def cX19 : List (Nat × Nat × Nat × Nat) := (1, 0, 5, 4) :: cX18
theorem wcX19 : WF 10 66116 cX19 := ⟨by decide, wcX18⟩
def cX20 : List (Nat × Nat × Nat × Nat) := (0, 101, 6, 10) :: cX19
theorem wcX20 : WF 11 66122 cX20 := ⟨rfl, by decide, wcX19⟩
def cX21 : List (Nat × Nat × Nat × Nat) := (0, 1, 5000, 11) :: cX20
theorem wcX21 : WF 12 71122 cX21 := ⟨rfl, by decide, wcX20⟩
def cX22 : List (Nat × Nat × Nat × Nat) := (1, 10, 0, 11) :: cX21
theorem wcX22 : WF 12 71122 cX22 := ⟨by decide, wcX21⟩
def cX23 : List (Nat × Nat × Nat × Nat) := (0, 0, 250, 12) :: cX22
theorem wcX23 : WF 13 71372 cX23 := ⟨rfl, by decide, wcX22⟩
def cX24 : List (Nat × Nat × Nat × Nat) := (1, 10, 1, 12) :: cX23
theorem wcX24 : WF 13 71372 cX24 := ⟨by decide, wcX23⟩
def cX25 : List (Nat × Nat × Nat × Nat) := (0, 0, 250, 13) :: cX24
theorem wcX25 : WF 14 71622 cX25 := ⟨rfl, by decide, wcX24⟩
def cX26 : List (Nat × Nat × Nat × Nat) := (1, 10, 2, 13) :: cX25
theorem wcX26 : WF 14 71622 cX26 := ⟨by decide, wcX25⟩
def cX27 : List (Nat × Nat × Nat × Nat) := (0, 0, 250, 14) :: cX26
theorem wcX27 : WF 15 71872 cX27 := ⟨rfl, by decide, wcX26⟩
def cX28 : List (Nat × Nat × Nat × Nat) := (1, 10, 3, 14) :: cX27
theorem wcX28 : WF 15 71872 cX28 := ⟨by decide, wcX27⟩
def cX29 : List (Nat × Nat × Nat × Nat) := (0, 0, 250, 15) :: cX28
theorem wcX29 : WF 16 72122 cX29 := ⟨rfl, by decide, wcX28⟩
def cX30 : List (Nat × Nat × Nat × Nat) := (1, 10, 4, 15) :: cX29
theorem wcX30 : WF 16 72122 cX30 := ⟨by decide, wcX29⟩
theorem ct_X0_2 {E : XE} {d : Nat} (hd : 2 ≤ d) : CC E mX1_init d [aO 10] (crun cX20 e00) (RV (fun τ => τ = crun cX30 e00)) := by
  refine v_aload_n 0 DX1_init_0 rfl rfl ?_
  refine v_objInit DX1_init_1 q627 q309 q310 (by omega) (by decide) ?_
  refine v_aload_n 0 DX1_init_4 rfl rfl ?_
  refine v_sipush DX1_init_5 (by decide) ?_
  refine v_newa (t := 1) (z := 5000) DX1_init_8 rfl (by decide) q336 rfl (by decide) (cn_ok wcX20 (by decide)) (cz_ok wcX20 (by decide)) ?_
  rw [cnn wcX20]
  show VV E mX1_init d 10 _ _ (crun cX21 e00) _
  refine v_putR (ci := 1) (kf := 0) (z := 6) DX1_init_10 (csh wcX21 (by decide +kernel)) rfl (by decide) (Or.inr (Or.inr ⟨rfl, rfl, rfl, q628⟩)) (fun _ _ => rfl) rfl rfl (Or.inr (cR wcX21 (by decide +kernel))) ?_
  show VV E mX1_init d 13 _ _ (crun cX22 e00) _
  refine v_aload_n 0 DX1_init_13 rfl rfl ?_
  refine v_sipush DX1_init_14 (by decide) ?_
  refine v_newa (t := 0) (z := 250) DX1_init_17 rfl (by decide) q337 rfl (by decide) (cn_ok wcX22 (by decide)) (cz_ok wcX22 (by decide)) ?_
  rw [cnn wcX22]
  show VV E mX1_init d 19 _ _ (crun cX23 e00) _
  refine v_putR (ci := 1) (kf := 1) (z := 6) DX1_init_19 (csh wcX23 (by decide +kernel)) rfl (by decide) (Or.inr (Or.inr ⟨rfl, rfl, rfl, q631⟩)) (fun _ _ => rfl) rfl rfl (Or.inr (cR wcX23 (by decide +kernel))) ?_
  show VV E mX1_init d 22 _ _ (crun cX24 e00) _
  refine v_aload_n 0 DX1_init_22 rfl rfl ?_
  refine v_sipush DX1_init_23 (by decide) ?_
  refine v_newa (t := 0) (z := 250) DX1_init_26 rfl (by decide) q337 rfl (by decide) (cn_ok wcX24 (by decide)) (cz_ok wcX24 (by decide)) ?_
  rw [cnn wcX24]
  show VV E mX1_init d 28 _ _ (crun cX25 e00) _
  refine v_putR (ci := 1) (kf := 2) (z := 6) DX1_init_28 (csh wcX25 (by decide +kernel)) rfl (by decide) (Or.inr (Or.inr ⟨rfl, rfl, rfl, q634⟩)) (fun _ _ => rfl) rfl rfl (Or.inr (cR wcX25 (by decide +kernel))) ?_
  show VV E mX1_init d 31 _ _ (crun cX26 e00) _
  refine v_aload_n 0 DX1_init_31 rfl rfl ?_
  refine v_sipush DX1_init_32 (by decide) ?_
  refine v_newa (t := 0) (z := 250) DX1_init_35 rfl (by decide) q337 rfl (by decide) (cn_ok wcX26 (by decide)) (cz_ok wcX26 (by decide)) ?_
  rw [cnn wcX26]
  show VV E mX1_init d 37 _ _ (crun cX27 e00) _
  refine v_putR (ci := 1) (kf := 3) (z := 6) DX1_init_37 (csh wcX27 (by decide +kernel)) rfl (by decide) (Or.inr (Or.inr ⟨rfl, rfl, rfl, q636⟩)) (fun _ _ => rfl) rfl rfl (Or.inr (cR wcX27 (by decide +kernel))) ?_
  show VV E mX1_init d 40 _ _ (crun cX28 e00) _
  refine v_aload_n 0 DX1_init_40 rfl rfl ?_
  refine v_sipush DX1_init_41 (by decide) ?_
  refine v_newa (t := 0) (z := 250) DX1_init_44 rfl (by decide) q337 rfl (by decide) (cn_ok wcX28 (by decide)) (cz_ok wcX28 (by decide)) ?_
  rw [cnn wcX28]
  show VV E mX1_init d 46 _ _ (crun cX29 e00) _
  refine v_putR (ci := 1) (kf := 4) (z := 6) DX1_init_46 (csh wcX29 (by decide +kernel)) rfl (by decide) (Or.inr (Or.inr ⟨rfl, rfl, rfl, q638⟩)) (fun _ _ => rfl) rfl rfl (Or.inr (cR wcX29 (by decide +kernel))) ?_
  show VV E mX1_init d 49 _ _ (crun cX30 e00) _
  exact v_vret DX1_init_49 rfl (RV_mk rfl)
def cX31 : List (Nat × Nat × Nat × Nat) := (1, 0, 6, 10) :: cX30
theorem wcX31 : WF 16 72122 cX31 := ⟨by decide, wcX30⟩
def cX32 : List (Nat × Nat × Nat × Nat) := (0, 0, 12, 16) :: cX31
theorem wcX32 : WF 17 72134 cX32 := ⟨rfl, by decide, wcX31⟩
def cX33 : List (Nat × Nat × Nat × Nat) := (1, 0, 7, 16) :: cX32
theorem wcX33 : WF 17 72134 cX33 := ⟨by decide, wcX32⟩
def cX34 : List (Nat × Nat × Nat × Nat) := (0, 0, 12, 17) :: cX33
theorem wcX34 : WF 18 72146 cX34 := ⟨rfl, by decide, wcX33⟩
def cX35 : List (Nat × Nat × Nat × Nat) := (1, 0, 8, 17) :: cX34
theorem wcX35 : WF 18 72146 cX35 := ⟨by decide, wcX34⟩
def cX36 : List (Nat × Nat × Nat × Nat) := (0, 102, 9, 18) :: cX35
theorem wcX36 : WF 19 72155 cX36 := ⟨rfl, by decide, wcX35⟩
theorem DX2_init_0 : DD cX2_init 0 1 1 (.aload_n 0) := ⟨by decide +kernel, rfl⟩
theorem DX2_init_1 : DD cX2_init 1 1 2 (.aload_n 1) := ⟨by decide +kernel, rfl⟩
theorem DX2_init_2 : DD cX2_init 2 3 5 (.putfield 3) := ⟨by decide +kernel, rfl⟩
theorem DX2_init_5 : DD cX2_init 5 1 6 (.aload_n 0) := ⟨by decide +kernel, rfl⟩
theorem DX2_init_6 : DD cX2_init 6 3 9 (.invokespecial 9) := ⟨by decide +kernel, rfl⟩
theorem DX2_init_9 : DD cX2_init 9 1 10 (.aload_n 0) := ⟨by decide +kernel, rfl⟩
theorem DX2_init_10 : DD cX2_init 10 2 12 (.ldc 15) := ⟨by decide +kernel, rfl⟩
theorem DX2_init_12 : DD cX2_init 12 2 14 (.newarray .byte) := ⟨by decide +kernel, rfl⟩
theorem DX2_init_14 : DD cX2_init 14 3 17 (.putfield 16) := ⟨by decide +kernel, rfl⟩
theorem DX2_init_17 : DD cX2_init 17 1 18 (.aload_n 0) := ⟨by decide +kernel, rfl⟩
theorem DX2_init_18 : DD cX2_init 18 2 20 (.ldc 20) := ⟨by decide +kernel, rfl⟩
theorem DX2_init_20 : DD cX2_init 20 2 22 (.newarray .byte) := ⟨by decide +kernel, rfl⟩
theorem DX2_init_22 : DD cX2_init 22 3 25 (.putfield 21) := ⟨by decide +kernel, rfl⟩
theorem DX2_init_25 : DD cX2_init 25 1 26 (.aload_n 0) := ⟨by decide +kernel, rfl⟩
theorem DX2_init_26 : DD cX2_init 26 2 28 (.ldc 20) := ⟨by decide +kernel, rfl⟩
theorem DX2_init_28 : DD cX2_init 28 2 30 (.newarray .byte) := ⟨by decide +kernel, rfl⟩
theorem DX2_init_30 : DD cX2_init 30 3 33 (.putfield 24) := ⟨by decide +kernel, rfl⟩
theorem DX2_init_33 : DD cX2_init 33 1 34 (.aload_n 0) := ⟨by decide +kernel, rfl⟩
theorem DX2_init_34 : DD cX2_init 34 2 36 (.ldc 20) := ⟨by decide +kernel, rfl⟩
theorem DX2_init_36 : DD cX2_init 36 2 38 (.newarray .int) := ⟨by decide +kernel, rfl⟩
theorem DX2_init_38 : DD cX2_init 38 3 41 (.putfield 27) := ⟨by decide +kernel, rfl⟩
theorem DX2_init_41 : DD cX2_init 41 1 42 (.aload_n 0) := ⟨by decide +kernel, rfl⟩
theorem DX2_init_42 : DD cX2_init 42 2 44 (.ldc 20) := ⟨by decide +kernel, rfl⟩
theorem DX2_init_44 : DD cX2_init 44 2 46 (.newarray .int) := ⟨by decide +kernel, rfl⟩
theorem DX2_init_46 : DD cX2_init 46 3 49 (.putfield 31) := ⟨by decide +kernel, rfl⟩
theorem DX2_init_49 : DD cX2_init 49 1 50 (.aload_n 0) := ⟨by decide +kernel, rfl⟩
theorem DX2_init_50 : DD cX2_init 50 2 52 (.ldc 20) := ⟨by decide +kernel, rfl⟩
theorem DX2_init_52 : DD cX2_init 52 2 54 (.newarray .int) := ⟨by decide +kernel, rfl⟩
theorem DX2_init_54 : DD cX2_init 54 3 57 (.putfield 34) := ⟨by decide +kernel, rfl⟩
theorem DX2_init_57 : DD cX2_init 57 1 58 (.aload_n 0) := ⟨by decide +kernel, rfl⟩
theorem DX2_init_58 : DD cX2_init 58 3 61 (.sipush 8192) := ⟨by decide +kernel, rfl⟩
theorem DX2_init_61 : DD cX2_init 61 2 63 (.newarray .int) := ⟨by decide +kernel, rfl⟩
theorem DX2_init_63 : DD cX2_init 63 3 66 (.putfield 37) := ⟨by decide +kernel, rfl⟩
theorem DX2_init_66 : DD cX2_init 66 1 67 (.return_) := ⟨by decide +kernel, rfl⟩
def cX37 : List (Nat × Nat × Nat × Nat) := (1, 18, 8, 0) :: cX36
theorem wcX37 : WF 19 72155 cX37 := ⟨by decide, wcX36⟩
def cX38 : List (Nat × Nat × Nat × Nat) := (0, 1, 730000, 19) :: cX37
theorem wcX38 : WF 20 802155 cX38 := ⟨rfl, by decide, wcX37⟩
def cX39 : List (Nat × Nat × Nat × Nat) := (1, 18, 0, 19) :: cX38
theorem wcX39 : WF 20 802155 cX39 := ⟨by decide, wcX38⟩
def cX40 : List (Nat × Nat × Nat × Nat) := (0, 1, 36500, 20) :: cX39
theorem wcX40 : WF 21 838655 cX40 := ⟨rfl, by decide, wcX39⟩
def cX41 : List (Nat × Nat × Nat × Nat) := (1, 18, 1, 20) :: cX40
theorem wcX41 : WF 21 838655 cX41 := ⟨by decide, wcX40⟩
def cX42 : List (Nat × Nat × Nat × Nat) := (0, 1, 36500, 21) :: cX41
theorem wcX42 : WF 22 875155 cX42 := ⟨rfl, by decide, wcX41⟩
def cX43 : List (Nat × Nat × Nat × Nat) := (1, 18, 2, 21) :: cX42
theorem wcX43 : WF 22 875155 cX43 := ⟨by decide, wcX42⟩
def cX44 : List (Nat × Nat × Nat × Nat) := (0, 0, 36500, 22) :: cX43
theorem wcX44 : WF 23 911655 cX44 := ⟨rfl, by decide, wcX43⟩
def cX45 : List (Nat × Nat × Nat × Nat) := (1, 18, 3, 22) :: cX44
theorem wcX45 : WF 23 911655 cX45 := ⟨by decide, wcX44⟩
def cX46 : List (Nat × Nat × Nat × Nat) := (0, 0, 36500, 23) :: cX45
theorem wcX46 : WF 24 948155 cX46 := ⟨rfl, by decide, wcX45⟩
def cX47 : List (Nat × Nat × Nat × Nat) := (1, 18, 4, 23) :: cX46
theorem wcX47 : WF 24 948155 cX47 := ⟨by decide, wcX46⟩
def cX48 : List (Nat × Nat × Nat × Nat) := (0, 0, 36500, 24) :: cX47
theorem wcX48 : WF 25 984655 cX48 := ⟨rfl, by decide, wcX47⟩
def cX49 : List (Nat × Nat × Nat × Nat) := (1, 18, 5, 24) :: cX48
theorem wcX49 : WF 25 984655 cX49 := ⟨by decide, wcX48⟩
def cX50 : List (Nat × Nat × Nat × Nat) := (0, 0, 8192, 25) :: cX49
theorem wcX50 : WF 26 992847 cX50 := ⟨rfl, by decide, wcX49⟩
def cX51 : List (Nat × Nat × Nat × Nat) := (1, 18, 6, 25) :: cX50
theorem wcX51 : WF 26 992847 cX51 := ⟨by decide, wcX50⟩
theorem ct_X0_3 {E : XE} {d : Nat} (hd : 2 ≤ d) : CC E mX2_init d [aO 18, aO 0] (crun cX36 e00) (RV (fun τ => τ = crun cX51 e00)) := by
  refine v_aload_n 0 DX2_init_0 rfl rfl ?_
  refine v_aload_n 1 DX2_init_1 rfl rfl ?_
  refine v_putR (ci := 2) (kf := 8) (z := 9) DX2_init_2 (csh wcX36 (by decide +kernel)) rfl (by decide) (Or.inr (Or.inr ⟨rfl, rfl, rfl, q688⟩)) (fun _ _ => rfl) rfl rfl (Or.inr (cR wcX36 (by decide +kernel))) ?_
  show VV E mX2_init d 5 _ _ (crun cX37 e00) _
  refine v_aload_n 0 DX2_init_5 rfl rfl ?_
  refine v_objInit DX2_init_6 q663 q309 q310 (by omega) (by decide) ?_
  refine v_aload_n 0 DX2_init_9 rfl rfl ?_
  refine v_ldc (x := 730000) DX2_init_10 q664 rfl ?_
  refine v_newa (t := 1) (z := 730000) DX2_init_12 rfl (by decide) q336 rfl (by decide) (cn_ok wcX37 (by decide)) (cz_ok wcX37 (by decide)) ?_
  rw [cnn wcX37]
  show VV E mX2_init d 14 _ _ (crun cX38 e00) _
  refine v_putR (ci := 2) (kf := 0) (z := 9) DX2_init_14 (csh wcX38 (by decide +kernel)) rfl (by decide) (Or.inr (Or.inr ⟨rfl, rfl, rfl, q666⟩)) (fun _ _ => rfl) rfl rfl (Or.inr (cR wcX38 (by decide +kernel))) ?_
  show VV E mX2_init d 17 _ _ (crun cX39 e00) _
  refine v_aload_n 0 DX2_init_17 rfl rfl ?_
  refine v_ldc (x := 36500) DX2_init_18 q665 rfl ?_
  refine v_newa (t := 1) (z := 36500) DX2_init_20 rfl (by decide) q336 rfl (by decide) (cn_ok wcX39 (by decide)) (cz_ok wcX39 (by decide)) ?_
  rw [cnn wcX39]
  show VV E mX2_init d 22 _ _ (crun cX40 e00) _
  refine v_putR (ci := 2) (kf := 1) (z := 9) DX2_init_22 (csh wcX40 (by decide +kernel)) rfl (by decide) (Or.inr (Or.inr ⟨rfl, rfl, rfl, q669⟩)) (fun _ _ => rfl) rfl rfl (Or.inr (cR wcX40 (by decide +kernel))) ?_
  show VV E mX2_init d 25 _ _ (crun cX41 e00) _
  refine v_aload_n 0 DX2_init_25 rfl rfl ?_
  refine v_ldc (x := 36500) DX2_init_26 q665 rfl ?_
  refine v_newa (t := 1) (z := 36500) DX2_init_28 rfl (by decide) q336 rfl (by decide) (cn_ok wcX41 (by decide)) (cz_ok wcX41 (by decide)) ?_
  rw [cnn wcX41]
  show VV E mX2_init d 30 _ _ (crun cX42 e00) _
  refine v_putR (ci := 2) (kf := 2) (z := 9) DX2_init_30 (csh wcX42 (by decide +kernel)) rfl (by decide) (Or.inr (Or.inr ⟨rfl, rfl, rfl, q673⟩)) (fun _ _ => rfl) rfl rfl (Or.inr (cR wcX42 (by decide +kernel))) ?_
  show VV E mX2_init d 33 _ _ (crun cX43 e00) _
  refine v_aload_n 0 DX2_init_33 rfl rfl ?_
  refine v_ldc (x := 36500) DX2_init_34 q665 rfl ?_
  refine v_newa (t := 0) (z := 36500) DX2_init_36 rfl (by decide) q337 rfl (by decide) (cn_ok wcX43 (by decide)) (cz_ok wcX43 (by decide)) ?_
  rw [cnn wcX43]
  show VV E mX2_init d 38 _ _ (crun cX44 e00) _
  refine v_putR (ci := 2) (kf := 3) (z := 9) DX2_init_38 (csh wcX44 (by decide +kernel)) rfl (by decide) (Or.inr (Or.inr ⟨rfl, rfl, rfl, q676⟩)) (fun _ _ => rfl) rfl rfl (Or.inr (cR wcX44 (by decide +kernel))) ?_
  show VV E mX2_init d 41 _ _ (crun cX45 e00) _
  refine v_aload_n 0 DX2_init_41 rfl rfl ?_
  refine v_ldc (x := 36500) DX2_init_42 q665 rfl ?_
  refine v_newa (t := 0) (z := 36500) DX2_init_44 rfl (by decide) q337 rfl (by decide) (cn_ok wcX45 (by decide)) (cz_ok wcX45 (by decide)) ?_
  rw [cnn wcX45]
  show VV E mX2_init d 46 _ _ (crun cX46 e00) _
  refine v_putR (ci := 2) (kf := 4) (z := 9) DX2_init_46 (csh wcX46 (by decide +kernel)) rfl (by decide) (Or.inr (Or.inr ⟨rfl, rfl, rfl, q680⟩)) (fun _ _ => rfl) rfl rfl (Or.inr (cR wcX46 (by decide +kernel))) ?_
  show VV E mX2_init d 49 _ _ (crun cX47 e00) _
  refine v_aload_n 0 DX2_init_49 rfl rfl ?_
  refine v_ldc (x := 36500) DX2_init_50 q665 rfl ?_
  refine v_newa (t := 0) (z := 36500) DX2_init_52 rfl (by decide) q337 rfl (by decide) (cn_ok wcX47 (by decide)) (cz_ok wcX47 (by decide)) ?_
  rw [cnn wcX47]
  show VV E mX2_init d 54 _ _ (crun cX48 e00) _
  refine v_putR (ci := 2) (kf := 5) (z := 9) DX2_init_54 (csh wcX48 (by decide +kernel)) rfl (by decide) (Or.inr (Or.inr ⟨rfl, rfl, rfl, q682⟩)) (fun _ _ => rfl) rfl rfl (Or.inr (cR wcX48 (by decide +kernel))) ?_
  show VV E mX2_init d 57 _ _ (crun cX49 e00) _
  refine v_aload_n 0 DX2_init_57 rfl rfl ?_
  refine v_sipush DX2_init_58 (by decide) ?_
  refine v_newa (t := 0) (z := 8192) DX2_init_61 rfl (by decide) q337 rfl (by decide) (cn_ok wcX49 (by decide)) (cz_ok wcX49 (by decide)) ?_
  rw [cnn wcX49]
  show VV E mX2_init d 63 _ _ (crun cX50 e00) _
  refine v_putR (ci := 2) (kf := 6) (z := 9) DX2_init_63 (csh wcX50 (by decide +kernel)) rfl (by decide) (Or.inr (Or.inr ⟨rfl, rfl, rfl, q683⟩)) (fun _ _ => rfl) rfl rfl (Or.inr (cR wcX50 (by decide +kernel))) ?_
  show VV E mX2_init d 66 _ _ (crun cX51 e00) _
  exact v_vret DX2_init_66 rfl (RV_mk rfl)
def cX52 : List (Nat × Nat × Nat × Nat) := (1, 0, 10, 18) :: cX51
theorem wcX52 : WF 26 992847 cX52 := ⟨by decide, wcX51⟩
def cX53 : List (Nat × Nat × Nat × Nat) := (0, 1, 6000, 26) :: cX52
theorem wcX53 : WF 27 998847 cX53 := ⟨rfl, by decide, wcX52⟩
def cX54 : List (Nat × Nat × Nat × Nat) := (1, 0, 11, 26) :: cX53
theorem wcX54 : WF 27 998847 cX54 := ⟨by decide, wcX53⟩
def cX55 : List (Nat × Nat × Nat × Nat) := (0, 2, 6000, 27) :: cX54
theorem wcX55 : WF 28 1004847 cX55 := ⟨rfl, by decide, wcX54⟩
def cX56 : List (Nat × Nat × Nat × Nat) := (1, 0, 12, 27) :: cX55
theorem wcX56 : WF 28 1004847 cX56 := ⟨by decide, wcX55⟩
def cX57 : List (Nat × Nat × Nat × Nat) := (0, 0, 6000, 28) :: cX56
theorem wcX57 : WF 29 1010847 cX57 := ⟨rfl, by decide, wcX56⟩
def cX58 : List (Nat × Nat × Nat × Nat) := (1, 0, 13, 28) :: cX57
theorem wcX58 : WF 29 1010847 cX58 := ⟨by decide, wcX57⟩
def cX59 : List (Nat × Nat × Nat × Nat) := (0, 0, 6000, 29) :: cX58
theorem wcX59 : WF 30 1016847 cX59 := ⟨rfl, by decide, wcX58⟩
def cX60 : List (Nat × Nat × Nat × Nat) := (1, 0, 14, 29) :: cX59
theorem wcX60 : WF 30 1016847 cX60 := ⟨by decide, wcX59⟩
def cX61 : List (Nat × Nat × Nat × Nat) := (0, 4, 6000, 30) :: cX60
theorem wcX61 : WF 31 1022847 cX61 := ⟨rfl, by decide, wcX60⟩
def cX62 : List (Nat × Nat × Nat × Nat) := (1, 0, 15, 30) :: cX61
theorem wcX62 : WF 31 1022847 cX62 := ⟨by decide, wcX61⟩
def cX63 : List (Nat × Nat × Nat × Nat) := (0, 0, 6000, 31) :: cX62
theorem wcX63 : WF 32 1028847 cX63 := ⟨rfl, by decide, wcX62⟩
def cX64 : List (Nat × Nat × Nat × Nat) := (1, 0, 16, 31) :: cX63
theorem wcX64 : WF 32 1028847 cX64 := ⟨by decide, wcX63⟩
def cX65 : List (Nat × Nat × Nat × Nat) := (0, 0, 6000, 32) :: cX64
theorem wcX65 : WF 33 1034847 cX65 := ⟨rfl, by decide, wcX64⟩
def cX66 : List (Nat × Nat × Nat × Nat) := (1, 0, 17, 32) :: cX65
theorem wcX66 : WF 33 1034847 cX66 := ⟨by decide, wcX65⟩
def cX67 : List (Nat × Nat × Nat × Nat) := (0, 0, 6000, 33) :: cX66
theorem wcX67 : WF 34 1040847 cX67 := ⟨rfl, by decide, wcX66⟩
def cX68 : List (Nat × Nat × Nat × Nat) := (1, 0, 18, 33) :: cX67
theorem wcX68 : WF 34 1040847 cX68 := ⟨by decide, wcX67⟩
def cX69 : List (Nat × Nat × Nat × Nat) := (0, 0, 6000, 34) :: cX68
theorem wcX69 : WF 35 1046847 cX69 := ⟨rfl, by decide, wcX68⟩
def cX70 : List (Nat × Nat × Nat × Nat) := (1, 0, 19, 34) :: cX69
theorem wcX70 : WF 35 1046847 cX70 := ⟨by decide, wcX69⟩
def cX71 : List (Nat × Nat × Nat × Nat) := (0, 1, 60000, 35) :: cX70
theorem wcX71 : WF 36 1106847 cX71 := ⟨rfl, by decide, wcX70⟩
def cX72 : List (Nat × Nat × Nat × Nat) := (1, 0, 21, 35) :: cX71
theorem wcX72 : WF 36 1106847 cX72 := ⟨by decide, wcX71⟩
def cX73 : List (Nat × Nat × Nat × Nat) := (0, 0, 24000, 36) :: cX72
theorem wcX73 : WF 37 1130847 cX73 := ⟨rfl, by decide, wcX72⟩
def cX74 : List (Nat × Nat × Nat × Nat) := (1, 0, 23, 36) :: cX73
theorem wcX74 : WF 37 1130847 cX74 := ⟨by decide, wcX73⟩
def cX75 : List (Nat × Nat × Nat × Nat) := (0, 0, 24000, 37) :: cX74
theorem wcX75 : WF 38 1154847 cX75 := ⟨rfl, by decide, wcX74⟩
def cX76 : List (Nat × Nat × Nat × Nat) := (1, 0, 24, 37) :: cX75
theorem wcX76 : WF 38 1154847 cX76 := ⟨by decide, wcX75⟩
def cX77 : List (Nat × Nat × Nat × Nat) := (0, 2, 24000, 38) :: cX76
theorem wcX77 : WF 39 1178847 cX77 := ⟨rfl, by decide, wcX76⟩
def cX78 : List (Nat × Nat × Nat × Nat) := (1, 0, 25, 38) :: cX77
theorem wcX78 : WF 39 1178847 cX78 := ⟨by decide, wcX77⟩
def cX79 : List (Nat × Nat × Nat × Nat) := (0, 2, 24000, 39) :: cX78
theorem wcX79 : WF 40 1202847 cX79 := ⟨rfl, by decide, wcX78⟩
def cX80 : List (Nat × Nat × Nat × Nat) := (1, 0, 26, 39) :: cX79
theorem wcX80 : WF 40 1202847 cX80 := ⟨by decide, wcX79⟩
def cX81 : List (Nat × Nat × Nat × Nat) := (0, 2, 24000, 40) :: cX80
theorem wcX81 : WF 41 1226847 cX81 := ⟨rfl, by decide, wcX80⟩
def cX82 : List (Nat × Nat × Nat × Nat) := (1, 0, 27, 40) :: cX81
theorem wcX82 : WF 41 1226847 cX82 := ⟨by decide, wcX81⟩
def cX83 : List (Nat × Nat × Nat × Nat) := (0, 2, 24000, 41) :: cX82
theorem wcX83 : WF 42 1250847 cX83 := ⟨rfl, by decide, wcX82⟩
def cX84 : List (Nat × Nat × Nat × Nat) := (1, 0, 28, 41) :: cX83
theorem wcX84 : WF 42 1250847 cX84 := ⟨by decide, wcX83⟩
def cX85 : List (Nat × Nat × Nat × Nat) := (0, 0, 601, 42) :: cX84
theorem wcX85 : WF 43 1251448 cX85 := ⟨rfl, by decide, wcX84⟩
def cX86 : List (Nat × Nat × Nat × Nat) := (1, 0, 33, 42) :: cX85
theorem wcX86 : WF 43 1251448 cX86 := ⟨by decide, wcX85⟩
def cX87 : List (Nat × Nat × Nat × Nat) := (0, 0, 601, 43) :: cX86
theorem wcX87 : WF 44 1252049 cX87 := ⟨rfl, by decide, wcX86⟩
def cX88 : List (Nat × Nat × Nat × Nat) := (1, 0, 34, 43) :: cX87
theorem wcX88 : WF 44 1252049 cX88 := ⟨by decide, wcX87⟩
def cX89 : List (Nat × Nat × Nat × Nat) := (0, 0, 601, 44) :: cX88
theorem wcX89 : WF 45 1252650 cX89 := ⟨rfl, by decide, wcX88⟩
def cX90 : List (Nat × Nat × Nat × Nat) := (1, 0, 35, 44) :: cX89
theorem wcX90 : WF 45 1252650 cX90 := ⟨by decide, wcX89⟩
def cX91 : List (Nat × Nat × Nat × Nat) := (0, 0, 600, 45) :: cX90
theorem wcX91 : WF 46 1253250 cX91 := ⟨rfl, by decide, wcX90⟩
def cX92 : List (Nat × Nat × Nat × Nat) := (1, 0, 36, 45) :: cX91
theorem wcX92 : WF 46 1253250 cX92 := ⟨by decide, wcX91⟩
def cX93 : List (Nat × Nat × Nat × Nat) := (0, 0, 600, 46) :: cX92
theorem wcX93 : WF 47 1253850 cX93 := ⟨rfl, by decide, wcX92⟩
def cX94 : List (Nat × Nat × Nat × Nat) := (1, 0, 37, 46) :: cX93
theorem wcX94 : WF 47 1253850 cX94 := ⟨by decide, wcX93⟩
def cX95 : List (Nat × Nat × Nat × Nat) := (0, 3, 600, 47) :: cX94
theorem wcX95 : WF 48 1254450 cX95 := ⟨rfl, by decide, wcX94⟩
def cX96 : List (Nat × Nat × Nat × Nat) := (1, 0, 38, 47) :: cX95
theorem wcX96 : WF 48 1254450 cX96 := ⟨by decide, wcX95⟩
def cX97 : List (Nat × Nat × Nat × Nat) := (0, 0, 4, 48) :: cX96
theorem wcX97 : WF 49 1254454 cX97 := ⟨rfl, by decide, wcX96⟩
def cX98 : List (Nat × Nat × Nat × Nat) := (3, 48, 0, 1) :: cX97
theorem wcX98 : WF 49 1254454 cX98 := ⟨by decide, wcX97⟩
def cX99 : List (Nat × Nat × Nat × Nat) := (3, 48, 1, 1) :: cX98
theorem wcX99 : WF 49 1254454 cX99 := ⟨by decide, wcX98⟩
def cX100 : List (Nat × Nat × Nat × Nat) := (3, 48, 2, 1) :: cX99
theorem wcX100 : WF 49 1254454 cX100 := ⟨by decide, wcX99⟩
def cX101 : List (Nat × Nat × Nat × Nat) := (3, 48, 3, 1) :: cX100
theorem wcX101 : WF 49 1254454 cX101 := ⟨by decide, wcX100⟩
def cX102 : List (Nat × Nat × Nat × Nat) := (1, 0, 43, 48) :: cX101
theorem wcX102 : WF 49 1254454 cX102 := ⟨by decide, wcX101⟩
def cX103 : List (Nat × Nat × Nat × Nat) := (0, 0, 36500, 49) :: cX102
theorem wcX103 : WF 50 1290954 cX103 := ⟨rfl, by decide, wcX102⟩
def cX104 : List (Nat × Nat × Nat × Nat) := (1, 0, 44, 49) :: cX103
theorem wcX104 : WF 50 1290954 cX104 := ⟨by decide, wcX103⟩
def cX105 : List (Nat × Nat × Nat × Nat) := (0, 6, 4, 50) :: cX104
theorem wcX105 : WF 51 1290958 cX105 := ⟨rfl, by decide, wcX104⟩
def cX106 : List (Nat × Nat × Nat × Nat) := (1, 0, 45, 50) :: cX105
theorem wcX106 : WF 51 1290958 cX106 := ⟨by decide, wcX105⟩
def cX107 : List (Nat × Nat × Nat × Nat) := (0, 103, 17, 51) :: cX106
theorem wcX107 : WF 52 1290975 cX107 := ⟨rfl, by decide, wcX106⟩
theorem DX3_init_0 : DD cX3_init 0 1 1 (.aload_n 0) := ⟨by decide +kernel, rfl⟩
theorem DX3_init_1 : DD cX3_init 1 3 4 (.invokespecial 1) := ⟨by decide +kernel, rfl⟩
theorem DX3_init_4 : DD cX3_init 4 1 5 (.aload_n 0) := ⟨by decide +kernel, rfl⟩
theorem DX3_init_5 : DD cX3_init 5 3 8 (.sipush 400) := ⟨by decide +kernel, rfl⟩
theorem DX3_init_8 : DD cX3_init 8 2 10 (.newarray .byte) := ⟨by decide +kernel, rfl⟩
theorem DX3_init_10 : DD cX3_init 10 3 13 (.putfield 7) := ⟨by decide +kernel, rfl⟩
theorem DX3_init_13 : DD cX3_init 13 1 14 (.aload_n 0) := ⟨by decide +kernel, rfl⟩
theorem DX3_init_14 : DD cX3_init 14 3 17 (.sipush 200) := ⟨by decide +kernel, rfl⟩
theorem DX3_init_17 : DD cX3_init 17 2 19 (.newarray .int) := ⟨by decide +kernel, rfl⟩
theorem DX3_init_19 : DD cX3_init 19 3 22 (.putfield 13) := ⟨by decide +kernel, rfl⟩
theorem DX3_init_22 : DD cX3_init 22 1 23 (.aload_n 0) := ⟨by decide +kernel, rfl⟩
theorem DX3_init_23 : DD cX3_init 23 3 26 (.sipush 200) := ⟨by decide +kernel, rfl⟩
theorem DX3_init_26 : DD cX3_init 26 2 28 (.newarray .int) := ⟨by decide +kernel, rfl⟩
theorem DX3_init_28 : DD cX3_init 28 3 31 (.putfield 17) := ⟨by decide +kernel, rfl⟩
theorem DX3_init_31 : DD cX3_init 31 1 32 (.aload_n 0) := ⟨by decide +kernel, rfl⟩
theorem DX3_init_32 : DD cX3_init 32 3 35 (.sipush 200) := ⟨by decide +kernel, rfl⟩
theorem DX3_init_35 : DD cX3_init 35 2 37 (.newarray .int) := ⟨by decide +kernel, rfl⟩
theorem DX3_init_37 : DD cX3_init 37 3 40 (.putfield 20) := ⟨by decide +kernel, rfl⟩
theorem DX3_init_40 : DD cX3_init 40 1 41 (.aload_n 0) := ⟨by decide +kernel, rfl⟩
theorem DX3_init_41 : DD cX3_init 41 3 44 (.sipush 200) := ⟨by decide +kernel, rfl⟩
theorem DX3_init_44 : DD cX3_init 44 2 46 (.newarray .int) := ⟨by decide +kernel, rfl⟩
theorem DX3_init_46 : DD cX3_init 46 3 49 (.putfield 23) := ⟨by decide +kernel, rfl⟩
theorem DX3_init_49 : DD cX3_init 49 1 50 (.aload_n 0) := ⟨by decide +kernel, rfl⟩
theorem DX3_init_50 : DD cX3_init 50 3 53 (.sipush 200) := ⟨by decide +kernel, rfl⟩
theorem DX3_init_53 : DD cX3_init 53 2 55 (.newarray .long) := ⟨by decide +kernel, rfl⟩
theorem DX3_init_55 : DD cX3_init 55 3 58 (.putfield 26) := ⟨by decide +kernel, rfl⟩
theorem DX3_init_58 : DD cX3_init 58 1 59 (.aload_n 0) := ⟨by decide +kernel, rfl⟩
theorem DX3_init_59 : DD cX3_init 59 3 62 (.sipush 200) := ⟨by decide +kernel, rfl⟩
theorem DX3_init_62 : DD cX3_init 62 2 64 (.newarray .int) := ⟨by decide +kernel, rfl⟩
theorem DX3_init_64 : DD cX3_init 64 3 67 (.putfield 30) := ⟨by decide +kernel, rfl⟩
theorem DX3_init_67 : DD cX3_init 67 1 68 (.aload_n 0) := ⟨by decide +kernel, rfl⟩
theorem DX3_init_68 : DD cX3_init 68 3 71 (.sipush 200) := ⟨by decide +kernel, rfl⟩
theorem DX3_init_71 : DD cX3_init 71 2 73 (.newarray .int) := ⟨by decide +kernel, rfl⟩
theorem DX3_init_73 : DD cX3_init 73 3 76 (.putfield 33) := ⟨by decide +kernel, rfl⟩
theorem DX3_init_76 : DD cX3_init 76 1 77 (.aload_n 0) := ⟨by decide +kernel, rfl⟩
theorem DX3_init_77 : DD cX3_init 77 3 80 (.sipush 200) := ⟨by decide +kernel, rfl⟩
theorem DX3_init_80 : DD cX3_init 80 2 82 (.newarray .int) := ⟨by decide +kernel, rfl⟩
theorem DX3_init_82 : DD cX3_init 82 3 85 (.putfield 36) := ⟨by decide +kernel, rfl⟩
theorem DX3_init_85 : DD cX3_init 85 1 86 (.aload_n 0) := ⟨by decide +kernel, rfl⟩
theorem DX3_init_86 : DD cX3_init 86 3 89 (.sipush 200) := ⟨by decide +kernel, rfl⟩
theorem DX3_init_89 : DD cX3_init 89 2 91 (.newarray .int) := ⟨by decide +kernel, rfl⟩
theorem DX3_init_91 : DD cX3_init 91 3 94 (.putfield 39) := ⟨by decide +kernel, rfl⟩
theorem DX3_init_94 : DD cX3_init 94 1 95 (.aload_n 0) := ⟨by decide +kernel, rfl⟩
theorem DX3_init_95 : DD cX3_init 95 3 98 (.sipush 200) := ⟨by decide +kernel, rfl⟩
theorem DX3_init_98 : DD cX3_init 98 2 100 (.newarray .long) := ⟨by decide +kernel, rfl⟩
theorem DX3_init_100 : DD cX3_init 100 3 103 (.putfield 42) := ⟨by decide +kernel, rfl⟩
theorem DX3_init_103 : DD cX3_init 103 1 104 (.aload_n 0) := ⟨by decide +kernel, rfl⟩
theorem DX3_init_104 : DD cX3_init 104 3 107 (.sipush 200) := ⟨by decide +kernel, rfl⟩
theorem DX3_init_107 : DD cX3_init 107 2 109 (.newarray .long) := ⟨by decide +kernel, rfl⟩
theorem DX3_init_109 : DD cX3_init 109 3 112 (.putfield 45) := ⟨by decide +kernel, rfl⟩
theorem DX3_init_112 : DD cX3_init 112 1 113 (.aload_n 0) := ⟨by decide +kernel, rfl⟩
theorem DX3_init_113 : DD cX3_init 113 3 116 (.sipush 200) := ⟨by decide +kernel, rfl⟩
theorem DX3_init_116 : DD cX3_init 116 2 118 (.newarray .long) := ⟨by decide +kernel, rfl⟩
theorem DX3_init_118 : DD cX3_init 118 3 121 (.putfield 48) := ⟨by decide +kernel, rfl⟩
theorem DX3_init_121 : DD cX3_init 121 1 122 (.return_) := ⟨by decide +kernel, rfl⟩
def cX108 : List (Nat × Nat × Nat × Nat) := (0, 1, 400, 52) :: cX107
theorem wcX108 : WF 53 1291375 cX108 := ⟨rfl, by decide, wcX107⟩
def cX109 : List (Nat × Nat × Nat × Nat) := (1, 51, 0, 52) :: cX108
theorem wcX109 : WF 53 1291375 cX109 := ⟨by decide, wcX108⟩
def cX110 : List (Nat × Nat × Nat × Nat) := (0, 0, 200, 53) :: cX109
theorem wcX110 : WF 54 1291575 cX110 := ⟨rfl, by decide, wcX109⟩
def cX111 : List (Nat × Nat × Nat × Nat) := (1, 51, 5, 53) :: cX110
theorem wcX111 : WF 54 1291575 cX111 := ⟨by decide, wcX110⟩
def cX112 : List (Nat × Nat × Nat × Nat) := (0, 0, 200, 54) :: cX111
theorem wcX112 : WF 55 1291775 cX112 := ⟨rfl, by decide, wcX111⟩
def cX113 : List (Nat × Nat × Nat × Nat) := (1, 51, 6, 54) :: cX112
theorem wcX113 : WF 55 1291775 cX113 := ⟨by decide, wcX112⟩
def cX114 : List (Nat × Nat × Nat × Nat) := (0, 0, 200, 55) :: cX113
theorem wcX114 : WF 56 1291975 cX114 := ⟨rfl, by decide, wcX113⟩
def cX115 : List (Nat × Nat × Nat × Nat) := (1, 51, 7, 55) :: cX114
theorem wcX115 : WF 56 1291975 cX115 := ⟨by decide, wcX114⟩
def cX116 : List (Nat × Nat × Nat × Nat) := (0, 0, 200, 56) :: cX115
theorem wcX116 : WF 57 1292175 cX116 := ⟨rfl, by decide, wcX115⟩
def cX117 : List (Nat × Nat × Nat × Nat) := (1, 51, 8, 56) :: cX116
theorem wcX117 : WF 57 1292175 cX117 := ⟨by decide, wcX116⟩
def cX118 : List (Nat × Nat × Nat × Nat) := (0, 4, 200, 57) :: cX117
theorem wcX118 : WF 58 1292375 cX118 := ⟨rfl, by decide, wcX117⟩
def cX119 : List (Nat × Nat × Nat × Nat) := (1, 51, 9, 57) :: cX118
theorem wcX119 : WF 58 1292375 cX119 := ⟨by decide, wcX118⟩
def cX120 : List (Nat × Nat × Nat × Nat) := (0, 0, 200, 58) :: cX119
theorem wcX120 : WF 59 1292575 cX120 := ⟨rfl, by decide, wcX119⟩
def cX121 : List (Nat × Nat × Nat × Nat) := (1, 51, 10, 58) :: cX120
theorem wcX121 : WF 59 1292575 cX121 := ⟨by decide, wcX120⟩
def cX122 : List (Nat × Nat × Nat × Nat) := (0, 0, 200, 59) :: cX121
theorem wcX122 : WF 60 1292775 cX122 := ⟨rfl, by decide, wcX121⟩
def cX123 : List (Nat × Nat × Nat × Nat) := (1, 51, 11, 59) :: cX122
theorem wcX123 : WF 60 1292775 cX123 := ⟨by decide, wcX122⟩
def cX124 : List (Nat × Nat × Nat × Nat) := (0, 0, 200, 60) :: cX123
theorem wcX124 : WF 61 1292975 cX124 := ⟨rfl, by decide, wcX123⟩
def cX125 : List (Nat × Nat × Nat × Nat) := (1, 51, 12, 60) :: cX124
theorem wcX125 : WF 61 1292975 cX125 := ⟨by decide, wcX124⟩
def cX126 : List (Nat × Nat × Nat × Nat) := (0, 0, 200, 61) :: cX125
theorem wcX126 : WF 62 1293175 cX126 := ⟨rfl, by decide, wcX125⟩
def cX127 : List (Nat × Nat × Nat × Nat) := (1, 51, 13, 61) :: cX126
theorem wcX127 : WF 62 1293175 cX127 := ⟨by decide, wcX126⟩
def cX128 : List (Nat × Nat × Nat × Nat) := (0, 4, 200, 62) :: cX127
theorem wcX128 : WF 63 1293375 cX128 := ⟨rfl, by decide, wcX127⟩
def cX129 : List (Nat × Nat × Nat × Nat) := (1, 51, 14, 62) :: cX128
theorem wcX129 : WF 63 1293375 cX129 := ⟨by decide, wcX128⟩
def cX130 : List (Nat × Nat × Nat × Nat) := (0, 4, 200, 63) :: cX129
theorem wcX130 : WF 64 1293575 cX130 := ⟨rfl, by decide, wcX129⟩
def cX131 : List (Nat × Nat × Nat × Nat) := (1, 51, 15, 63) :: cX130
theorem wcX131 : WF 64 1293575 cX131 := ⟨by decide, wcX130⟩
def cX132 : List (Nat × Nat × Nat × Nat) := (0, 4, 200, 64) :: cX131
theorem wcX132 : WF 65 1293775 cX132 := ⟨rfl, by decide, wcX131⟩
def cX133 : List (Nat × Nat × Nat × Nat) := (1, 51, 16, 64) :: cX132
theorem wcX133 : WF 65 1293775 cX133 := ⟨by decide, wcX132⟩
theorem ct_X0_4 {E : XE} {d : Nat} (hd : 2 ≤ d) : CC E mX3_init d [aO 51] (crun cX107 e00) (RV (fun τ => τ = crun cX133 e00)) := by
  refine v_aload_n 0 DX3_init_0 rfl rfl ?_
  refine v_objInit DX3_init_1 q717 q309 q310 (by omega) (by decide) ?_
  refine v_aload_n 0 DX3_init_4 rfl rfl ?_
  refine v_sipush DX3_init_5 (by decide) ?_
  refine v_newa (t := 1) (z := 400) DX3_init_8 rfl (by decide) q336 rfl (by decide) (cn_ok wcX107 (by decide)) (cz_ok wcX107 (by decide)) ?_
  rw [cnn wcX107]
  show VV E mX3_init d 10 _ _ (crun cX108 e00) _
  refine v_putR (ci := 3) (kf := 0) (z := 17) DX3_init_10 (csh wcX108 (by decide +kernel)) rfl (by decide) (Or.inr (Or.inr ⟨rfl, rfl, rfl, q718⟩)) (fun _ _ => rfl) rfl rfl (Or.inr (cR wcX108 (by decide +kernel))) ?_
  show VV E mX3_init d 13 _ _ (crun cX109 e00) _
  refine v_aload_n 0 DX3_init_13 rfl rfl ?_
  refine v_sipush DX3_init_14 (by decide) ?_
  refine v_newa (t := 0) (z := 200) DX3_init_17 rfl (by decide) q337 rfl (by decide) (cn_ok wcX109 (by decide)) (cz_ok wcX109 (by decide)) ?_
  rw [cnn wcX109]
  show VV E mX3_init d 19 _ _ (crun cX110 e00) _
  refine v_putR (ci := 3) (kf := 5) (z := 17) DX3_init_19 (csh wcX110 (by decide +kernel)) rfl (by decide) (Or.inr (Or.inr ⟨rfl, rfl, rfl, q734⟩)) (fun _ _ => rfl) rfl rfl (Or.inr (cR wcX110 (by decide +kernel))) ?_
  show VV E mX3_init d 22 _ _ (crun cX111 e00) _
  refine v_aload_n 0 DX3_init_22 rfl rfl ?_
  refine v_sipush DX3_init_23 (by decide) ?_
  refine v_newa (t := 0) (z := 200) DX3_init_26 rfl (by decide) q337 rfl (by decide) (cn_ok wcX111 (by decide)) (cz_ok wcX111 (by decide)) ?_
  rw [cnn wcX111]
  show VV E mX3_init d 28 _ _ (crun cX112 e00) _
  refine v_putR (ci := 3) (kf := 6) (z := 17) DX3_init_28 (csh wcX112 (by decide +kernel)) rfl (by decide) (Or.inr (Or.inr ⟨rfl, rfl, rfl, q737⟩)) (fun _ _ => rfl) rfl rfl (Or.inr (cR wcX112 (by decide +kernel))) ?_
  show VV E mX3_init d 31 _ _ (crun cX113 e00) _
  refine v_aload_n 0 DX3_init_31 rfl rfl ?_
  refine v_sipush DX3_init_32 (by decide) ?_
  refine v_newa (t := 0) (z := 200) DX3_init_35 rfl (by decide) q337 rfl (by decide) (cn_ok wcX113 (by decide)) (cz_ok wcX113 (by decide)) ?_
  rw [cnn wcX113]
  show VV E mX3_init d 37 _ _ (crun cX114 e00) _
  refine v_putR (ci := 3) (kf := 7) (z := 17) DX3_init_37 (csh wcX114 (by decide +kernel)) rfl (by decide) (Or.inr (Or.inr ⟨rfl, rfl, rfl, q740⟩)) (fun _ _ => rfl) rfl rfl (Or.inr (cR wcX114 (by decide +kernel))) ?_
  show VV E mX3_init d 40 _ _ (crun cX115 e00) _
  refine v_aload_n 0 DX3_init_40 rfl rfl ?_
  refine v_sipush DX3_init_41 (by decide) ?_
  refine v_newa (t := 0) (z := 200) DX3_init_44 rfl (by decide) q337 rfl (by decide) (cn_ok wcX115 (by decide)) (cz_ok wcX115 (by decide)) ?_
  rw [cnn wcX115]
  show VV E mX3_init d 46 _ _ (crun cX116 e00) _
  refine v_putR (ci := 3) (kf := 8) (z := 17) DX3_init_46 (csh wcX116 (by decide +kernel)) rfl (by decide) (Or.inr (Or.inr ⟨rfl, rfl, rfl, q743⟩)) (fun _ _ => rfl) rfl rfl (Or.inr (cR wcX116 (by decide +kernel))) ?_
  show VV E mX3_init d 49 _ _ (crun cX117 e00) _
  refine v_aload_n 0 DX3_init_49 rfl rfl ?_
  refine v_sipush DX3_init_50 (by decide) ?_
  refine v_newa (t := 4) (z := 200) DX3_init_53 rfl (by decide) q806 rfl (by decide) (cn_ok wcX117 (by decide)) (cz_ok wcX117 (by decide)) ?_
  rw [cnn wcX117]
  show VV E mX3_init d 55 _ _ (crun cX118 e00) _
  refine v_putR (ci := 3) (kf := 9) (z := 17) DX3_init_55 (csh wcX118 (by decide +kernel)) rfl (by decide) (Or.inr (Or.inr ⟨rfl, rfl, rfl, q746⟩)) (fun _ _ => rfl) rfl rfl (Or.inr (cR wcX118 (by decide +kernel))) ?_
  show VV E mX3_init d 58 _ _ (crun cX119 e00) _
  refine v_aload_n 0 DX3_init_58 rfl rfl ?_
  refine v_sipush DX3_init_59 (by decide) ?_
  refine v_newa (t := 0) (z := 200) DX3_init_62 rfl (by decide) q337 rfl (by decide) (cn_ok wcX119 (by decide)) (cz_ok wcX119 (by decide)) ?_
  rw [cnn wcX119]
  show VV E mX3_init d 64 _ _ (crun cX120 e00) _
  refine v_putR (ci := 3) (kf := 10) (z := 17) DX3_init_64 (csh wcX120 (by decide +kernel)) rfl (by decide) (Or.inr (Or.inr ⟨rfl, rfl, rfl, q749⟩)) (fun _ _ => rfl) rfl rfl (Or.inr (cR wcX120 (by decide +kernel))) ?_
  show VV E mX3_init d 67 _ _ (crun cX121 e00) _
  refine v_aload_n 0 DX3_init_67 rfl rfl ?_
  refine v_sipush DX3_init_68 (by decide) ?_
  refine v_newa (t := 0) (z := 200) DX3_init_71 rfl (by decide) q337 rfl (by decide) (cn_ok wcX121 (by decide)) (cz_ok wcX121 (by decide)) ?_
  rw [cnn wcX121]
  show VV E mX3_init d 73 _ _ (crun cX122 e00) _
  refine v_putR (ci := 3) (kf := 11) (z := 17) DX3_init_73 (csh wcX122 (by decide +kernel)) rfl (by decide) (Or.inr (Or.inr ⟨rfl, rfl, rfl, q752⟩)) (fun _ _ => rfl) rfl rfl (Or.inr (cR wcX122 (by decide +kernel))) ?_
  show VV E mX3_init d 76 _ _ (crun cX123 e00) _
  refine v_aload_n 0 DX3_init_76 rfl rfl ?_
  refine v_sipush DX3_init_77 (by decide) ?_
  refine v_newa (t := 0) (z := 200) DX3_init_80 rfl (by decide) q337 rfl (by decide) (cn_ok wcX123 (by decide)) (cz_ok wcX123 (by decide)) ?_
  rw [cnn wcX123]
  show VV E mX3_init d 82 _ _ (crun cX124 e00) _
  refine v_putR (ci := 3) (kf := 12) (z := 17) DX3_init_82 (csh wcX124 (by decide +kernel)) rfl (by decide) (Or.inr (Or.inr ⟨rfl, rfl, rfl, q755⟩)) (fun _ _ => rfl) rfl rfl (Or.inr (cR wcX124 (by decide +kernel))) ?_
  show VV E mX3_init d 85 _ _ (crun cX125 e00) _
  refine v_aload_n 0 DX3_init_85 rfl rfl ?_
  refine v_sipush DX3_init_86 (by decide) ?_
  refine v_newa (t := 0) (z := 200) DX3_init_89 rfl (by decide) q337 rfl (by decide) (cn_ok wcX125 (by decide)) (cz_ok wcX125 (by decide)) ?_
  rw [cnn wcX125]
  show VV E mX3_init d 91 _ _ (crun cX126 e00) _
  refine v_putR (ci := 3) (kf := 13) (z := 17) DX3_init_91 (csh wcX126 (by decide +kernel)) rfl (by decide) (Or.inr (Or.inr ⟨rfl, rfl, rfl, q758⟩)) (fun _ _ => rfl) rfl rfl (Or.inr (cR wcX126 (by decide +kernel))) ?_
  show VV E mX3_init d 94 _ _ (crun cX127 e00) _
  refine v_aload_n 0 DX3_init_94 rfl rfl ?_
  refine v_sipush DX3_init_95 (by decide) ?_
  refine v_newa (t := 4) (z := 200) DX3_init_98 rfl (by decide) q806 rfl (by decide) (cn_ok wcX127 (by decide)) (cz_ok wcX127 (by decide)) ?_
  rw [cnn wcX127]
  show VV E mX3_init d 100 _ _ (crun cX128 e00) _
  refine v_putR (ci := 3) (kf := 14) (z := 17) DX3_init_100 (csh wcX128 (by decide +kernel)) rfl (by decide) (Or.inr (Or.inr ⟨rfl, rfl, rfl, q761⟩)) (fun _ _ => rfl) rfl rfl (Or.inr (cR wcX128 (by decide +kernel))) ?_
  show VV E mX3_init d 103 _ _ (crun cX129 e00) _
  refine v_aload_n 0 DX3_init_103 rfl rfl ?_
  refine v_sipush DX3_init_104 (by decide) ?_
  refine v_newa (t := 4) (z := 200) DX3_init_107 rfl (by decide) q806 rfl (by decide) (cn_ok wcX129 (by decide)) (cz_ok wcX129 (by decide)) ?_
  rw [cnn wcX129]
  show VV E mX3_init d 109 _ _ (crun cX130 e00) _
  refine v_putR (ci := 3) (kf := 15) (z := 17) DX3_init_109 (csh wcX130 (by decide +kernel)) rfl (by decide) (Or.inr (Or.inr ⟨rfl, rfl, rfl, q764⟩)) (fun _ _ => rfl) rfl rfl (Or.inr (cR wcX130 (by decide +kernel))) ?_
  show VV E mX3_init d 112 _ _ (crun cX131 e00) _
  refine v_aload_n 0 DX3_init_112 rfl rfl ?_
  refine v_sipush DX3_init_113 (by decide) ?_
  refine v_newa (t := 4) (z := 200) DX3_init_116 rfl (by decide) q806 rfl (by decide) (cn_ok wcX131 (by decide)) (cz_ok wcX131 (by decide)) ?_
  rw [cnn wcX131]
  show VV E mX3_init d 118 _ _ (crun cX132 e00) _
  refine v_putR (ci := 3) (kf := 16) (z := 17) DX3_init_118 (csh wcX132 (by decide +kernel)) rfl (by decide) (Or.inr (Or.inr ⟨rfl, rfl, rfl, q767⟩)) (fun _ _ => rfl) rfl rfl (Or.inr (cR wcX132 (by decide +kernel))) ?_
  show VV E mX3_init d 121 _ _ (crun cX133 e00) _
  exact v_vret DX3_init_121 rfl (RV_mk rfl)
def cX134 : List (Nat × Nat × Nat × Nat) := (1, 0, 47, 51) :: cX133
theorem wcX134 : WF 65 1293775 cX134 := ⟨by decide, wcX133⟩
def cX135 : List (Nat × Nat × Nat × Nat) := (0, 103, 17, 65) :: cX134
theorem wcX135 : WF 66 1293792 cX135 := ⟨rfl, by decide, wcX134⟩
def cX136 : List (Nat × Nat × Nat × Nat) := (0, 1, 400, 66) :: cX135
theorem wcX136 : WF 67 1294192 cX136 := ⟨rfl, by decide, wcX135⟩
def cX137 : List (Nat × Nat × Nat × Nat) := (1, 65, 0, 66) :: cX136
theorem wcX137 : WF 67 1294192 cX137 := ⟨by decide, wcX136⟩
def cX138 : List (Nat × Nat × Nat × Nat) := (0, 0, 200, 67) :: cX137
theorem wcX138 : WF 68 1294392 cX138 := ⟨rfl, by decide, wcX137⟩
def cX139 : List (Nat × Nat × Nat × Nat) := (1, 65, 5, 67) :: cX138
theorem wcX139 : WF 68 1294392 cX139 := ⟨by decide, wcX138⟩
def cX140 : List (Nat × Nat × Nat × Nat) := (0, 0, 200, 68) :: cX139
theorem wcX140 : WF 69 1294592 cX140 := ⟨rfl, by decide, wcX139⟩
def cX141 : List (Nat × Nat × Nat × Nat) := (1, 65, 6, 68) :: cX140
theorem wcX141 : WF 69 1294592 cX141 := ⟨by decide, wcX140⟩
def cX142 : List (Nat × Nat × Nat × Nat) := (0, 0, 200, 69) :: cX141
theorem wcX142 : WF 70 1294792 cX142 := ⟨rfl, by decide, wcX141⟩
def cX143 : List (Nat × Nat × Nat × Nat) := (1, 65, 7, 69) :: cX142
theorem wcX143 : WF 70 1294792 cX143 := ⟨by decide, wcX142⟩
def cX144 : List (Nat × Nat × Nat × Nat) := (0, 0, 200, 70) :: cX143
theorem wcX144 : WF 71 1294992 cX144 := ⟨rfl, by decide, wcX143⟩
def cX145 : List (Nat × Nat × Nat × Nat) := (1, 65, 8, 70) :: cX144
theorem wcX145 : WF 71 1294992 cX145 := ⟨by decide, wcX144⟩
def cX146 : List (Nat × Nat × Nat × Nat) := (0, 4, 200, 71) :: cX145
theorem wcX146 : WF 72 1295192 cX146 := ⟨rfl, by decide, wcX145⟩
def cX147 : List (Nat × Nat × Nat × Nat) := (1, 65, 9, 71) :: cX146
theorem wcX147 : WF 72 1295192 cX147 := ⟨by decide, wcX146⟩
def cX148 : List (Nat × Nat × Nat × Nat) := (0, 0, 200, 72) :: cX147
theorem wcX148 : WF 73 1295392 cX148 := ⟨rfl, by decide, wcX147⟩
def cX149 : List (Nat × Nat × Nat × Nat) := (1, 65, 10, 72) :: cX148
theorem wcX149 : WF 73 1295392 cX149 := ⟨by decide, wcX148⟩
def cX150 : List (Nat × Nat × Nat × Nat) := (0, 0, 200, 73) :: cX149
theorem wcX150 : WF 74 1295592 cX150 := ⟨rfl, by decide, wcX149⟩
def cX151 : List (Nat × Nat × Nat × Nat) := (1, 65, 11, 73) :: cX150
theorem wcX151 : WF 74 1295592 cX151 := ⟨by decide, wcX150⟩
def cX152 : List (Nat × Nat × Nat × Nat) := (0, 0, 200, 74) :: cX151
theorem wcX152 : WF 75 1295792 cX152 := ⟨rfl, by decide, wcX151⟩
def cX153 : List (Nat × Nat × Nat × Nat) := (1, 65, 12, 74) :: cX152
theorem wcX153 : WF 75 1295792 cX153 := ⟨by decide, wcX152⟩
def cX154 : List (Nat × Nat × Nat × Nat) := (0, 0, 200, 75) :: cX153
theorem wcX154 : WF 76 1295992 cX154 := ⟨rfl, by decide, wcX153⟩
def cX155 : List (Nat × Nat × Nat × Nat) := (1, 65, 13, 75) :: cX154
theorem wcX155 : WF 76 1295992 cX155 := ⟨by decide, wcX154⟩
def cX156 : List (Nat × Nat × Nat × Nat) := (0, 4, 200, 76) :: cX155
theorem wcX156 : WF 77 1296192 cX156 := ⟨rfl, by decide, wcX155⟩
def cX157 : List (Nat × Nat × Nat × Nat) := (1, 65, 14, 76) :: cX156
theorem wcX157 : WF 77 1296192 cX157 := ⟨by decide, wcX156⟩
def cX158 : List (Nat × Nat × Nat × Nat) := (0, 4, 200, 77) :: cX157
theorem wcX158 : WF 78 1296392 cX158 := ⟨rfl, by decide, wcX157⟩
def cX159 : List (Nat × Nat × Nat × Nat) := (1, 65, 15, 77) :: cX158
theorem wcX159 : WF 78 1296392 cX159 := ⟨by decide, wcX158⟩
def cX160 : List (Nat × Nat × Nat × Nat) := (0, 4, 200, 78) :: cX159
theorem wcX160 : WF 79 1296592 cX160 := ⟨rfl, by decide, wcX159⟩
def cX161 : List (Nat × Nat × Nat × Nat) := (1, 65, 16, 78) :: cX160
theorem wcX161 : WF 79 1296592 cX161 := ⟨by decide, wcX160⟩
theorem ct_X0_5 {E : XE} {d : Nat} (hd : 2 ≤ d) : CC E mX3_init d [aO 65] (crun cX135 e00) (RV (fun τ => τ = crun cX161 e00)) := by
  refine v_aload_n 0 DX3_init_0 rfl rfl ?_
  refine v_objInit DX3_init_1 q717 q309 q310 (by omega) (by decide) ?_
  refine v_aload_n 0 DX3_init_4 rfl rfl ?_
  refine v_sipush DX3_init_5 (by decide) ?_
  refine v_newa (t := 1) (z := 400) DX3_init_8 rfl (by decide) q336 rfl (by decide) (cn_ok wcX135 (by decide)) (cz_ok wcX135 (by decide)) ?_
  rw [cnn wcX135]
  show VV E mX3_init d 10 _ _ (crun cX136 e00) _
  refine v_putR (ci := 3) (kf := 0) (z := 17) DX3_init_10 (csh wcX136 (by decide +kernel)) rfl (by decide) (Or.inr (Or.inr ⟨rfl, rfl, rfl, q718⟩)) (fun _ _ => rfl) rfl rfl (Or.inr (cR wcX136 (by decide +kernel))) ?_
  show VV E mX3_init d 13 _ _ (crun cX137 e00) _
  refine v_aload_n 0 DX3_init_13 rfl rfl ?_
  refine v_sipush DX3_init_14 (by decide) ?_
  refine v_newa (t := 0) (z := 200) DX3_init_17 rfl (by decide) q337 rfl (by decide) (cn_ok wcX137 (by decide)) (cz_ok wcX137 (by decide)) ?_
  rw [cnn wcX137]
  show VV E mX3_init d 19 _ _ (crun cX138 e00) _
  refine v_putR (ci := 3) (kf := 5) (z := 17) DX3_init_19 (csh wcX138 (by decide +kernel)) rfl (by decide) (Or.inr (Or.inr ⟨rfl, rfl, rfl, q734⟩)) (fun _ _ => rfl) rfl rfl (Or.inr (cR wcX138 (by decide +kernel))) ?_
  show VV E mX3_init d 22 _ _ (crun cX139 e00) _
  refine v_aload_n 0 DX3_init_22 rfl rfl ?_
  refine v_sipush DX3_init_23 (by decide) ?_
  refine v_newa (t := 0) (z := 200) DX3_init_26 rfl (by decide) q337 rfl (by decide) (cn_ok wcX139 (by decide)) (cz_ok wcX139 (by decide)) ?_
  rw [cnn wcX139]
  show VV E mX3_init d 28 _ _ (crun cX140 e00) _
  refine v_putR (ci := 3) (kf := 6) (z := 17) DX3_init_28 (csh wcX140 (by decide +kernel)) rfl (by decide) (Or.inr (Or.inr ⟨rfl, rfl, rfl, q737⟩)) (fun _ _ => rfl) rfl rfl (Or.inr (cR wcX140 (by decide +kernel))) ?_
  show VV E mX3_init d 31 _ _ (crun cX141 e00) _
  refine v_aload_n 0 DX3_init_31 rfl rfl ?_
  refine v_sipush DX3_init_32 (by decide) ?_
  refine v_newa (t := 0) (z := 200) DX3_init_35 rfl (by decide) q337 rfl (by decide) (cn_ok wcX141 (by decide)) (cz_ok wcX141 (by decide)) ?_
  rw [cnn wcX141]
  show VV E mX3_init d 37 _ _ (crun cX142 e00) _
  refine v_putR (ci := 3) (kf := 7) (z := 17) DX3_init_37 (csh wcX142 (by decide +kernel)) rfl (by decide) (Or.inr (Or.inr ⟨rfl, rfl, rfl, q740⟩)) (fun _ _ => rfl) rfl rfl (Or.inr (cR wcX142 (by decide +kernel))) ?_
  show VV E mX3_init d 40 _ _ (crun cX143 e00) _
  refine v_aload_n 0 DX3_init_40 rfl rfl ?_
  refine v_sipush DX3_init_41 (by decide) ?_
  refine v_newa (t := 0) (z := 200) DX3_init_44 rfl (by decide) q337 rfl (by decide) (cn_ok wcX143 (by decide)) (cz_ok wcX143 (by decide)) ?_
  rw [cnn wcX143]
  show VV E mX3_init d 46 _ _ (crun cX144 e00) _
  refine v_putR (ci := 3) (kf := 8) (z := 17) DX3_init_46 (csh wcX144 (by decide +kernel)) rfl (by decide) (Or.inr (Or.inr ⟨rfl, rfl, rfl, q743⟩)) (fun _ _ => rfl) rfl rfl (Or.inr (cR wcX144 (by decide +kernel))) ?_
  show VV E mX3_init d 49 _ _ (crun cX145 e00) _
  refine v_aload_n 0 DX3_init_49 rfl rfl ?_
  refine v_sipush DX3_init_50 (by decide) ?_
  refine v_newa (t := 4) (z := 200) DX3_init_53 rfl (by decide) q806 rfl (by decide) (cn_ok wcX145 (by decide)) (cz_ok wcX145 (by decide)) ?_
  rw [cnn wcX145]
  show VV E mX3_init d 55 _ _ (crun cX146 e00) _
  refine v_putR (ci := 3) (kf := 9) (z := 17) DX3_init_55 (csh wcX146 (by decide +kernel)) rfl (by decide) (Or.inr (Or.inr ⟨rfl, rfl, rfl, q746⟩)) (fun _ _ => rfl) rfl rfl (Or.inr (cR wcX146 (by decide +kernel))) ?_
  show VV E mX3_init d 58 _ _ (crun cX147 e00) _
  refine v_aload_n 0 DX3_init_58 rfl rfl ?_
  refine v_sipush DX3_init_59 (by decide) ?_
  refine v_newa (t := 0) (z := 200) DX3_init_62 rfl (by decide) q337 rfl (by decide) (cn_ok wcX147 (by decide)) (cz_ok wcX147 (by decide)) ?_
  rw [cnn wcX147]
  show VV E mX3_init d 64 _ _ (crun cX148 e00) _
  refine v_putR (ci := 3) (kf := 10) (z := 17) DX3_init_64 (csh wcX148 (by decide +kernel)) rfl (by decide) (Or.inr (Or.inr ⟨rfl, rfl, rfl, q749⟩)) (fun _ _ => rfl) rfl rfl (Or.inr (cR wcX148 (by decide +kernel))) ?_
  show VV E mX3_init d 67 _ _ (crun cX149 e00) _
  refine v_aload_n 0 DX3_init_67 rfl rfl ?_
  refine v_sipush DX3_init_68 (by decide) ?_
  refine v_newa (t := 0) (z := 200) DX3_init_71 rfl (by decide) q337 rfl (by decide) (cn_ok wcX149 (by decide)) (cz_ok wcX149 (by decide)) ?_
  rw [cnn wcX149]
  show VV E mX3_init d 73 _ _ (crun cX150 e00) _
  refine v_putR (ci := 3) (kf := 11) (z := 17) DX3_init_73 (csh wcX150 (by decide +kernel)) rfl (by decide) (Or.inr (Or.inr ⟨rfl, rfl, rfl, q752⟩)) (fun _ _ => rfl) rfl rfl (Or.inr (cR wcX150 (by decide +kernel))) ?_
  show VV E mX3_init d 76 _ _ (crun cX151 e00) _
  refine v_aload_n 0 DX3_init_76 rfl rfl ?_
  refine v_sipush DX3_init_77 (by decide) ?_
  refine v_newa (t := 0) (z := 200) DX3_init_80 rfl (by decide) q337 rfl (by decide) (cn_ok wcX151 (by decide)) (cz_ok wcX151 (by decide)) ?_
  rw [cnn wcX151]
  show VV E mX3_init d 82 _ _ (crun cX152 e00) _
  refine v_putR (ci := 3) (kf := 12) (z := 17) DX3_init_82 (csh wcX152 (by decide +kernel)) rfl (by decide) (Or.inr (Or.inr ⟨rfl, rfl, rfl, q755⟩)) (fun _ _ => rfl) rfl rfl (Or.inr (cR wcX152 (by decide +kernel))) ?_
  show VV E mX3_init d 85 _ _ (crun cX153 e00) _
  refine v_aload_n 0 DX3_init_85 rfl rfl ?_
  refine v_sipush DX3_init_86 (by decide) ?_
  refine v_newa (t := 0) (z := 200) DX3_init_89 rfl (by decide) q337 rfl (by decide) (cn_ok wcX153 (by decide)) (cz_ok wcX153 (by decide)) ?_
  rw [cnn wcX153]
  show VV E mX3_init d 91 _ _ (crun cX154 e00) _
  refine v_putR (ci := 3) (kf := 13) (z := 17) DX3_init_91 (csh wcX154 (by decide +kernel)) rfl (by decide) (Or.inr (Or.inr ⟨rfl, rfl, rfl, q758⟩)) (fun _ _ => rfl) rfl rfl (Or.inr (cR wcX154 (by decide +kernel))) ?_
  show VV E mX3_init d 94 _ _ (crun cX155 e00) _
  refine v_aload_n 0 DX3_init_94 rfl rfl ?_
  refine v_sipush DX3_init_95 (by decide) ?_
  refine v_newa (t := 4) (z := 200) DX3_init_98 rfl (by decide) q806 rfl (by decide) (cn_ok wcX155 (by decide)) (cz_ok wcX155 (by decide)) ?_
  rw [cnn wcX155]
  show VV E mX3_init d 100 _ _ (crun cX156 e00) _
  refine v_putR (ci := 3) (kf := 14) (z := 17) DX3_init_100 (csh wcX156 (by decide +kernel)) rfl (by decide) (Or.inr (Or.inr ⟨rfl, rfl, rfl, q761⟩)) (fun _ _ => rfl) rfl rfl (Or.inr (cR wcX156 (by decide +kernel))) ?_
  show VV E mX3_init d 103 _ _ (crun cX157 e00) _
  refine v_aload_n 0 DX3_init_103 rfl rfl ?_
  refine v_sipush DX3_init_104 (by decide) ?_
  refine v_newa (t := 4) (z := 200) DX3_init_107 rfl (by decide) q806 rfl (by decide) (cn_ok wcX157 (by decide)) (cz_ok wcX157 (by decide)) ?_
  rw [cnn wcX157]
  show VV E mX3_init d 109 _ _ (crun cX158 e00) _
  refine v_putR (ci := 3) (kf := 15) (z := 17) DX3_init_109 (csh wcX158 (by decide +kernel)) rfl (by decide) (Or.inr (Or.inr ⟨rfl, rfl, rfl, q764⟩)) (fun _ _ => rfl) rfl rfl (Or.inr (cR wcX158 (by decide +kernel))) ?_
  show VV E mX3_init d 112 _ _ (crun cX159 e00) _
  refine v_aload_n 0 DX3_init_112 rfl rfl ?_
  refine v_sipush DX3_init_113 (by decide) ?_
  refine v_newa (t := 4) (z := 200) DX3_init_116 rfl (by decide) q806 rfl (by decide) (cn_ok wcX159 (by decide)) (cz_ok wcX159 (by decide)) ?_
  rw [cnn wcX159]
  show VV E mX3_init d 118 _ _ (crun cX160 e00) _
  refine v_putR (ci := 3) (kf := 16) (z := 17) DX3_init_118 (csh wcX160 (by decide +kernel)) rfl (by decide) (Or.inr (Or.inr ⟨rfl, rfl, rfl, q767⟩)) (fun _ _ => rfl) rfl rfl (Or.inr (cR wcX160 (by decide +kernel))) ?_
  show VV E mX3_init d 121 _ _ (crun cX161 e00) _
  exact v_vret DX3_init_121 rfl (RV_mk rfl)
def cX162 : List (Nat × Nat × Nat × Nat) := (1, 0, 49, 65) :: cX161
theorem wcX162 : WF 79 1296592 cX162 := ⟨by decide, wcX161⟩
def cX163 : List (Nat × Nat × Nat × Nat) := (0, 7, 20, 79) :: cX162
theorem wcX163 : WF 80 1296612 cX163 := ⟨rfl, by decide, wcX162⟩
def cX164 : List (Nat × Nat × Nat × Nat) := (1, 0, 50, 79) :: cX163
theorem wcX164 : WF 80 1296612 cX164 := ⟨by decide, wcX163⟩
def cX165 : List (Nat × Nat × Nat × Nat) := (0, 104, 4, 80) :: cX164
theorem wcX165 : WF 81 1296616 cX165 := ⟨rfl, by decide, wcX164⟩
theorem DX4_init_0 : DD cX4_init 0 1 1 (.aload_n 0) := ⟨by decide +kernel, rfl⟩
theorem DX4_init_1 : DD cX4_init 1 1 2 (.aload_n 1) := ⟨by decide +kernel, rfl⟩
theorem DX4_init_2 : DD cX4_init 2 3 5 (.putfield 3) := ⟨by decide +kernel, rfl⟩
theorem DX4_init_5 : DD cX4_init 5 1 6 (.aload_n 0) := ⟨by decide +kernel, rfl⟩
theorem DX4_init_6 : DD cX4_init 6 3 9 (.invokespecial 9) := ⟨by decide +kernel, rfl⟩
theorem DX4_init_9 : DD cX4_init 9 1 10 (.return_) := ⟨by decide +kernel, rfl⟩
def cX166 : List (Nat × Nat × Nat × Nat) := (1, 80, 3, 0) :: cX165
theorem wcX166 : WF 81 1296616 cX166 := ⟨by decide, wcX165⟩
theorem ct_X0_6 {E : XE} {d : Nat} (hd : 2 ≤ d) : CC E mX4_init d [aO 80, aO 0] (crun cX165 e00) (RV (fun τ => τ = crun cX166 e00)) := by
  refine v_aload_n 0 DX4_init_0 rfl rfl ?_
  refine v_aload_n 1 DX4_init_1 rfl rfl ?_
  refine v_putR (ci := 4) (kf := 3) (z := 4) DX4_init_2 (csh wcX165 (by decide +kernel)) rfl (by decide) (Or.inr (Or.inr ⟨rfl, rfl, rfl, q818⟩)) (fun _ _ => rfl) rfl rfl (Or.inr (cR wcX165 (by decide +kernel))) ?_
  show VV E mX4_init d 5 _ _ (crun cX166 e00) _
  refine v_aload_n 0 DX4_init_5 rfl rfl ?_
  refine v_objInit DX4_init_6 q814 q309 q310 (by omega) (by decide) ?_
  exact v_vret DX4_init_9 rfl (RV_mk rfl)
def cX167 : List (Nat × Nat × Nat × Nat) := (1, 0, 52, 80) :: cX166
theorem wcX167 : WF 81 1296616 cX167 := ⟨by decide, wcX166⟩
def cX168 : List (Nat × Nat × Nat × Nat) := (0, 0, 484, 81) :: cX167
theorem wcX168 : WF 82 1297100 cX168 := ⟨rfl, by decide, wcX167⟩
def cX169 : List (Nat × Nat × Nat × Nat) := (1, 0, 53, 81) :: cX168
theorem wcX169 : WF 82 1297100 cX169 := ⟨by decide, wcX168⟩
def cX170 : List (Nat × Nat × Nat × Nat) := (0, 3, 24000, 82) :: cX169
theorem wcX170 : WF 83 1321100 cX170 := ⟨rfl, by decide, wcX169⟩
def cX171 : List (Nat × Nat × Nat × Nat) := (1, 0, 54, 82) :: cX170
theorem wcX171 : WF 83 1321100 cX171 := ⟨by decide, wcX170⟩
def cX172 : List (Nat × Nat × Nat × Nat) := (0, 0, 200, 83) :: cX171
theorem wcX172 : WF 84 1321300 cX172 := ⟨rfl, by decide, wcX171⟩
def cX173 : List (Nat × Nat × Nat × Nat) := (1, 0, 55, 83) :: cX172
theorem wcX173 : WF 84 1321300 cX173 := ⟨by decide, wcX172⟩
def cX174 : List (Nat × Nat × Nat × Nat) := (0, 0, 200, 84) :: cX173
theorem wcX174 : WF 85 1321500 cX174 := ⟨rfl, by decide, wcX173⟩
def cX175 : List (Nat × Nat × Nat × Nat) := (1, 0, 56, 84) :: cX174
theorem wcX175 : WF 85 1321500 cX175 := ⟨by decide, wcX174⟩
def cX176 : List (Nat × Nat × Nat × Nat) := (0, 4, 200, 85) :: cX175
theorem wcX176 : WF 86 1321700 cX176 := ⟨rfl, by decide, wcX175⟩
def cX177 : List (Nat × Nat × Nat × Nat) := (1, 0, 57, 85) :: cX176
theorem wcX177 : WF 86 1321700 cX177 := ⟨by decide, wcX176⟩
def cX178 : List (Nat × Nat × Nat × Nat) := (0, 0, 200, 86) :: cX177
theorem wcX178 : WF 87 1321900 cX178 := ⟨rfl, by decide, wcX177⟩
def cX179 : List (Nat × Nat × Nat × Nat) := (1, 0, 58, 86) :: cX178
theorem wcX179 : WF 87 1321900 cX179 := ⟨by decide, wcX178⟩
def cX180 : List (Nat × Nat × Nat × Nat) := (0, 105, 21, 87) :: cX179
theorem wcX180 : WF 88 1321921 cX180 := ⟨rfl, by decide, wcX179⟩
theorem DX5_init_0 : DD cX5_init 0 1 1 (.aload_n 0) := ⟨by decide +kernel, rfl⟩
theorem DX5_init_1 : DD cX5_init 1 1 2 (.aload_n 1) := ⟨by decide +kernel, rfl⟩
theorem DX5_init_2 : DD cX5_init 2 3 5 (.putfield 3) := ⟨by decide +kernel, rfl⟩
theorem DX5_init_5 : DD cX5_init 5 1 6 (.aload_n 0) := ⟨by decide +kernel, rfl⟩
theorem DX5_init_6 : DD cX5_init 6 3 9 (.invokespecial 9) := ⟨by decide +kernel, rfl⟩
theorem DX5_init_9 : DD cX5_init 9 1 10 (.aload_n 0) := ⟨by decide +kernel, rfl⟩
theorem DX5_init_10 : DD cX5_init 10 3 13 (.new 15) := ⟨by decide +kernel, rfl⟩
theorem DX5_init_13 : DD cX5_init 13 1 14 (.dup) := ⟨by decide +kernel, rfl⟩
theorem DX5_init_14 : DD cX5_init 14 3 17 (.invokespecial 17) := ⟨by decide +kernel, rfl⟩
theorem DX5_init_17 : DD cX5_init 17 3 20 (.putfield 18) := ⟨by decide +kernel, rfl⟩
theorem DX5_init_20 : DD cX5_init 20 1 21 (.aload_n 0) := ⟨by decide +kernel, rfl⟩
theorem DX5_init_21 : DD cX5_init 21 3 24 (.new 22) := ⟨by decide +kernel, rfl⟩
theorem DX5_init_24 : DD cX5_init 24 1 25 (.dup) := ⟨by decide +kernel, rfl⟩
theorem DX5_init_25 : DD cX5_init 25 1 26 (.aload_n 0) := ⟨by decide +kernel, rfl⟩
theorem DX5_init_26 : DD cX5_init 26 3 29 (.getfield 3) := ⟨by decide +kernel, rfl⟩
theorem DX5_init_29 : DD cX5_init 29 3 32 (.invokespecial 24) := ⟨by decide +kernel, rfl⟩
theorem DX5_init_32 : DD cX5_init 32 3 35 (.putfield 27) := ⟨by decide +kernel, rfl⟩
theorem DX5_init_35 : DD cX5_init 35 1 36 (.aload_n 0) := ⟨by decide +kernel, rfl⟩
theorem DX5_init_36 : DD cX5_init 36 3 39 (.sipush 200) := ⟨by decide +kernel, rfl⟩
theorem DX5_init_39 : DD cX5_init 39 2 41 (.newarray .int) := ⟨by decide +kernel, rfl⟩
theorem DX5_init_41 : DD cX5_init 41 3 44 (.putfield 31) := ⟨by decide +kernel, rfl⟩
theorem DX5_init_44 : DD cX5_init 44 1 45 (.aload_n 0) := ⟨by decide +kernel, rfl⟩
theorem DX5_init_45 : DD cX5_init 45 3 48 (.sipush 200) := ⟨by decide +kernel, rfl⟩
theorem DX5_init_48 : DD cX5_init 48 2 50 (.newarray .long) := ⟨by decide +kernel, rfl⟩
theorem DX5_init_50 : DD cX5_init 50 3 53 (.putfield 35) := ⟨by decide +kernel, rfl⟩
theorem DX5_init_53 : DD cX5_init 53 1 54 (.aload_n 0) := ⟨by decide +kernel, rfl⟩
theorem DX5_init_54 : DD cX5_init 54 2 56 (.ldc 39) := ⟨by decide +kernel, rfl⟩
theorem DX5_init_56 : DD cX5_init 56 2 58 (.newarray .short) := ⟨by decide +kernel, rfl⟩
theorem DX5_init_58 : DD cX5_init 58 3 61 (.putfield 40) := ⟨by decide +kernel, rfl⟩
theorem DX5_init_61 : DD cX5_init 61 1 62 (.aload_n 0) := ⟨by decide +kernel, rfl⟩
theorem DX5_init_62 : DD cX5_init 62 3 65 (.sipush 200) := ⟨by decide +kernel, rfl⟩
theorem DX5_init_65 : DD cX5_init 65 2 67 (.newarray .int) := ⟨by decide +kernel, rfl⟩
theorem DX5_init_67 : DD cX5_init 67 3 70 (.putfield 44) := ⟨by decide +kernel, rfl⟩
theorem DX5_init_70 : DD cX5_init 70 1 71 (.aload_n 0) := ⟨by decide +kernel, rfl⟩
theorem DX5_init_71 : DD cX5_init 71 3 74 (.sipush 200) := ⟨by decide +kernel, rfl⟩
theorem DX5_init_74 : DD cX5_init 74 2 76 (.newarray .int) := ⟨by decide +kernel, rfl⟩
theorem DX5_init_76 : DD cX5_init 76 3 79 (.putfield 47) := ⟨by decide +kernel, rfl⟩
theorem DX5_init_79 : DD cX5_init 79 1 80 (.aload_n 0) := ⟨by decide +kernel, rfl⟩
theorem DX5_init_80 : DD cX5_init 80 3 83 (.sipush 1000) := ⟨by decide +kernel, rfl⟩
theorem DX5_init_83 : DD cX5_init 83 2 85 (.newarray .int) := ⟨by decide +kernel, rfl⟩
theorem DX5_init_85 : DD cX5_init 85 3 88 (.putfield 50) := ⟨by decide +kernel, rfl⟩
theorem DX5_init_88 : DD cX5_init 88 1 89 (.aload_n 0) := ⟨by decide +kernel, rfl⟩
theorem DX5_init_89 : DD cX5_init 89 3 92 (.sipush 1001) := ⟨by decide +kernel, rfl⟩
theorem DX5_init_92 : DD cX5_init 92 2 94 (.newarray .int) := ⟨by decide +kernel, rfl⟩
theorem DX5_init_94 : DD cX5_init 94 3 97 (.putfield 53) := ⟨by decide +kernel, rfl⟩
theorem DX5_init_97 : DD cX5_init 97 1 98 (.aload_n 0) := ⟨by decide +kernel, rfl⟩
theorem DX5_init_98 : DD cX5_init 98 3 101 (.sipush 6000) := ⟨by decide +kernel, rfl⟩
theorem DX5_init_101 : DD cX5_init 101 2 103 (.newarray .int) := ⟨by decide +kernel, rfl⟩
theorem DX5_init_103 : DD cX5_init 103 3 106 (.putfield 56) := ⟨by decide +kernel, rfl⟩
theorem DX5_init_106 : DD cX5_init 106 1 107 (.aload_n 0) := ⟨by decide +kernel, rfl⟩
theorem DX5_init_107 : DD cX5_init 107 2 109 (.ldc 59) := ⟨by decide +kernel, rfl⟩
theorem DX5_init_109 : DD cX5_init 109 2 111 (.newarray .long) := ⟨by decide +kernel, rfl⟩
theorem DX5_init_111 : DD cX5_init 111 3 114 (.putfield 60) := ⟨by decide +kernel, rfl⟩
theorem DX5_init_114 : DD cX5_init 114 1 115 (.aload_n 0) := ⟨by decide +kernel, rfl⟩
theorem DX5_init_115 : DD cX5_init 115 2 117 (.bipush 20) := ⟨by decide +kernel, rfl⟩
theorem DX5_init_117 : DD cX5_init 117 2 119 (.newarray .byte) := ⟨by decide +kernel, rfl⟩
theorem DX5_init_119 : DD cX5_init 119 3 122 (.putfield 63) := ⟨by decide +kernel, rfl⟩
theorem DX5_init_122 : DD cX5_init 122 1 123 (.aload_n 0) := ⟨by decide +kernel, rfl⟩
theorem DX5_init_123 : DD cX5_init 123 3 126 (.sipush 128) := ⟨by decide +kernel, rfl⟩
theorem DX5_init_126 : DD cX5_init 126 2 128 (.newarray .long) := ⟨by decide +kernel, rfl⟩
theorem DX5_init_128 : DD cX5_init 128 3 131 (.putfield 67) := ⟨by decide +kernel, rfl⟩
theorem DX5_init_131 : DD cX5_init 131 1 132 (.aload_n 0) := ⟨by decide +kernel, rfl⟩
theorem DX5_init_132 : DD cX5_init 132 3 135 (.sipush 512) := ⟨by decide +kernel, rfl⟩
theorem DX5_init_135 : DD cX5_init 135 2 137 (.newarray .int) := ⟨by decide +kernel, rfl⟩
theorem DX5_init_137 : DD cX5_init 137 3 140 (.putfield 70) := ⟨by decide +kernel, rfl⟩
theorem DX5_init_140 : DD cX5_init 140 1 141 (.aload_n 0) := ⟨by decide +kernel, rfl⟩
theorem DX5_init_141 : DD cX5_init 141 3 144 (.sipush 512) := ⟨by decide +kernel, rfl⟩
theorem DX5_init_144 : DD cX5_init 144 2 146 (.newarray .boolean) := ⟨by decide +kernel, rfl⟩
theorem DX5_init_146 : DD cX5_init 146 3 149 (.putfield 73) := ⟨by decide +kernel, rfl⟩
theorem DX5_init_149 : DD cX5_init 149 1 150 (.return_) := ⟨by decide +kernel, rfl⟩
def cX181 : List (Nat × Nat × Nat × Nat) := (1, 87, 20, 0) :: cX180
theorem wcX181 : WF 88 1321921 cX181 := ⟨by decide, wcX180⟩
def cX182 : List (Nat × Nat × Nat × Nat) := (0, 103, 17, 88) :: cX181
theorem wcX182 : WF 89 1321938 cX182 := ⟨rfl, by decide, wcX181⟩
def cX183 : List (Nat × Nat × Nat × Nat) := (0, 1, 400, 89) :: cX182
theorem wcX183 : WF 90 1322338 cX183 := ⟨rfl, by decide, wcX182⟩
def cX184 : List (Nat × Nat × Nat × Nat) := (1, 88, 0, 89) :: cX183
theorem wcX184 : WF 90 1322338 cX184 := ⟨by decide, wcX183⟩
def cX185 : List (Nat × Nat × Nat × Nat) := (0, 0, 200, 90) :: cX184
theorem wcX185 : WF 91 1322538 cX185 := ⟨rfl, by decide, wcX184⟩
def cX186 : List (Nat × Nat × Nat × Nat) := (1, 88, 5, 90) :: cX185
theorem wcX186 : WF 91 1322538 cX186 := ⟨by decide, wcX185⟩
def cX187 : List (Nat × Nat × Nat × Nat) := (0, 0, 200, 91) :: cX186
theorem wcX187 : WF 92 1322738 cX187 := ⟨rfl, by decide, wcX186⟩
def cX188 : List (Nat × Nat × Nat × Nat) := (1, 88, 6, 91) :: cX187
theorem wcX188 : WF 92 1322738 cX188 := ⟨by decide, wcX187⟩
def cX189 : List (Nat × Nat × Nat × Nat) := (0, 0, 200, 92) :: cX188
theorem wcX189 : WF 93 1322938 cX189 := ⟨rfl, by decide, wcX188⟩
def cX190 : List (Nat × Nat × Nat × Nat) := (1, 88, 7, 92) :: cX189
theorem wcX190 : WF 93 1322938 cX190 := ⟨by decide, wcX189⟩
def cX191 : List (Nat × Nat × Nat × Nat) := (0, 0, 200, 93) :: cX190
theorem wcX191 : WF 94 1323138 cX191 := ⟨rfl, by decide, wcX190⟩
def cX192 : List (Nat × Nat × Nat × Nat) := (1, 88, 8, 93) :: cX191
theorem wcX192 : WF 94 1323138 cX192 := ⟨by decide, wcX191⟩
def cX193 : List (Nat × Nat × Nat × Nat) := (0, 4, 200, 94) :: cX192
theorem wcX193 : WF 95 1323338 cX193 := ⟨rfl, by decide, wcX192⟩
def cX194 : List (Nat × Nat × Nat × Nat) := (1, 88, 9, 94) :: cX193
theorem wcX194 : WF 95 1323338 cX194 := ⟨by decide, wcX193⟩
def cX195 : List (Nat × Nat × Nat × Nat) := (0, 0, 200, 95) :: cX194
theorem wcX195 : WF 96 1323538 cX195 := ⟨rfl, by decide, wcX194⟩
def cX196 : List (Nat × Nat × Nat × Nat) := (1, 88, 10, 95) :: cX195
theorem wcX196 : WF 96 1323538 cX196 := ⟨by decide, wcX195⟩
def cX197 : List (Nat × Nat × Nat × Nat) := (0, 0, 200, 96) :: cX196
theorem wcX197 : WF 97 1323738 cX197 := ⟨rfl, by decide, wcX196⟩
def cX198 : List (Nat × Nat × Nat × Nat) := (1, 88, 11, 96) :: cX197
theorem wcX198 : WF 97 1323738 cX198 := ⟨by decide, wcX197⟩
def cX199 : List (Nat × Nat × Nat × Nat) := (0, 0, 200, 97) :: cX198
theorem wcX199 : WF 98 1323938 cX199 := ⟨rfl, by decide, wcX198⟩
def cX200 : List (Nat × Nat × Nat × Nat) := (1, 88, 12, 97) :: cX199
theorem wcX200 : WF 98 1323938 cX200 := ⟨by decide, wcX199⟩
def cX201 : List (Nat × Nat × Nat × Nat) := (0, 0, 200, 98) :: cX200
theorem wcX201 : WF 99 1324138 cX201 := ⟨rfl, by decide, wcX200⟩
def cX202 : List (Nat × Nat × Nat × Nat) := (1, 88, 13, 98) :: cX201
theorem wcX202 : WF 99 1324138 cX202 := ⟨by decide, wcX201⟩
def cX203 : List (Nat × Nat × Nat × Nat) := (0, 4, 200, 99) :: cX202
theorem wcX203 : WF 100 1324338 cX203 := ⟨rfl, by decide, wcX202⟩
def cX204 : List (Nat × Nat × Nat × Nat) := (1, 88, 14, 99) :: cX203
theorem wcX204 : WF 100 1324338 cX204 := ⟨by decide, wcX203⟩
def cX205 : List (Nat × Nat × Nat × Nat) := (0, 4, 200, 100) :: cX204
theorem wcX205 : WF 101 1324538 cX205 := ⟨rfl, by decide, wcX204⟩
def cX206 : List (Nat × Nat × Nat × Nat) := (1, 88, 15, 100) :: cX205
theorem wcX206 : WF 101 1324538 cX206 := ⟨by decide, wcX205⟩
def cX207 : List (Nat × Nat × Nat × Nat) := (0, 4, 200, 101) :: cX206
theorem wcX207 : WF 102 1324738 cX207 := ⟨rfl, by decide, wcX206⟩
def cX208 : List (Nat × Nat × Nat × Nat) := (1, 88, 16, 101) :: cX207
theorem wcX208 : WF 102 1324738 cX208 := ⟨by decide, wcX207⟩
theorem ct_X0_7_1 {E : XE} {d : Nat} (hd : 2 ≤ d) : CC E mX3_init d [aO 88] (crun cX182 e00) (RV (fun τ => τ = crun cX208 e00)) := by
  refine v_aload_n 0 DX3_init_0 rfl rfl ?_
  refine v_objInit DX3_init_1 q717 q309 q310 (by omega) (by decide) ?_
  refine v_aload_n 0 DX3_init_4 rfl rfl ?_
  refine v_sipush DX3_init_5 (by decide) ?_
  refine v_newa (t := 1) (z := 400) DX3_init_8 rfl (by decide) q336 rfl (by decide) (cn_ok wcX182 (by decide)) (cz_ok wcX182 (by decide)) ?_
  rw [cnn wcX182]
  show VV E mX3_init d 10 _ _ (crun cX183 e00) _
  refine v_putR (ci := 3) (kf := 0) (z := 17) DX3_init_10 (csh wcX183 (by decide +kernel)) rfl (by decide) (Or.inr (Or.inr ⟨rfl, rfl, rfl, q718⟩)) (fun _ _ => rfl) rfl rfl (Or.inr (cR wcX183 (by decide +kernel))) ?_
  show VV E mX3_init d 13 _ _ (crun cX184 e00) _
  refine v_aload_n 0 DX3_init_13 rfl rfl ?_
  refine v_sipush DX3_init_14 (by decide) ?_
  refine v_newa (t := 0) (z := 200) DX3_init_17 rfl (by decide) q337 rfl (by decide) (cn_ok wcX184 (by decide)) (cz_ok wcX184 (by decide)) ?_
  rw [cnn wcX184]
  show VV E mX3_init d 19 _ _ (crun cX185 e00) _
  refine v_putR (ci := 3) (kf := 5) (z := 17) DX3_init_19 (csh wcX185 (by decide +kernel)) rfl (by decide) (Or.inr (Or.inr ⟨rfl, rfl, rfl, q734⟩)) (fun _ _ => rfl) rfl rfl (Or.inr (cR wcX185 (by decide +kernel))) ?_
  show VV E mX3_init d 22 _ _ (crun cX186 e00) _
  refine v_aload_n 0 DX3_init_22 rfl rfl ?_
  refine v_sipush DX3_init_23 (by decide) ?_
  refine v_newa (t := 0) (z := 200) DX3_init_26 rfl (by decide) q337 rfl (by decide) (cn_ok wcX186 (by decide)) (cz_ok wcX186 (by decide)) ?_
  rw [cnn wcX186]
  show VV E mX3_init d 28 _ _ (crun cX187 e00) _
  refine v_putR (ci := 3) (kf := 6) (z := 17) DX3_init_28 (csh wcX187 (by decide +kernel)) rfl (by decide) (Or.inr (Or.inr ⟨rfl, rfl, rfl, q737⟩)) (fun _ _ => rfl) rfl rfl (Or.inr (cR wcX187 (by decide +kernel))) ?_
  show VV E mX3_init d 31 _ _ (crun cX188 e00) _
  refine v_aload_n 0 DX3_init_31 rfl rfl ?_
  refine v_sipush DX3_init_32 (by decide) ?_
  refine v_newa (t := 0) (z := 200) DX3_init_35 rfl (by decide) q337 rfl (by decide) (cn_ok wcX188 (by decide)) (cz_ok wcX188 (by decide)) ?_
  rw [cnn wcX188]
  show VV E mX3_init d 37 _ _ (crun cX189 e00) _
  refine v_putR (ci := 3) (kf := 7) (z := 17) DX3_init_37 (csh wcX189 (by decide +kernel)) rfl (by decide) (Or.inr (Or.inr ⟨rfl, rfl, rfl, q740⟩)) (fun _ _ => rfl) rfl rfl (Or.inr (cR wcX189 (by decide +kernel))) ?_
  show VV E mX3_init d 40 _ _ (crun cX190 e00) _
  refine v_aload_n 0 DX3_init_40 rfl rfl ?_
  refine v_sipush DX3_init_41 (by decide) ?_
  refine v_newa (t := 0) (z := 200) DX3_init_44 rfl (by decide) q337 rfl (by decide) (cn_ok wcX190 (by decide)) (cz_ok wcX190 (by decide)) ?_
  rw [cnn wcX190]
  show VV E mX3_init d 46 _ _ (crun cX191 e00) _
  refine v_putR (ci := 3) (kf := 8) (z := 17) DX3_init_46 (csh wcX191 (by decide +kernel)) rfl (by decide) (Or.inr (Or.inr ⟨rfl, rfl, rfl, q743⟩)) (fun _ _ => rfl) rfl rfl (Or.inr (cR wcX191 (by decide +kernel))) ?_
  show VV E mX3_init d 49 _ _ (crun cX192 e00) _
  refine v_aload_n 0 DX3_init_49 rfl rfl ?_
  refine v_sipush DX3_init_50 (by decide) ?_
  refine v_newa (t := 4) (z := 200) DX3_init_53 rfl (by decide) q806 rfl (by decide) (cn_ok wcX192 (by decide)) (cz_ok wcX192 (by decide)) ?_
  rw [cnn wcX192]
  show VV E mX3_init d 55 _ _ (crun cX193 e00) _
  refine v_putR (ci := 3) (kf := 9) (z := 17) DX3_init_55 (csh wcX193 (by decide +kernel)) rfl (by decide) (Or.inr (Or.inr ⟨rfl, rfl, rfl, q746⟩)) (fun _ _ => rfl) rfl rfl (Or.inr (cR wcX193 (by decide +kernel))) ?_
  show VV E mX3_init d 58 _ _ (crun cX194 e00) _
  refine v_aload_n 0 DX3_init_58 rfl rfl ?_
  refine v_sipush DX3_init_59 (by decide) ?_
  refine v_newa (t := 0) (z := 200) DX3_init_62 rfl (by decide) q337 rfl (by decide) (cn_ok wcX194 (by decide)) (cz_ok wcX194 (by decide)) ?_
  rw [cnn wcX194]
  show VV E mX3_init d 64 _ _ (crun cX195 e00) _
  refine v_putR (ci := 3) (kf := 10) (z := 17) DX3_init_64 (csh wcX195 (by decide +kernel)) rfl (by decide) (Or.inr (Or.inr ⟨rfl, rfl, rfl, q749⟩)) (fun _ _ => rfl) rfl rfl (Or.inr (cR wcX195 (by decide +kernel))) ?_
  show VV E mX3_init d 67 _ _ (crun cX196 e00) _
  refine v_aload_n 0 DX3_init_67 rfl rfl ?_
  refine v_sipush DX3_init_68 (by decide) ?_
  refine v_newa (t := 0) (z := 200) DX3_init_71 rfl (by decide) q337 rfl (by decide) (cn_ok wcX196 (by decide)) (cz_ok wcX196 (by decide)) ?_
  rw [cnn wcX196]
  show VV E mX3_init d 73 _ _ (crun cX197 e00) _
  refine v_putR (ci := 3) (kf := 11) (z := 17) DX3_init_73 (csh wcX197 (by decide +kernel)) rfl (by decide) (Or.inr (Or.inr ⟨rfl, rfl, rfl, q752⟩)) (fun _ _ => rfl) rfl rfl (Or.inr (cR wcX197 (by decide +kernel))) ?_
  show VV E mX3_init d 76 _ _ (crun cX198 e00) _
  refine v_aload_n 0 DX3_init_76 rfl rfl ?_
  refine v_sipush DX3_init_77 (by decide) ?_
  refine v_newa (t := 0) (z := 200) DX3_init_80 rfl (by decide) q337 rfl (by decide) (cn_ok wcX198 (by decide)) (cz_ok wcX198 (by decide)) ?_
  rw [cnn wcX198]
  show VV E mX3_init d 82 _ _ (crun cX199 e00) _
  refine v_putR (ci := 3) (kf := 12) (z := 17) DX3_init_82 (csh wcX199 (by decide +kernel)) rfl (by decide) (Or.inr (Or.inr ⟨rfl, rfl, rfl, q755⟩)) (fun _ _ => rfl) rfl rfl (Or.inr (cR wcX199 (by decide +kernel))) ?_
  show VV E mX3_init d 85 _ _ (crun cX200 e00) _
  refine v_aload_n 0 DX3_init_85 rfl rfl ?_
  refine v_sipush DX3_init_86 (by decide) ?_
  refine v_newa (t := 0) (z := 200) DX3_init_89 rfl (by decide) q337 rfl (by decide) (cn_ok wcX200 (by decide)) (cz_ok wcX200 (by decide)) ?_
  rw [cnn wcX200]
  show VV E mX3_init d 91 _ _ (crun cX201 e00) _
  refine v_putR (ci := 3) (kf := 13) (z := 17) DX3_init_91 (csh wcX201 (by decide +kernel)) rfl (by decide) (Or.inr (Or.inr ⟨rfl, rfl, rfl, q758⟩)) (fun _ _ => rfl) rfl rfl (Or.inr (cR wcX201 (by decide +kernel))) ?_
  show VV E mX3_init d 94 _ _ (crun cX202 e00) _
  refine v_aload_n 0 DX3_init_94 rfl rfl ?_
  refine v_sipush DX3_init_95 (by decide) ?_
  refine v_newa (t := 4) (z := 200) DX3_init_98 rfl (by decide) q806 rfl (by decide) (cn_ok wcX202 (by decide)) (cz_ok wcX202 (by decide)) ?_
  rw [cnn wcX202]
  show VV E mX3_init d 100 _ _ (crun cX203 e00) _
  refine v_putR (ci := 3) (kf := 14) (z := 17) DX3_init_100 (csh wcX203 (by decide +kernel)) rfl (by decide) (Or.inr (Or.inr ⟨rfl, rfl, rfl, q761⟩)) (fun _ _ => rfl) rfl rfl (Or.inr (cR wcX203 (by decide +kernel))) ?_
  show VV E mX3_init d 103 _ _ (crun cX204 e00) _
  refine v_aload_n 0 DX3_init_103 rfl rfl ?_
  refine v_sipush DX3_init_104 (by decide) ?_
  refine v_newa (t := 4) (z := 200) DX3_init_107 rfl (by decide) q806 rfl (by decide) (cn_ok wcX204 (by decide)) (cz_ok wcX204 (by decide)) ?_
  rw [cnn wcX204]
  show VV E mX3_init d 109 _ _ (crun cX205 e00) _
  refine v_putR (ci := 3) (kf := 15) (z := 17) DX3_init_109 (csh wcX205 (by decide +kernel)) rfl (by decide) (Or.inr (Or.inr ⟨rfl, rfl, rfl, q764⟩)) (fun _ _ => rfl) rfl rfl (Or.inr (cR wcX205 (by decide +kernel))) ?_
  show VV E mX3_init d 112 _ _ (crun cX206 e00) _
  refine v_aload_n 0 DX3_init_112 rfl rfl ?_
  refine v_sipush DX3_init_113 (by decide) ?_
  refine v_newa (t := 4) (z := 200) DX3_init_116 rfl (by decide) q806 rfl (by decide) (cn_ok wcX206 (by decide)) (cz_ok wcX206 (by decide)) ?_
  rw [cnn wcX206]
  show VV E mX3_init d 118 _ _ (crun cX207 e00) _
  refine v_putR (ci := 3) (kf := 16) (z := 17) DX3_init_118 (csh wcX207 (by decide +kernel)) rfl (by decide) (Or.inr (Or.inr ⟨rfl, rfl, rfl, q767⟩)) (fun _ _ => rfl) rfl rfl (Or.inr (cR wcX207 (by decide +kernel))) ?_
  show VV E mX3_init d 121 _ _ (crun cX208 e00) _
  exact v_vret DX3_init_121 rfl (RV_mk rfl)
def cX209 : List (Nat × Nat × Nat × Nat) := (1, 87, 0, 88) :: cX208
theorem wcX209 : WF 102 1324738 cX209 := ⟨by decide, wcX208⟩
def cX210 : List (Nat × Nat × Nat × Nat) := (0, 106, 10, 102) :: cX209
theorem wcX210 : WF 103 1324748 cX210 := ⟨rfl, by decide, wcX209⟩
theorem DX6_init_0 : DD cX6_init 0 1 1 (.aload_n 0) := ⟨by decide +kernel, rfl⟩
theorem DX6_init_1 : DD cX6_init 1 1 2 (.aload_n 1) := ⟨by decide +kernel, rfl⟩
theorem DX6_init_2 : DD cX6_init 2 3 5 (.putfield 3) := ⟨by decide +kernel, rfl⟩
theorem DX6_init_5 : DD cX6_init 5 1 6 (.aload_n 0) := ⟨by decide +kernel, rfl⟩
theorem DX6_init_6 : DD cX6_init 6 3 9 (.invokespecial 9) := ⟨by decide +kernel, rfl⟩
theorem DX6_init_9 : DD cX6_init 9 1 10 (.aload_n 0) := ⟨by decide +kernel, rfl⟩
theorem DX6_init_10 : DD cX6_init 10 3 13 (.sipush 601) := ⟨by decide +kernel, rfl⟩
theorem DX6_init_13 : DD cX6_init 13 2 15 (.newarray .boolean) := ⟨by decide +kernel, rfl⟩
theorem DX6_init_15 : DD cX6_init 15 3 18 (.putfield 15) := ⟨by decide +kernel, rfl⟩
theorem DX6_init_18 : DD cX6_init 18 1 19 (.aload_n 0) := ⟨by decide +kernel, rfl⟩
theorem DX6_init_19 : DD cX6_init 19 2 21 (.bipush 12) := ⟨by decide +kernel, rfl⟩
theorem DX6_init_21 : DD cX6_init 21 2 23 (.newarray .int) := ⟨by decide +kernel, rfl⟩
theorem DX6_init_23 : DD cX6_init 23 3 26 (.putfield 19) := ⟨by decide +kernel, rfl⟩
theorem DX6_init_26 : DD cX6_init 26 1 27 (.aload_n 0) := ⟨by decide +kernel, rfl⟩
theorem DX6_init_27 : DD cX6_init 27 2 29 (.bipush 12) := ⟨by decide +kernel, rfl⟩
theorem DX6_init_29 : DD cX6_init 29 2 31 (.newarray .int) := ⟨by decide +kernel, rfl⟩
theorem DX6_init_31 : DD cX6_init 31 3 34 (.putfield 23) := ⟨by decide +kernel, rfl⟩
theorem DX6_init_34 : DD cX6_init 34 1 35 (.aload_n 0) := ⟨by decide +kernel, rfl⟩
theorem DX6_init_35 : DD cX6_init 35 3 38 (.sipush 601) := ⟨by decide +kernel, rfl⟩
theorem DX6_init_38 : DD cX6_init 38 2 40 (.newarray .int) := ⟨by decide +kernel, rfl⟩
theorem DX6_init_40 : DD cX6_init 40 3 43 (.putfield 26) := ⟨by decide +kernel, rfl⟩
theorem DX6_init_43 : DD cX6_init 43 1 44 (.aload_n 0) := ⟨by decide +kernel, rfl⟩
theorem DX6_init_44 : DD cX6_init 44 3 47 (.sipush 601) := ⟨by decide +kernel, rfl⟩
theorem DX6_init_47 : DD cX6_init 47 2 49 (.newarray .int) := ⟨by decide +kernel, rfl⟩
theorem DX6_init_49 : DD cX6_init 49 3 52 (.putfield 29) := ⟨by decide +kernel, rfl⟩
theorem DX6_init_52 : DD cX6_init 52 1 53 (.return_) := ⟨by decide +kernel, rfl⟩
def cX211 : List (Nat × Nat × Nat × Nat) := (1, 102, 9, 0) :: cX210
theorem wcX211 : WF 103 1324748 cX211 := ⟨by decide, wcX210⟩
def cX212 : List (Nat × Nat × Nat × Nat) := (0, 3, 601, 103) :: cX211
theorem wcX212 : WF 104 1325349 cX212 := ⟨rfl, by decide, wcX211⟩
def cX213 : List (Nat × Nat × Nat × Nat) := (1, 102, 0, 103) :: cX212
theorem wcX213 : WF 104 1325349 cX213 := ⟨by decide, wcX212⟩
def cX214 : List (Nat × Nat × Nat × Nat) := (0, 0, 12, 104) :: cX213
theorem wcX214 : WF 105 1325361 cX214 := ⟨rfl, by decide, wcX213⟩
def cX215 : List (Nat × Nat × Nat × Nat) := (1, 102, 2, 104) :: cX214
theorem wcX215 : WF 105 1325361 cX215 := ⟨by decide, wcX214⟩
def cX216 : List (Nat × Nat × Nat × Nat) := (0, 0, 12, 105) :: cX215
theorem wcX216 : WF 106 1325373 cX216 := ⟨rfl, by decide, wcX215⟩
def cX217 : List (Nat × Nat × Nat × Nat) := (1, 102, 3, 105) :: cX216
theorem wcX217 : WF 106 1325373 cX217 := ⟨by decide, wcX216⟩
def cX218 : List (Nat × Nat × Nat × Nat) := (0, 0, 601, 106) :: cX217
theorem wcX218 : WF 107 1325974 cX218 := ⟨rfl, by decide, wcX217⟩
def cX219 : List (Nat × Nat × Nat × Nat) := (1, 102, 4, 106) :: cX218
theorem wcX219 : WF 107 1325974 cX219 := ⟨by decide, wcX218⟩
def cX220 : List (Nat × Nat × Nat × Nat) := (0, 0, 601, 107) :: cX219
theorem wcX220 : WF 108 1326575 cX220 := ⟨rfl, by decide, wcX219⟩
def cX221 : List (Nat × Nat × Nat × Nat) := (1, 102, 5, 107) :: cX220
theorem wcX221 : WF 108 1326575 cX221 := ⟨by decide, wcX220⟩
theorem ct_X0_7_2 {E : XE} {d : Nat} (hd : 2 ≤ d) : CC E mX6_init d [aO 102, aO 0] (crun cX210 e00) (RV (fun τ => τ = crun cX221 e00)) := by
  refine v_aload_n 0 DX6_init_0 rfl rfl ?_
  refine v_aload_n 1 DX6_init_1 rfl rfl ?_
  refine v_putR (ci := 6) (kf := 9) (z := 10) DX6_init_2 (csh wcX210 (by decide +kernel)) rfl (by decide) (Or.inr (Or.inr ⟨rfl, rfl, rfl, q861⟩)) (fun _ _ => rfl) rfl rfl (Or.inr (cR wcX210 (by decide +kernel))) ?_
  show VV E mX6_init d 5 _ _ (crun cX211 e00) _
  refine v_aload_n 0 DX6_init_5 rfl rfl ?_
  refine v_objInit DX6_init_6 q841 q309 q310 (by omega) (by decide) ?_
  refine v_aload_n 0 DX6_init_9 rfl rfl ?_
  refine v_sipush DX6_init_10 (by decide) ?_
  refine v_newa (t := 3) (z := 601) DX6_init_13 rfl (by decide) q807 rfl (by decide) (cn_ok wcX211 (by decide)) (cz_ok wcX211 (by decide)) ?_
  rw [cnn wcX211]
  show VV E mX6_init d 15 _ _ (crun cX212 e00) _
  refine v_putR (ci := 6) (kf := 0) (z := 10) DX6_init_15 (csh wcX212 (by decide +kernel)) rfl (by decide) (Or.inr (Or.inr ⟨rfl, rfl, rfl, q842⟩)) (fun _ _ => rfl) rfl rfl (Or.inr (cR wcX212 (by decide +kernel))) ?_
  show VV E mX6_init d 18 _ _ (crun cX213 e00) _
  refine v_aload_n 0 DX6_init_18 rfl rfl ?_
  refine v_bipush DX6_init_19 (by decide) ?_
  refine v_newa (t := 0) (z := 12) DX6_init_21 rfl (by decide) q337 rfl (by decide) (cn_ok wcX213 (by decide)) (cz_ok wcX213 (by decide)) ?_
  rw [cnn wcX213]
  show VV E mX6_init d 23 _ _ (crun cX214 e00) _
  refine v_putR (ci := 6) (kf := 2) (z := 10) DX6_init_23 (csh wcX214 (by decide +kernel)) rfl (by decide) (Or.inr (Or.inr ⟨rfl, rfl, rfl, q847⟩)) (fun _ _ => rfl) rfl rfl (Or.inr (cR wcX214 (by decide +kernel))) ?_
  show VV E mX6_init d 26 _ _ (crun cX215 e00) _
  refine v_aload_n 0 DX6_init_26 rfl rfl ?_
  refine v_bipush DX6_init_27 (by decide) ?_
  refine v_newa (t := 0) (z := 12) DX6_init_29 rfl (by decide) q337 rfl (by decide) (cn_ok wcX215 (by decide)) (cz_ok wcX215 (by decide)) ?_
  rw [cnn wcX215]
  show VV E mX6_init d 31 _ _ (crun cX216 e00) _
  refine v_putR (ci := 6) (kf := 3) (z := 10) DX6_init_31 (csh wcX216 (by decide +kernel)) rfl (by decide) (Or.inr (Or.inr ⟨rfl, rfl, rfl, q849⟩)) (fun _ _ => rfl) rfl rfl (Or.inr (cR wcX216 (by decide +kernel))) ?_
  show VV E mX6_init d 34 _ _ (crun cX217 e00) _
  refine v_aload_n 0 DX6_init_34 rfl rfl ?_
  refine v_sipush DX6_init_35 (by decide) ?_
  refine v_newa (t := 0) (z := 601) DX6_init_38 rfl (by decide) q337 rfl (by decide) (cn_ok wcX217 (by decide)) (cz_ok wcX217 (by decide)) ?_
  rw [cnn wcX217]
  show VV E mX6_init d 40 _ _ (crun cX218 e00) _
  refine v_putR (ci := 6) (kf := 4) (z := 10) DX6_init_40 (csh wcX218 (by decide +kernel)) rfl (by decide) (Or.inr (Or.inr ⟨rfl, rfl, rfl, q851⟩)) (fun _ _ => rfl) rfl rfl (Or.inr (cR wcX218 (by decide +kernel))) ?_
  show VV E mX6_init d 43 _ _ (crun cX219 e00) _
  refine v_aload_n 0 DX6_init_43 rfl rfl ?_
  refine v_sipush DX6_init_44 (by decide) ?_
  refine v_newa (t := 0) (z := 601) DX6_init_47 rfl (by decide) q337 rfl (by decide) (cn_ok wcX219 (by decide)) (cz_ok wcX219 (by decide)) ?_
  rw [cnn wcX219]
  show VV E mX6_init d 49 _ _ (crun cX220 e00) _
  refine v_putR (ci := 6) (kf := 5) (z := 10) DX6_init_49 (csh wcX220 (by decide +kernel)) rfl (by decide) (Or.inr (Or.inr ⟨rfl, rfl, rfl, q853⟩)) (fun _ _ => rfl) rfl rfl (Or.inr (cR wcX220 (by decide +kernel))) ?_
  show VV E mX6_init d 52 _ _ (crun cX221 e00) _
  exact v_vret DX6_init_52 rfl (RV_mk rfl)
def cX222 : List (Nat × Nat × Nat × Nat) := (1, 87, 1, 102) :: cX221
theorem wcX222 : WF 108 1326575 cX222 := ⟨by decide, wcX221⟩
def cX223 : List (Nat × Nat × Nat × Nat) := (0, 0, 200, 108) :: cX222
theorem wcX223 : WF 109 1326775 cX223 := ⟨rfl, by decide, wcX222⟩
def cX224 : List (Nat × Nat × Nat × Nat) := (1, 87, 3, 108) :: cX223
theorem wcX224 : WF 109 1326775 cX224 := ⟨by decide, wcX223⟩
def cX225 : List (Nat × Nat × Nat × Nat) := (0, 4, 200, 109) :: cX224
theorem wcX225 : WF 110 1326975 cX225 := ⟨rfl, by decide, wcX224⟩
def cX226 : List (Nat × Nat × Nat × Nat) := (1, 87, 4, 109) :: cX225
theorem wcX226 : WF 110 1326975 cX226 := ⟨by decide, wcX225⟩
def cX227 : List (Nat × Nat × Nat × Nat) := (0, 2, 36060, 110) :: cX226
theorem wcX227 : WF 111 1363035 cX227 := ⟨rfl, by decide, wcX226⟩
def cX228 : List (Nat × Nat × Nat × Nat) := (1, 87, 5, 110) :: cX227
theorem wcX228 : WF 111 1363035 cX228 := ⟨by decide, wcX227⟩
def cX229 : List (Nat × Nat × Nat × Nat) := (0, 0, 200, 111) :: cX228
theorem wcX229 : WF 112 1363235 cX229 := ⟨rfl, by decide, wcX228⟩
def cX230 : List (Nat × Nat × Nat × Nat) := (1, 87, 7, 111) :: cX229
theorem wcX230 : WF 112 1363235 cX230 := ⟨by decide, wcX229⟩
def cX231 : List (Nat × Nat × Nat × Nat) := (0, 0, 200, 112) :: cX230
theorem wcX231 : WF 113 1363435 cX231 := ⟨rfl, by decide, wcX230⟩
def cX232 : List (Nat × Nat × Nat × Nat) := (1, 87, 8, 112) :: cX231
theorem wcX232 : WF 113 1363435 cX232 := ⟨by decide, wcX231⟩
def cX233 : List (Nat × Nat × Nat × Nat) := (0, 0, 1000, 113) :: cX232
theorem wcX233 : WF 114 1364435 cX233 := ⟨rfl, by decide, wcX232⟩
def cX234 : List (Nat × Nat × Nat × Nat) := (1, 87, 9, 113) :: cX233
theorem wcX234 : WF 114 1364435 cX234 := ⟨by decide, wcX233⟩
def cX235 : List (Nat × Nat × Nat × Nat) := (0, 0, 1001, 114) :: cX234
theorem wcX235 : WF 115 1365436 cX235 := ⟨rfl, by decide, wcX234⟩
def cX236 : List (Nat × Nat × Nat × Nat) := (1, 87, 10, 114) :: cX235
theorem wcX236 : WF 115 1365436 cX236 := ⟨by decide, wcX235⟩
def cX237 : List (Nat × Nat × Nat × Nat) := (0, 0, 6000, 115) :: cX236
theorem wcX237 : WF 116 1371436 cX237 := ⟨rfl, by decide, wcX236⟩
def cX238 : List (Nat × Nat × Nat × Nat) := (1, 87, 11, 115) :: cX237
theorem wcX238 : WF 116 1371436 cX238 := ⟨by decide, wcX237⟩
def cX239 : List (Nat × Nat × Nat × Nat) := (0, 4, 72120, 116) :: cX238
theorem wcX239 : WF 117 1443556 cX239 := ⟨rfl, by decide, wcX238⟩
def cX240 : List (Nat × Nat × Nat × Nat) := (1, 87, 14, 116) :: cX239
theorem wcX240 : WF 117 1443556 cX240 := ⟨by decide, wcX239⟩
def cX241 : List (Nat × Nat × Nat × Nat) := (0, 1, 20, 117) :: cX240
theorem wcX241 : WF 118 1443576 cX241 := ⟨rfl, by decide, wcX240⟩
def cX242 : List (Nat × Nat × Nat × Nat) := (1, 87, 15, 117) :: cX241
theorem wcX242 : WF 118 1443576 cX242 := ⟨by decide, wcX241⟩
def cX243 : List (Nat × Nat × Nat × Nat) := (0, 4, 128, 118) :: cX242
theorem wcX243 : WF 119 1443704 cX243 := ⟨rfl, by decide, wcX242⟩
def cX244 : List (Nat × Nat × Nat × Nat) := (1, 87, 17, 118) :: cX243
theorem wcX244 : WF 119 1443704 cX244 := ⟨by decide, wcX243⟩
def cX245 : List (Nat × Nat × Nat × Nat) := (0, 0, 512, 119) :: cX244
theorem wcX245 : WF 120 1444216 cX245 := ⟨rfl, by decide, wcX244⟩
def cX246 : List (Nat × Nat × Nat × Nat) := (1, 87, 18, 119) :: cX245
theorem wcX246 : WF 120 1444216 cX246 := ⟨by decide, wcX245⟩
def cX247 : List (Nat × Nat × Nat × Nat) := (0, 3, 512, 120) :: cX246
theorem wcX247 : WF 121 1444728 cX247 := ⟨rfl, by decide, wcX246⟩
def cX248 : List (Nat × Nat × Nat × Nat) := (1, 87, 19, 120) :: cX247
theorem wcX248 : WF 121 1444728 cX248 := ⟨by decide, wcX247⟩
theorem ct_X0_7 {E : XE} {d : Nat} (hd : 3 ≤ d) : CC E mX5_init d [aO 87, aO 0] (crun cX180 e00) (RV (fun τ => τ = crun cX248 e00)) := by
  obtain ⟨d, rfl⟩ : ∃ e, d = e + 1 := ⟨d - 1, by omega⟩
  refine v_aload_n 0 DX5_init_0 rfl rfl ?_
  refine v_aload_n 1 DX5_init_1 rfl rfl ?_
  refine v_putR (ci := 5) (kf := 20) (z := 21) DX5_init_2 (csh wcX180 (by decide +kernel)) rfl (by decide) (Or.inr (Or.inr ⟨rfl, rfl, rfl, q908⟩)) (fun _ _ => rfl) rfl rfl (Or.inr (cR wcX180 (by decide +kernel))) ?_
  show VV E mX5_init (d + 1) 5 _ _ (crun cX181 e00) _
  refine v_aload_n 0 DX5_init_5 rfl rfl ?_
  refine v_objInit DX5_init_6 q833 q309 q310 (by omega) (by decide) ?_
  refine v_aload_n 0 DX5_init_9 rfl rfl ?_
  refine v_new (ci := 3) (z := 17) DX5_init_10 rfl q834 q713 q256 (cn_ok wcX181 (by decide)) (cz_ok wcX181 (by decide)) ?_
  rw [cnn wcX181]
  show VV E mX5_init (d + 1) 13 _ _ (crun cX182 e00) _
  refine v_dup DX5_init_13 rfl ?_
  refine v_invI (as := []) (b := 88) (st := [aO 88, aO 87]) DX5_init_14 rfl okX3_init (Or.inr ⟨_, q835⟩) q715 q716 rfl npX3_init (ct_X0_7_1 (d := d) (by omega)) (Nat.le_of_ble_eq_true rfl) (Nat.le_refl _) (Nat.le_of_ble_eq_true rfl) (RV_ret (fun τ g e => ?_)) RV_thr
  subst e
  refine v_putR (ci := 5) (kf := 0) (z := 21) DX5_init_17 (csh wcX208 (by decide +kernel)) rfl (by decide) (Or.inr (Or.inr ⟨rfl, rfl, rfl, q885⟩)) (fun _ _ => rfl) rfl rfl (Or.inr (cR wcX208 (by decide +kernel))) ?_
  show VV E mX5_init (d + 1) 20 _ _ (crun cX209 e00) _
  refine v_aload_n 0 DX5_init_20 rfl rfl ?_
  refine v_new (ci := 6) (z := 10) DX5_init_21 rfl q836 q837 q259 (cn_ok wcX209 (by decide)) (cz_ok wcX209 (by decide)) ?_
  rw [cnn wcX209]
  show VV E mX5_init (d + 1) 24 _ _ (crun cX210 e00) _
  refine v_dup DX5_init_24 rfl ?_
  refine v_aload_n 0 DX5_init_25 rfl rfl ?_
  refine w_getR (ci := 5) (kf := 20) (kz := 20) DX5_init_26 (csh wcX210 (q := (105, 21)) (by decide +kernel)) rfl (by decide) rfl (Or.inl q908) (fun _ _ => rfl) (cR wcX210 (k := 20) (v := some 0) (by decide +kernel)) ?_
  refine v_invI (as := [aO 0]) (b := 102) (st := [aO 102, aO 87]) DX5_init_29 rfl okX6_init (Or.inr ⟨_, q838⟩) q839 q840 rfl npX6_init (ct_X0_7_2 (d := d) (by omega)) (Nat.le_of_ble_eq_true rfl) (Nat.le_refl _) (Nat.le_of_ble_eq_true rfl) (RV_ret (fun τ g e => ?_)) RV_thr
  subst e
  refine v_putR (ci := 5) (kf := 1) (z := 21) DX5_init_32 (csh wcX221 (by decide +kernel)) rfl (by decide) (Or.inr (Or.inr ⟨rfl, rfl, rfl, q887⟩)) (fun _ _ => rfl) rfl rfl (Or.inr (cR wcX221 (by decide +kernel))) ?_
  show VV E mX5_init (d + 1) 35 _ _ (crun cX222 e00) _
  refine v_aload_n 0 DX5_init_35 rfl rfl ?_
  refine v_sipush DX5_init_36 (by decide) ?_
  refine v_newa (t := 0) (z := 200) DX5_init_39 rfl (by decide) q337 rfl (by decide) (cn_ok wcX222 (by decide)) (cz_ok wcX222 (by decide)) ?_
  rw [cnn wcX222]
  show VV E mX5_init (d + 1) 41 _ _ (crun cX223 e00) _
  refine v_putR (ci := 5) (kf := 3) (z := 21) DX5_init_41 (csh wcX223 (by decide +kernel)) rfl (by decide) (Or.inr (Or.inr ⟨rfl, rfl, rfl, q891⟩)) (fun _ _ => rfl) rfl rfl (Or.inr (cR wcX223 (by decide +kernel))) ?_
  show VV E mX5_init (d + 1) 44 _ _ (crun cX224 e00) _
  refine v_aload_n 0 DX5_init_44 rfl rfl ?_
  refine v_sipush DX5_init_45 (by decide) ?_
  refine v_newa (t := 4) (z := 200) DX5_init_48 rfl (by decide) q806 rfl (by decide) (cn_ok wcX224 (by decide)) (cz_ok wcX224 (by decide)) ?_
  rw [cnn wcX224]
  show VV E mX5_init (d + 1) 50 _ _ (crun cX225 e00) _
  refine v_putR (ci := 5) (kf := 4) (z := 21) DX5_init_50 (csh wcX225 (by decide +kernel)) rfl (by decide) (Or.inr (Or.inr ⟨rfl, rfl, rfl, q892⟩)) (fun _ _ => rfl) rfl rfl (Or.inr (cR wcX225 (by decide +kernel))) ?_
  show VV E mX5_init (d + 1) 53 _ _ (crun cX226 e00) _
  refine v_aload_n 0 DX5_init_53 rfl rfl ?_
  refine v_ldc (x := 36060) DX5_init_54 q883 rfl ?_
  refine v_newa (t := 2) (z := 36060) DX5_init_56 rfl (by decide) q805 rfl (by decide) (cn_ok wcX226 (by decide)) (cz_ok wcX226 (by decide)) ?_
  rw [cnn wcX226]
  show VV E mX5_init (d + 1) 58 _ _ (crun cX227 e00) _
  refine v_putR (ci := 5) (kf := 5) (z := 21) DX5_init_58 (csh wcX227 (by decide +kernel)) rfl (by decide) (Or.inr (Or.inr ⟨rfl, rfl, rfl, q893⟩)) (fun _ _ => rfl) rfl rfl (Or.inr (cR wcX227 (by decide +kernel))) ?_
  show VV E mX5_init (d + 1) 61 _ _ (crun cX228 e00) _
  refine v_aload_n 0 DX5_init_61 rfl rfl ?_
  refine v_sipush DX5_init_62 (by decide) ?_
  refine v_newa (t := 0) (z := 200) DX5_init_65 rfl (by decide) q337 rfl (by decide) (cn_ok wcX228 (by decide)) (cz_ok wcX228 (by decide)) ?_
  rw [cnn wcX228]
  show VV E mX5_init (d + 1) 67 _ _ (crun cX229 e00) _
  refine v_putR (ci := 5) (kf := 7) (z := 21) DX5_init_67 (csh wcX229 (by decide +kernel)) rfl (by decide) (Or.inr (Or.inr ⟨rfl, rfl, rfl, q895⟩)) (fun _ _ => rfl) rfl rfl (Or.inr (cR wcX229 (by decide +kernel))) ?_
  show VV E mX5_init (d + 1) 70 _ _ (crun cX230 e00) _
  refine v_aload_n 0 DX5_init_70 rfl rfl ?_
  refine v_sipush DX5_init_71 (by decide) ?_
  refine v_newa (t := 0) (z := 200) DX5_init_74 rfl (by decide) q337 rfl (by decide) (cn_ok wcX230 (by decide)) (cz_ok wcX230 (by decide)) ?_
  rw [cnn wcX230]
  show VV E mX5_init (d + 1) 76 _ _ (crun cX231 e00) _
  refine v_putR (ci := 5) (kf := 8) (z := 21) DX5_init_76 (csh wcX231 (by decide +kernel)) rfl (by decide) (Or.inr (Or.inr ⟨rfl, rfl, rfl, q896⟩)) (fun _ _ => rfl) rfl rfl (Or.inr (cR wcX231 (by decide +kernel))) ?_
  show VV E mX5_init (d + 1) 79 _ _ (crun cX232 e00) _
  refine v_aload_n 0 DX5_init_79 rfl rfl ?_
  refine v_sipush DX5_init_80 (by decide) ?_
  refine v_newa (t := 0) (z := 1000) DX5_init_83 rfl (by decide) q337 rfl (by decide) (cn_ok wcX232 (by decide)) (cz_ok wcX232 (by decide)) ?_
  rw [cnn wcX232]
  show VV E mX5_init (d + 1) 85 _ _ (crun cX233 e00) _
  refine v_putR (ci := 5) (kf := 9) (z := 21) DX5_init_85 (csh wcX233 (by decide +kernel)) rfl (by decide) (Or.inr (Or.inr ⟨rfl, rfl, rfl, q897⟩)) (fun _ _ => rfl) rfl rfl (Or.inr (cR wcX233 (by decide +kernel))) ?_
  show VV E mX5_init (d + 1) 88 _ _ (crun cX234 e00) _
  refine v_aload_n 0 DX5_init_88 rfl rfl ?_
  refine v_sipush DX5_init_89 (by decide) ?_
  refine v_newa (t := 0) (z := 1001) DX5_init_92 rfl (by decide) q337 rfl (by decide) (cn_ok wcX234 (by decide)) (cz_ok wcX234 (by decide)) ?_
  rw [cnn wcX234]
  show VV E mX5_init (d + 1) 94 _ _ (crun cX235 e00) _
  refine v_putR (ci := 5) (kf := 10) (z := 21) DX5_init_94 (csh wcX235 (by decide +kernel)) rfl (by decide) (Or.inr (Or.inr ⟨rfl, rfl, rfl, q898⟩)) (fun _ _ => rfl) rfl rfl (Or.inr (cR wcX235 (by decide +kernel))) ?_
  show VV E mX5_init (d + 1) 97 _ _ (crun cX236 e00) _
  refine v_aload_n 0 DX5_init_97 rfl rfl ?_
  refine v_sipush DX5_init_98 (by decide) ?_
  refine v_newa (t := 0) (z := 6000) DX5_init_101 rfl (by decide) q337 rfl (by decide) (cn_ok wcX236 (by decide)) (cz_ok wcX236 (by decide)) ?_
  rw [cnn wcX236]
  show VV E mX5_init (d + 1) 103 _ _ (crun cX237 e00) _
  refine v_putR (ci := 5) (kf := 11) (z := 21) DX5_init_103 (csh wcX237 (by decide +kernel)) rfl (by decide) (Or.inr (Or.inr ⟨rfl, rfl, rfl, q899⟩)) (fun _ _ => rfl) rfl rfl (Or.inr (cR wcX237 (by decide +kernel))) ?_
  show VV E mX5_init (d + 1) 106 _ _ (crun cX238 e00) _
  refine v_aload_n 0 DX5_init_106 rfl rfl ?_
  refine v_ldc (x := 72120) DX5_init_107 q884 rfl ?_
  refine v_newa (t := 4) (z := 72120) DX5_init_109 rfl (by decide) q806 rfl (by decide) (cn_ok wcX238 (by decide)) (cz_ok wcX238 (by decide)) ?_
  rw [cnn wcX238]
  show VV E mX5_init (d + 1) 111 _ _ (crun cX239 e00) _
  refine v_putR (ci := 5) (kf := 14) (z := 21) DX5_init_111 (csh wcX239 (by decide +kernel)) rfl (by decide) (Or.inr (Or.inr ⟨rfl, rfl, rfl, q902⟩)) (fun _ _ => rfl) rfl rfl (Or.inr (cR wcX239 (by decide +kernel))) ?_
  show VV E mX5_init (d + 1) 114 _ _ (crun cX240 e00) _
  refine v_aload_n 0 DX5_init_114 rfl rfl ?_
  refine v_bipush DX5_init_115 (by decide) ?_
  refine v_newa (t := 1) (z := 20) DX5_init_117 rfl (by decide) q336 rfl (by decide) (cn_ok wcX240 (by decide)) (cz_ok wcX240 (by decide)) ?_
  rw [cnn wcX240]
  show VV E mX5_init (d + 1) 119 _ _ (crun cX241 e00) _
  refine v_putR (ci := 5) (kf := 15) (z := 21) DX5_init_119 (csh wcX241 (by decide +kernel)) rfl (by decide) (Or.inr (Or.inr ⟨rfl, rfl, rfl, q903⟩)) (fun _ _ => rfl) rfl rfl (Or.inr (cR wcX241 (by decide +kernel))) ?_
  show VV E mX5_init (d + 1) 122 _ _ (crun cX242 e00) _
  refine v_aload_n 0 DX5_init_122 rfl rfl ?_
  refine v_sipush DX5_init_123 (by decide) ?_
  refine v_newa (t := 4) (z := 128) DX5_init_126 rfl (by decide) q806 rfl (by decide) (cn_ok wcX242 (by decide)) (cz_ok wcX242 (by decide)) ?_
  rw [cnn wcX242]
  show VV E mX5_init (d + 1) 128 _ _ (crun cX243 e00) _
  refine v_putR (ci := 5) (kf := 17) (z := 21) DX5_init_128 (csh wcX243 (by decide +kernel)) rfl (by decide) (Or.inr (Or.inr ⟨rfl, rfl, rfl, q905⟩)) (fun _ _ => rfl) rfl rfl (Or.inr (cR wcX243 (by decide +kernel))) ?_
  show VV E mX5_init (d + 1) 131 _ _ (crun cX244 e00) _
  refine v_aload_n 0 DX5_init_131 rfl rfl ?_
  refine v_sipush DX5_init_132 (by decide) ?_
  refine v_newa (t := 0) (z := 512) DX5_init_135 rfl (by decide) q337 rfl (by decide) (cn_ok wcX244 (by decide)) (cz_ok wcX244 (by decide)) ?_
  rw [cnn wcX244]
  show VV E mX5_init (d + 1) 137 _ _ (crun cX245 e00) _
  refine v_putR (ci := 5) (kf := 18) (z := 21) DX5_init_137 (csh wcX245 (by decide +kernel)) rfl (by decide) (Or.inr (Or.inr ⟨rfl, rfl, rfl, q906⟩)) (fun _ _ => rfl) rfl rfl (Or.inr (cR wcX245 (by decide +kernel))) ?_
  show VV E mX5_init (d + 1) 140 _ _ (crun cX246 e00) _
  refine v_aload_n 0 DX5_init_140 rfl rfl ?_
  refine v_sipush DX5_init_141 (by decide) ?_
  refine v_newa (t := 3) (z := 512) DX5_init_144 rfl (by decide) q807 rfl (by decide) (cn_ok wcX246 (by decide)) (cz_ok wcX246 (by decide)) ?_
  rw [cnn wcX246]
  show VV E mX5_init (d + 1) 146 _ _ (crun cX247 e00) _
  refine v_putR (ci := 5) (kf := 19) (z := 21) DX5_init_146 (csh wcX247 (by decide +kernel)) rfl (by decide) (Or.inr (Or.inr ⟨rfl, rfl, rfl, q907⟩)) (fun _ _ => rfl) rfl rfl (Or.inr (cR wcX247 (by decide +kernel))) ?_
  show VV E mX5_init (d + 1) 149 _ _ (crun cX248 e00) _
  exact v_vret DX5_init_149 rfl (RV_mk rfl)
def cX249 : List (Nat × Nat × Nat × Nat) := (1, 0, 60, 87) :: cX248
theorem wcX249 : WF 121 1444728 cX249 := ⟨by decide, wcX248⟩
def cX250 : List (Nat × Nat × Nat × Nat) := (0, 105, 21, 121) :: cX249
theorem wcX250 : WF 122 1444749 cX250 := ⟨rfl, by decide, wcX249⟩
def cX251 : List (Nat × Nat × Nat × Nat) := (1, 121, 20, 0) :: cX250
theorem wcX251 : WF 122 1444749 cX251 := ⟨by decide, wcX250⟩
def cX252 : List (Nat × Nat × Nat × Nat) := (0, 103, 17, 122) :: cX251
theorem wcX252 : WF 123 1444766 cX252 := ⟨rfl, by decide, wcX251⟩
def cX253 : List (Nat × Nat × Nat × Nat) := (0, 1, 400, 123) :: cX252
theorem wcX253 : WF 124 1445166 cX253 := ⟨rfl, by decide, wcX252⟩
def cX254 : List (Nat × Nat × Nat × Nat) := (1, 122, 0, 123) :: cX253
theorem wcX254 : WF 124 1445166 cX254 := ⟨by decide, wcX253⟩
def cX255 : List (Nat × Nat × Nat × Nat) := (0, 0, 200, 124) :: cX254
theorem wcX255 : WF 125 1445366 cX255 := ⟨rfl, by decide, wcX254⟩
def cX256 : List (Nat × Nat × Nat × Nat) := (1, 122, 5, 124) :: cX255
theorem wcX256 : WF 125 1445366 cX256 := ⟨by decide, wcX255⟩
def cX257 : List (Nat × Nat × Nat × Nat) := (0, 0, 200, 125) :: cX256
theorem wcX257 : WF 126 1445566 cX257 := ⟨rfl, by decide, wcX256⟩
def cX258 : List (Nat × Nat × Nat × Nat) := (1, 122, 6, 125) :: cX257
theorem wcX258 : WF 126 1445566 cX258 := ⟨by decide, wcX257⟩
def cX259 : List (Nat × Nat × Nat × Nat) := (0, 0, 200, 126) :: cX258
theorem wcX259 : WF 127 1445766 cX259 := ⟨rfl, by decide, wcX258⟩
def cX260 : List (Nat × Nat × Nat × Nat) := (1, 122, 7, 126) :: cX259
theorem wcX260 : WF 127 1445766 cX260 := ⟨by decide, wcX259⟩
def cX261 : List (Nat × Nat × Nat × Nat) := (0, 0, 200, 127) :: cX260
theorem wcX261 : WF 128 1445966 cX261 := ⟨rfl, by decide, wcX260⟩
def cX262 : List (Nat × Nat × Nat × Nat) := (1, 122, 8, 127) :: cX261
theorem wcX262 : WF 128 1445966 cX262 := ⟨by decide, wcX261⟩
def cX263 : List (Nat × Nat × Nat × Nat) := (0, 4, 200, 128) :: cX262
theorem wcX263 : WF 129 1446166 cX263 := ⟨rfl, by decide, wcX262⟩
def cX264 : List (Nat × Nat × Nat × Nat) := (1, 122, 9, 128) :: cX263
theorem wcX264 : WF 129 1446166 cX264 := ⟨by decide, wcX263⟩
def cX265 : List (Nat × Nat × Nat × Nat) := (0, 0, 200, 129) :: cX264
theorem wcX265 : WF 130 1446366 cX265 := ⟨rfl, by decide, wcX264⟩
def cX266 : List (Nat × Nat × Nat × Nat) := (1, 122, 10, 129) :: cX265
theorem wcX266 : WF 130 1446366 cX266 := ⟨by decide, wcX265⟩
def cX267 : List (Nat × Nat × Nat × Nat) := (0, 0, 200, 130) :: cX266
theorem wcX267 : WF 131 1446566 cX267 := ⟨rfl, by decide, wcX266⟩
def cX268 : List (Nat × Nat × Nat × Nat) := (1, 122, 11, 130) :: cX267
theorem wcX268 : WF 131 1446566 cX268 := ⟨by decide, wcX267⟩
def cX269 : List (Nat × Nat × Nat × Nat) := (0, 0, 200, 131) :: cX268
theorem wcX269 : WF 132 1446766 cX269 := ⟨rfl, by decide, wcX268⟩
def cX270 : List (Nat × Nat × Nat × Nat) := (1, 122, 12, 131) :: cX269
theorem wcX270 : WF 132 1446766 cX270 := ⟨by decide, wcX269⟩
def cX271 : List (Nat × Nat × Nat × Nat) := (0, 0, 200, 132) :: cX270
theorem wcX271 : WF 133 1446966 cX271 := ⟨rfl, by decide, wcX270⟩
def cX272 : List (Nat × Nat × Nat × Nat) := (1, 122, 13, 132) :: cX271
theorem wcX272 : WF 133 1446966 cX272 := ⟨by decide, wcX271⟩
def cX273 : List (Nat × Nat × Nat × Nat) := (0, 4, 200, 133) :: cX272
theorem wcX273 : WF 134 1447166 cX273 := ⟨rfl, by decide, wcX272⟩
def cX274 : List (Nat × Nat × Nat × Nat) := (1, 122, 14, 133) :: cX273
theorem wcX274 : WF 134 1447166 cX274 := ⟨by decide, wcX273⟩
def cX275 : List (Nat × Nat × Nat × Nat) := (0, 4, 200, 134) :: cX274
theorem wcX275 : WF 135 1447366 cX275 := ⟨rfl, by decide, wcX274⟩
def cX276 : List (Nat × Nat × Nat × Nat) := (1, 122, 15, 134) :: cX275
theorem wcX276 : WF 135 1447366 cX276 := ⟨by decide, wcX275⟩
def cX277 : List (Nat × Nat × Nat × Nat) := (0, 4, 200, 135) :: cX276
theorem wcX277 : WF 136 1447566 cX277 := ⟨rfl, by decide, wcX276⟩
def cX278 : List (Nat × Nat × Nat × Nat) := (1, 122, 16, 135) :: cX277
theorem wcX278 : WF 136 1447566 cX278 := ⟨by decide, wcX277⟩
theorem ct_X0_8_1 {E : XE} {d : Nat} (hd : 2 ≤ d) : CC E mX3_init d [aO 122] (crun cX252 e00) (RV (fun τ => τ = crun cX278 e00)) := by
  refine v_aload_n 0 DX3_init_0 rfl rfl ?_
  refine v_objInit DX3_init_1 q717 q309 q310 (by omega) (by decide) ?_
  refine v_aload_n 0 DX3_init_4 rfl rfl ?_
  refine v_sipush DX3_init_5 (by decide) ?_
  refine v_newa (t := 1) (z := 400) DX3_init_8 rfl (by decide) q336 rfl (by decide) (cn_ok wcX252 (by decide)) (cz_ok wcX252 (by decide)) ?_
  rw [cnn wcX252]
  show VV E mX3_init d 10 _ _ (crun cX253 e00) _
  refine v_putR (ci := 3) (kf := 0) (z := 17) DX3_init_10 (csh wcX253 (by decide +kernel)) rfl (by decide) (Or.inr (Or.inr ⟨rfl, rfl, rfl, q718⟩)) (fun _ _ => rfl) rfl rfl (Or.inr (cR wcX253 (by decide +kernel))) ?_
  show VV E mX3_init d 13 _ _ (crun cX254 e00) _
  refine v_aload_n 0 DX3_init_13 rfl rfl ?_
  refine v_sipush DX3_init_14 (by decide) ?_
  refine v_newa (t := 0) (z := 200) DX3_init_17 rfl (by decide) q337 rfl (by decide) (cn_ok wcX254 (by decide)) (cz_ok wcX254 (by decide)) ?_
  rw [cnn wcX254]
  show VV E mX3_init d 19 _ _ (crun cX255 e00) _
  refine v_putR (ci := 3) (kf := 5) (z := 17) DX3_init_19 (csh wcX255 (by decide +kernel)) rfl (by decide) (Or.inr (Or.inr ⟨rfl, rfl, rfl, q734⟩)) (fun _ _ => rfl) rfl rfl (Or.inr (cR wcX255 (by decide +kernel))) ?_
  show VV E mX3_init d 22 _ _ (crun cX256 e00) _
  refine v_aload_n 0 DX3_init_22 rfl rfl ?_
  refine v_sipush DX3_init_23 (by decide) ?_
  refine v_newa (t := 0) (z := 200) DX3_init_26 rfl (by decide) q337 rfl (by decide) (cn_ok wcX256 (by decide)) (cz_ok wcX256 (by decide)) ?_
  rw [cnn wcX256]
  show VV E mX3_init d 28 _ _ (crun cX257 e00) _
  refine v_putR (ci := 3) (kf := 6) (z := 17) DX3_init_28 (csh wcX257 (by decide +kernel)) rfl (by decide) (Or.inr (Or.inr ⟨rfl, rfl, rfl, q737⟩)) (fun _ _ => rfl) rfl rfl (Or.inr (cR wcX257 (by decide +kernel))) ?_
  show VV E mX3_init d 31 _ _ (crun cX258 e00) _
  refine v_aload_n 0 DX3_init_31 rfl rfl ?_
  refine v_sipush DX3_init_32 (by decide) ?_
  refine v_newa (t := 0) (z := 200) DX3_init_35 rfl (by decide) q337 rfl (by decide) (cn_ok wcX258 (by decide)) (cz_ok wcX258 (by decide)) ?_
  rw [cnn wcX258]
  show VV E mX3_init d 37 _ _ (crun cX259 e00) _
  refine v_putR (ci := 3) (kf := 7) (z := 17) DX3_init_37 (csh wcX259 (by decide +kernel)) rfl (by decide) (Or.inr (Or.inr ⟨rfl, rfl, rfl, q740⟩)) (fun _ _ => rfl) rfl rfl (Or.inr (cR wcX259 (by decide +kernel))) ?_
  show VV E mX3_init d 40 _ _ (crun cX260 e00) _
  refine v_aload_n 0 DX3_init_40 rfl rfl ?_
  refine v_sipush DX3_init_41 (by decide) ?_
  refine v_newa (t := 0) (z := 200) DX3_init_44 rfl (by decide) q337 rfl (by decide) (cn_ok wcX260 (by decide)) (cz_ok wcX260 (by decide)) ?_
  rw [cnn wcX260]
  show VV E mX3_init d 46 _ _ (crun cX261 e00) _
  refine v_putR (ci := 3) (kf := 8) (z := 17) DX3_init_46 (csh wcX261 (by decide +kernel)) rfl (by decide) (Or.inr (Or.inr ⟨rfl, rfl, rfl, q743⟩)) (fun _ _ => rfl) rfl rfl (Or.inr (cR wcX261 (by decide +kernel))) ?_
  show VV E mX3_init d 49 _ _ (crun cX262 e00) _
  refine v_aload_n 0 DX3_init_49 rfl rfl ?_
  refine v_sipush DX3_init_50 (by decide) ?_
  refine v_newa (t := 4) (z := 200) DX3_init_53 rfl (by decide) q806 rfl (by decide) (cn_ok wcX262 (by decide)) (cz_ok wcX262 (by decide)) ?_
  rw [cnn wcX262]
  show VV E mX3_init d 55 _ _ (crun cX263 e00) _
  refine v_putR (ci := 3) (kf := 9) (z := 17) DX3_init_55 (csh wcX263 (by decide +kernel)) rfl (by decide) (Or.inr (Or.inr ⟨rfl, rfl, rfl, q746⟩)) (fun _ _ => rfl) rfl rfl (Or.inr (cR wcX263 (by decide +kernel))) ?_
  show VV E mX3_init d 58 _ _ (crun cX264 e00) _
  refine v_aload_n 0 DX3_init_58 rfl rfl ?_
  refine v_sipush DX3_init_59 (by decide) ?_
  refine v_newa (t := 0) (z := 200) DX3_init_62 rfl (by decide) q337 rfl (by decide) (cn_ok wcX264 (by decide)) (cz_ok wcX264 (by decide)) ?_
  rw [cnn wcX264]
  show VV E mX3_init d 64 _ _ (crun cX265 e00) _
  refine v_putR (ci := 3) (kf := 10) (z := 17) DX3_init_64 (csh wcX265 (by decide +kernel)) rfl (by decide) (Or.inr (Or.inr ⟨rfl, rfl, rfl, q749⟩)) (fun _ _ => rfl) rfl rfl (Or.inr (cR wcX265 (by decide +kernel))) ?_
  show VV E mX3_init d 67 _ _ (crun cX266 e00) _
  refine v_aload_n 0 DX3_init_67 rfl rfl ?_
  refine v_sipush DX3_init_68 (by decide) ?_
  refine v_newa (t := 0) (z := 200) DX3_init_71 rfl (by decide) q337 rfl (by decide) (cn_ok wcX266 (by decide)) (cz_ok wcX266 (by decide)) ?_
  rw [cnn wcX266]
  show VV E mX3_init d 73 _ _ (crun cX267 e00) _
  refine v_putR (ci := 3) (kf := 11) (z := 17) DX3_init_73 (csh wcX267 (by decide +kernel)) rfl (by decide) (Or.inr (Or.inr ⟨rfl, rfl, rfl, q752⟩)) (fun _ _ => rfl) rfl rfl (Or.inr (cR wcX267 (by decide +kernel))) ?_
  show VV E mX3_init d 76 _ _ (crun cX268 e00) _
  refine v_aload_n 0 DX3_init_76 rfl rfl ?_
  refine v_sipush DX3_init_77 (by decide) ?_
  refine v_newa (t := 0) (z := 200) DX3_init_80 rfl (by decide) q337 rfl (by decide) (cn_ok wcX268 (by decide)) (cz_ok wcX268 (by decide)) ?_
  rw [cnn wcX268]
  show VV E mX3_init d 82 _ _ (crun cX269 e00) _
  refine v_putR (ci := 3) (kf := 12) (z := 17) DX3_init_82 (csh wcX269 (by decide +kernel)) rfl (by decide) (Or.inr (Or.inr ⟨rfl, rfl, rfl, q755⟩)) (fun _ _ => rfl) rfl rfl (Or.inr (cR wcX269 (by decide +kernel))) ?_
  show VV E mX3_init d 85 _ _ (crun cX270 e00) _
  refine v_aload_n 0 DX3_init_85 rfl rfl ?_
  refine v_sipush DX3_init_86 (by decide) ?_
  refine v_newa (t := 0) (z := 200) DX3_init_89 rfl (by decide) q337 rfl (by decide) (cn_ok wcX270 (by decide)) (cz_ok wcX270 (by decide)) ?_
  rw [cnn wcX270]
  show VV E mX3_init d 91 _ _ (crun cX271 e00) _
  refine v_putR (ci := 3) (kf := 13) (z := 17) DX3_init_91 (csh wcX271 (by decide +kernel)) rfl (by decide) (Or.inr (Or.inr ⟨rfl, rfl, rfl, q758⟩)) (fun _ _ => rfl) rfl rfl (Or.inr (cR wcX271 (by decide +kernel))) ?_
  show VV E mX3_init d 94 _ _ (crun cX272 e00) _
  refine v_aload_n 0 DX3_init_94 rfl rfl ?_
  refine v_sipush DX3_init_95 (by decide) ?_
  refine v_newa (t := 4) (z := 200) DX3_init_98 rfl (by decide) q806 rfl (by decide) (cn_ok wcX272 (by decide)) (cz_ok wcX272 (by decide)) ?_
  rw [cnn wcX272]
  show VV E mX3_init d 100 _ _ (crun cX273 e00) _
  refine v_putR (ci := 3) (kf := 14) (z := 17) DX3_init_100 (csh wcX273 (by decide +kernel)) rfl (by decide) (Or.inr (Or.inr ⟨rfl, rfl, rfl, q761⟩)) (fun _ _ => rfl) rfl rfl (Or.inr (cR wcX273 (by decide +kernel))) ?_
  show VV E mX3_init d 103 _ _ (crun cX274 e00) _
  refine v_aload_n 0 DX3_init_103 rfl rfl ?_
  refine v_sipush DX3_init_104 (by decide) ?_
  refine v_newa (t := 4) (z := 200) DX3_init_107 rfl (by decide) q806 rfl (by decide) (cn_ok wcX274 (by decide)) (cz_ok wcX274 (by decide)) ?_
  rw [cnn wcX274]
  show VV E mX3_init d 109 _ _ (crun cX275 e00) _
  refine v_putR (ci := 3) (kf := 15) (z := 17) DX3_init_109 (csh wcX275 (by decide +kernel)) rfl (by decide) (Or.inr (Or.inr ⟨rfl, rfl, rfl, q764⟩)) (fun _ _ => rfl) rfl rfl (Or.inr (cR wcX275 (by decide +kernel))) ?_
  show VV E mX3_init d 112 _ _ (crun cX276 e00) _
  refine v_aload_n 0 DX3_init_112 rfl rfl ?_
  refine v_sipush DX3_init_113 (by decide) ?_
  refine v_newa (t := 4) (z := 200) DX3_init_116 rfl (by decide) q806 rfl (by decide) (cn_ok wcX276 (by decide)) (cz_ok wcX276 (by decide)) ?_
  rw [cnn wcX276]
  show VV E mX3_init d 118 _ _ (crun cX277 e00) _
  refine v_putR (ci := 3) (kf := 16) (z := 17) DX3_init_118 (csh wcX277 (by decide +kernel)) rfl (by decide) (Or.inr (Or.inr ⟨rfl, rfl, rfl, q767⟩)) (fun _ _ => rfl) rfl rfl (Or.inr (cR wcX277 (by decide +kernel))) ?_
  show VV E mX3_init d 121 _ _ (crun cX278 e00) _
  exact v_vret DX3_init_121 rfl (RV_mk rfl)
def cX279 : List (Nat × Nat × Nat × Nat) := (1, 121, 0, 122) :: cX278
theorem wcX279 : WF 136 1447566 cX279 := ⟨by decide, wcX278⟩
def cX280 : List (Nat × Nat × Nat × Nat) := (0, 106, 10, 136) :: cX279
theorem wcX280 : WF 137 1447576 cX280 := ⟨rfl, by decide, wcX279⟩
def cX281 : List (Nat × Nat × Nat × Nat) := (1, 136, 9, 0) :: cX280

