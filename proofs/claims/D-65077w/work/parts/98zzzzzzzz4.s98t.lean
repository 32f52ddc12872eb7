set_option maxRecDepth 100000
set_option maxHeartbeats 1200000
theorem DX0_addText_0W : DD cX0_addText 0 1 1 (.aload_n 0) := ⟨by decide +kernel, rfl⟩
theorem DX0_addText_1W : DD cX0_addText 1 3 4 (.getfield 119) := ⟨by decide +kernel, rfl⟩
theorem DX0_addText_4W : DD cX0_addText 4 1 5 (.iload_n 1) := ⟨by decide +kernel, rfl⟩
theorem DX0_addText_5W : DD cX0_addText 5 1 6 (.iaload) := ⟨by decide +kernel, rfl⟩
theorem DX0_addText_6W : DD cX0_addText 6 1 7 (.iconst 1) := ⟨by decide +kernel, rfl⟩
theorem DX0_addText_7W : DD cX0_addText 7 3 10 (.if_icmp .ne 7) := ⟨by decide +kernel, rfl⟩
theorem DX0_addText_10W : DD cX0_addText 10 1 11 (.iconst 1) := ⟨by decide +kernel, rfl⟩
theorem DX0_addText_11W : DD cX0_addText 11 3 14 (.goto 4) := ⟨by decide +kernel, rfl⟩
theorem DX0_addText_14W : DD cX0_addText 14 1 15 (.iconst 0) := ⟨by decide +kernel, rfl⟩
theorem DX0_addText_15W : DD cX0_addText 15 2 17 (.istore 5) := ⟨by decide +kernel, rfl⟩
theorem DX0_addText_17W : DD cX0_addText 17 1 18 (.aload_n 0) := ⟨by decide +kernel, rfl⟩
theorem DX0_addText_18W : DD cX0_addText 18 3 21 (.getfield 131) := ⟨by decide +kernel, rfl⟩
theorem DX0_addText_21W : DD cX0_addText 21 1 22 (.iconst 0) := ⟨by decide +kernel, rfl⟩
theorem DX0_addText_22W : DD cX0_addText 22 3 25 (.putfield 94) := ⟨by decide +kernel, rfl⟩
theorem DX0_addText_25W : DD cX0_addText 25 2 27 (.iload 5) := ⟨by decide +kernel, rfl⟩
theorem DX0_addText_27W : DD cX0_addText 27 3 30 (.ifCond .ne 27) := ⟨by decide +kernel, rfl⟩
theorem DX0_addText_30W : DD cX0_addText 30 1 31 (.aload_n 0) := ⟨by decide +kernel, rfl⟩
theorem DX0_addText_31W : DD cX0_addText 31 3 34 (.getfield 22) := ⟨by decide +kernel, rfl⟩
theorem DX0_addText_34W : DD cX0_addText 34 1 35 (.aload_n 0) := ⟨by decide +kernel, rfl⟩
theorem DX0_addText_35W : DD cX0_addText 35 3 38 (.getfield 122) := ⟨by decide +kernel, rfl⟩
theorem DX0_addText_38W : DD cX0_addText 38 1 39 (.iload_n 1) := ⟨by decide +kernel, rfl⟩
theorem DX0_addText_39W : DD cX0_addText 39 1 40 (.iaload) := ⟨by decide +kernel, rfl⟩
theorem DX0_addText_40W : DD cX0_addText 40 1 41 (.aaload) := ⟨by decide +kernel, rfl⟩
theorem DX0_addText_41W : DD cX0_addText 41 1 42 (.aload_n 2) := ⟨by decide +kernel, rfl⟩
theorem DX0_addText_42W : DD cX0_addText 42 1 43 (.iload_n 3) := ⟨by decide +kernel, rfl⟩
theorem DX0_addText_43W : DD cX0_addText 43 1 44 (.iload_n 3) := ⟨by decide +kernel, rfl⟩
theorem DX0_addText_44W : DD cX0_addText 44 2 46 (.iload 4) := ⟨by decide +kernel, rfl⟩
theorem DX0_addText_46W : DD cX0_addText 46 1 47 (.iadd) := ⟨by decide +kernel, rfl⟩
theorem DX0_addText_47W : DD cX0_addText 47 1 48 (.aload_n 0) := ⟨by decide +kernel, rfl⟩
theorem DX0_addText_48W : DD cX0_addText 48 3 51 (.getfield 131) := ⟨by decide +kernel, rfl⟩
theorem DX0_addText_51W : DD cX0_addText 51 3 54 (.invokevirtual 90) := ⟨by decide +kernel, rfl⟩
theorem DX0_addText_54W : DD cX0_addText 54 1 55 (.aload_n 0) := ⟨by decide +kernel, rfl⟩
theorem DX0_addText_55W : DD cX0_addText 55 2 57 (.iload 4) := ⟨by decide +kernel, rfl⟩
theorem DX0_addText_57W : DD cX0_addText 57 2 59 (.iload 5) := ⟨by decide +kernel, rfl⟩
theorem DX0_addText_59W : DD cX0_addText 59 3 62 (.ifCond .eq 7) := ⟨by decide +kernel, rfl⟩
theorem DX0_addText_62W : DD cX0_addText 62 1 63 (.iconst 1) := ⟨by decide +kernel, rfl⟩
theorem DX0_addText_63W : DD cX0_addText 63 3 66 (.goto 10) := ⟨by decide +kernel, rfl⟩
theorem DX0_addText_66W : DD cX0_addText 66 1 67 (.aload_n 0) := ⟨by decide +kernel, rfl⟩
theorem DX0_addText_67W : DD cX0_addText 67 3 70 (.getfield 131) := ⟨by decide +kernel, rfl⟩
theorem DX0_addText_70W : DD cX0_addText 70 3 73 (.getfield 94) := ⟨by decide +kernel, rfl⟩
theorem DX0_addText_73W : DD cX0_addText 73 3 76 (.invokevirtual 398) := ⟨by decide +kernel, rfl⟩
theorem DX0_addText_76W : DD cX0_addText 76 3 79 (.ifCond .ne 5) := ⟨by decide +kernel, rfl⟩
theorem DX0_addText_79W : DD cX0_addText 79 1 80 (.iconst 0) := ⟨by decide +kernel, rfl⟩
theorem DX0_addText_80W : DD cX0_addText 80 1 81 (.ireturn) := ⟨by decide +kernel, rfl⟩
theorem DX0_addText_81W : DD cX0_addText 81 1 82 (.aload_n 0) := ⟨by decide +kernel, rfl⟩
theorem DX0_addText_82W : DD cX0_addText 82 1 83 (.dup) := ⟨by decide +kernel, rfl⟩
theorem DX0_addText_83W : DD cX0_addText 83 3 86 (.getfield 385) := ⟨by decide +kernel, rfl⟩
theorem DX0_addText_86W : DD cX0_addText 86 2 88 (.iload 5) := ⟨by decide +kernel, rfl⟩
theorem DX0_addText_88W : DD cX0_addText 88 3 91 (.ifCond .eq 7) := ⟨by decide +kernel, rfl⟩
theorem DX0_addText_91W : DD cX0_addText 91 1 92 (.iconst 1) := ⟨by decide +kernel, rfl⟩
theorem DX0_addText_92W : DD cX0_addText 92 3 95 (.goto 4) := ⟨by decide +kernel, rfl⟩
theorem DX0_addText_95W : DD cX0_addText 95 1 96 (.iconst 0) := ⟨by decide +kernel, rfl⟩
theorem DX0_addText_96W : DD cX0_addText 96 1 97 (.iadd) := ⟨by decide +kernel, rfl⟩
theorem DX0_addText_97W : DD cX0_addText 97 3 100 (.putfield 385) := ⟨by decide +kernel, rfl⟩
theorem DX0_addText_100W : DD cX0_addText 100 1 101 (.aload_n 0) := ⟨by decide +kernel, rfl⟩
theorem DX0_addText_101W : DD cX0_addText 101 3 104 (.getfield 373) := ⟨by decide +kernel, rfl⟩
theorem DX0_addText_104W : DD cX0_addText 104 2 106 (.istore 6) := ⟨by decide +kernel, rfl⟩
theorem DX0_addText_106W : DD cX0_addText 106 1 107 (.aload_n 0) := ⟨by decide +kernel, rfl⟩
theorem DX0_addText_107W : DD cX0_addText 107 3 110 (.getfield 150) := ⟨by decide +kernel, rfl⟩
theorem DX0_addText_110W : DD cX0_addText 110 2 112 (.iload 6) := ⟨by decide +kernel, rfl⟩
theorem DX0_addText_112W : DD cX0_addText 112 1 113 (.aload_n 0) := ⟨by decide +kernel, rfl⟩
theorem DX0_addText_113W : DD cX0_addText 113 3 116 (.getfield 379) := ⟨by decide +kernel, rfl⟩
theorem DX0_addText_116W : DD cX0_addText 116 1 117 (.iastore) := ⟨by decide +kernel, rfl⟩
theorem DX0_addText_117W : DD cX0_addText 117 1 118 (.aload_n 0) := ⟨by decide +kernel, rfl⟩
theorem DX0_addText_118W : DD cX0_addText 118 3 121 (.getfield 153) := ⟨by decide +kernel, rfl⟩
theorem DX0_addText_121W : DD cX0_addText 121 2 123 (.iload 6) := ⟨by decide +kernel, rfl⟩
theorem DX0_addText_123W : DD cX0_addText 123 2 125 (.iload 4) := ⟨by decide +kernel, rfl⟩
theorem DX0_addText_125W : DD cX0_addText 125 1 126 (.iastore) := ⟨by decide +kernel, rfl⟩
theorem DX0_addText_126W : DD cX0_addText 126 1 127 (.aload_n 2) := ⟨by decide +kernel, rfl⟩
theorem DX0_addText_127W : DD cX0_addText 127 1 128 (.iload_n 3) := ⟨by decide +kernel, rfl⟩
theorem DX0_addText_128W : DD cX0_addText 128 1 129 (.aload_n 0) := ⟨by decide +kernel, rfl⟩
theorem DX0_addText_129W : DD cX0_addText 129 3 132 (.getfield 173) := ⟨by decide +kernel, rfl⟩
theorem DX0_addText_132W : DD cX0_addText 132 1 133 (.aload_n 0) := ⟨by decide +kernel, rfl⟩
theorem DX0_addText_133W : DD cX0_addText 133 3 136 (.getfield 379) := ⟨by decide +kernel, rfl⟩
theorem DX0_addText_136W : DD cX0_addText 136 2 138 (.iload 4) := ⟨by decide +kernel, rfl⟩
theorem DX0_addText_138W : DD cX0_addText 138 3 141 (.invokestatic 401) := ⟨by decide +kernel, rfl⟩
theorem DX0_addText_141W : DD cX0_addText 141 1 142 (.aload_n 0) := ⟨by decide +kernel, rfl⟩
theorem DX0_addText_142W : DD cX0_addText 142 1 143 (.dup) := ⟨by decide +kernel, rfl⟩
theorem DX0_addText_143W : DD cX0_addText 143 3 146 (.getfield 379) := ⟨by decide +kernel, rfl⟩
theorem DX0_addText_146W : DD cX0_addText 146 2 148 (.iload 4) := ⟨by decide +kernel, rfl⟩
theorem DX0_addText_148W : DD cX0_addText 148 1 149 (.iadd) := ⟨by decide +kernel, rfl⟩
theorem DX0_addText_149W : DD cX0_addText 149 3 152 (.putfield 379) := ⟨by decide +kernel, rfl⟩
theorem DX0_addText_152W : DD cX0_addText 152 1 153 (.aload_n 0) := ⟨by decide +kernel, rfl⟩
theorem DX0_addText_153W : DD cX0_addText 153 3 156 (.getfield 160) := ⟨by decide +kernel, rfl⟩
theorem DX0_addText_156W : DD cX0_addText 156 2 158 (.iload 6) := ⟨by decide +kernel, rfl⟩
theorem DX0_addText_158W : DD cX0_addText 158 1 159 (.aload_n 0) := ⟨by decide +kernel, rfl⟩
theorem DX0_addText_159W : DD cX0_addText 159 3 162 (.getfield 382) := ⟨by decide +kernel, rfl⟩
theorem DX0_addText_162W : DD cX0_addText 162 1 163 (.iastore) := ⟨by decide +kernel, rfl⟩
theorem DX0_addText_163W : DD cX0_addText 163 1 164 (.aload_n 0) := ⟨by decide +kernel, rfl⟩
theorem DX0_addText_164W : DD cX0_addText 164 3 167 (.getfield 163) := ⟨by decide +kernel, rfl⟩
theorem DX0_addText_167W : DD cX0_addText 167 2 169 (.iload 6) := ⟨by decide +kernel, rfl⟩
theorem DX0_addText_169W : DD cX0_addText 169 1 170 (.aload_n 0) := ⟨by decide +kernel, rfl⟩
theorem DX0_addText_170W : DD cX0_addText 170 3 173 (.getfield 131) := ⟨by decide +kernel, rfl⟩
theorem DX0_addText_173W : DD cX0_addText 173 3 176 (.getfield 94) := ⟨by decide +kernel, rfl⟩
theorem DX0_addText_176W : DD cX0_addText 176 1 177 (.iastore) := ⟨by decide +kernel, rfl⟩
theorem DX0_addText_177W : DD cX0_addText 177 2 179 (.iload 5) := ⟨by decide +kernel, rfl⟩
theorem DX0_addText_179W : DD cX0_addText 179 3 182 (.ifCond .eq 22) := ⟨by decide +kernel, rfl⟩
theorem DX0_addText_182W : DD cX0_addText 182 1 183 (.aload_n 0) := ⟨by decide +kernel, rfl⟩
theorem DX0_addText_183W : DD cX0_addText 183 3 186 (.getfield 166) := ⟨by decide +kernel, rfl⟩
theorem DX0_addText_186W : DD cX0_addText 186 2 188 (.iload 6) := ⟨by decide +kernel, rfl⟩
theorem DX0_addText_188W : DD cX0_addText 188 1 189 (.aload_n 0) := ⟨by decide +kernel, rfl⟩
theorem DX0_addText_189W : DD cX0_addText 189 3 192 (.getfield 139) := ⟨by decide +kernel, rfl⟩
theorem DX0_addText_192W : DD cX0_addText 192 1 193 (.iload_n 1) := ⟨by decide +kernel, rfl⟩
theorem DX0_addText_193W : DD cX0_addText 193 1 194 (.aload_n 2) := ⟨by decide +kernel, rfl⟩
theorem DX0_addText_194W : DD cX0_addText 194 1 195 (.iload_n 3) := ⟨by decide +kernel, rfl⟩
theorem DX0_addText_195W : DD cX0_addText 195 2 197 (.iload 4) := ⟨by decide +kernel, rfl⟩
theorem DX0_addText_197W : DD cX0_addText 197 3 200 (.invokevirtual 407) := ⟨by decide +kernel, rfl⟩
theorem DX0_addText_200W : DD cX0_addText 200 1 201 (.iastore) := ⟨by decide +kernel, rfl⟩
theorem DX0_addText_201W : DD cX0_addText 201 1 202 (.iconst 0) := ⟨by decide +kernel, rfl⟩
theorem DX0_addText_202W : DD cX0_addText 202 2 204 (.istore 7) := ⟨by decide +kernel, rfl⟩
theorem DX0_addText_204W : DD cX0_addText 204 2 206 (.iload 7) := ⟨by decide +kernel, rfl⟩
theorem DX0_addText_206W : DD cX0_addText 206 1 207 (.aload_n 0) := ⟨by decide +kernel, rfl⟩
theorem DX0_addText_207W : DD cX0_addText 207 3 210 (.getfield 131) := ⟨by decide +kernel, rfl⟩
theorem DX0_addText_210W : DD cX0_addText 210 3 213 (.getfield 94) := ⟨by decide +kernel, rfl⟩
theorem DX0_addText_213W : DD cX0_addText 213 3 216 (.if_icmp .ge 126) := ⟨by decide +kernel, rfl⟩
theorem DX0_addText_216W : DD cX0_addText 216 1 217 (.aload_n 0) := ⟨by decide +kernel, rfl⟩
theorem DX0_addText_217W : DD cX0_addText 217 3 220 (.getfield 382) := ⟨by decide +kernel, rfl⟩
theorem DX0_addText_220W : DD cX0_addText 220 2 222 (.istore 8) := ⟨by decide +kernel, rfl⟩
theorem DX0_addText_222W : DD cX0_addText 222 1 223 (.aload_n 0) := ⟨by decide +kernel, rfl⟩
theorem DX0_addText_223W : DD cX0_addText 223 3 226 (.getfield 176) := ⟨by decide +kernel, rfl⟩
theorem DX0_addText_226W : DD cX0_addText 226 2 228 (.iload 8) := ⟨by decide +kernel, rfl⟩
theorem DX0_addText_228W : DD cX0_addText 228 1 229 (.aload_n 0) := ⟨by decide +kernel, rfl⟩
theorem DX0_addText_229W : DD cX0_addText 229 3 232 (.getfield 139) := ⟨by decide +kernel, rfl⟩
theorem DX0_addText_232W : DD cX0_addText 232 1 233 (.iload_n 1) := ⟨by decide +kernel, rfl⟩
theorem DX0_addText_233W : DD cX0_addText 233 1 234 (.aload_n 0) := ⟨by decide +kernel, rfl⟩
theorem DX0_addText_234W : DD cX0_addText 234 3 237 (.getfield 131) := ⟨by decide +kernel, rfl⟩
theorem DX0_addText_237W : DD cX0_addText 237 3 240 (.getfield 110) := ⟨by decide +kernel, rfl⟩
theorem DX0_addText_240W : DD cX0_addText 240 2 242 (.bipush 20) := ⟨by decide +kernel, rfl⟩
theorem DX0_addText_242W : DD cX0_addText 242 2 244 (.iload 7) := ⟨by decide +kernel, rfl⟩
theorem DX0_addText_244W : DD cX0_addText 244 1 245 (.imul) := ⟨by decide +kernel, rfl⟩
theorem DX0_addText_245W : DD cX0_addText 245 1 246 (.aload_n 0) := ⟨by decide +kernel, rfl⟩
theorem DX0_addText_246W : DD cX0_addText 246 3 249 (.getfield 131) := ⟨by decide +kernel, rfl⟩
theorem DX0_addText_249W : DD cX0_addText 249 3 252 (.getfield 107) := ⟨by decide +kernel, rfl⟩
theorem DX0_addText_252W : DD cX0_addText 252 2 254 (.iload 7) := ⟨by decide +kernel, rfl⟩
theorem DX0_addText_254W : DD cX0_addText 254 1 255 (.iaload) := ⟨by decide +kernel, rfl⟩
theorem DX0_addText_255W : DD cX0_addText 255 3 258 (.invokevirtual 407) := ⟨by decide +kernel, rfl⟩
theorem DX0_addText_258W : DD cX0_addText 258 1 259 (.iastore) := ⟨by decide +kernel, rfl⟩
theorem DX0_addText_259W : DD cX0_addText 259 1 260 (.aload_n 0) := ⟨by decide +kernel, rfl⟩
theorem DX0_addText_260W : DD cX0_addText 260 3 263 (.getfield 182) := ⟨by decide +kernel, rfl⟩
theorem DX0_addText_263W : DD cX0_addText 263 2 265 (.iload 8) := ⟨by decide +kernel, rfl⟩
theorem DX0_addText_265W : DD cX0_addText 265 2 267 (.iload 6) := ⟨by decide +kernel, rfl⟩
theorem DX0_addText_267W : DD cX0_addText 267 1 268 (.i2s) := ⟨by decide +kernel, rfl⟩
theorem DX0_addText_268W : DD cX0_addText 268 1 269 (.sastore) := ⟨by decide +kernel, rfl⟩
theorem DX0_addText_269W : DD cX0_addText 269 1 270 (.aload_n 0) := ⟨by decide +kernel, rfl⟩
theorem DX0_addText_270W : DD cX0_addText 270 3 273 (.getfield 185) := ⟨by decide +kernel, rfl⟩
theorem DX0_addText_273W : DD cX0_addText 273 2 275 (.iload 8) := ⟨by decide +kernel, rfl⟩
theorem DX0_addText_275W : DD cX0_addText 275 1 276 (.aload_n 0) := ⟨by decide +kernel, rfl⟩
theorem DX0_addText_276W : DD cX0_addText 276 3 279 (.getfield 131) := ⟨by decide +kernel, rfl⟩
theorem DX0_addText_279W : DD cX0_addText 279 3 282 (.getfield 104) := ⟨by decide +kernel, rfl⟩
theorem DX0_addText_282W : DD cX0_addText 282 2 284 (.iload 7) := ⟨by decide +kernel, rfl⟩
theorem DX0_addText_284W : DD cX0_addText 284 1 285 (.iaload) := ⟨by decide +kernel, rfl⟩
theorem DX0_addText_285W : DD cX0_addText 285 1 286 (.i2s) := ⟨by decide +kernel, rfl⟩
theorem DX0_addText_286W : DD cX0_addText 286 1 287 (.sastore) := ⟨by decide +kernel, rfl⟩
theorem DX0_addText_287W : DD cX0_addText 287 1 288 (.aload_n 0) := ⟨by decide +kernel, rfl⟩
theorem DX0_addText_288W : DD cX0_addText 288 3 291 (.getfield 188) := ⟨by decide +kernel, rfl⟩
theorem DX0_addText_291W : DD cX0_addText 291 2 293 (.iload 8) := ⟨by decide +kernel, rfl⟩
theorem DX0_addText_293W : DD cX0_addText 293 1 294 (.aload_n 0) := ⟨by decide +kernel, rfl⟩
theorem DX0_addText_294W : DD cX0_addText 294 3 297 (.getfield 131) := ⟨by decide +kernel, rfl⟩
theorem DX0_addText_297W : DD cX0_addText 297 3 300 (.getfield 97) := ⟨by decide +kernel, rfl⟩
theorem DX0_addText_300W : DD cX0_addText 300 2 302 (.iload 7) := ⟨by decide +kernel, rfl⟩
theorem DX0_addText_302W : DD cX0_addText 302 1 303 (.iaload) := ⟨by decide +kernel, rfl⟩
theorem DX0_addText_303W : DD cX0_addText 303 1 304 (.i2s) := ⟨by decide +kernel, rfl⟩
theorem DX0_addText_304W : DD cX0_addText 304 1 305 (.sastore) := ⟨by decide +kernel, rfl⟩
theorem DX0_addText_305W : DD cX0_addText 305 1 306 (.aload_n 0) := ⟨by decide +kernel, rfl⟩
theorem DX0_addText_306W : DD cX0_addText 306 3 309 (.getfield 191) := ⟨by decide +kernel, rfl⟩
theorem DX0_addText_309W : DD cX0_addText 309 2 311 (.iload 8) := ⟨by decide +kernel, rfl⟩
theorem DX0_addText_311W : DD cX0_addText 311 1 312 (.aload_n 0) := ⟨by decide +kernel, rfl⟩
theorem DX0_addText_312W : DD cX0_addText 312 3 315 (.getfield 131) := ⟨by decide +kernel, rfl⟩
theorem DX0_addText_315W : DD cX0_addText 315 3 318 (.getfield 101) := ⟨by decide +kernel, rfl⟩
theorem DX0_addText_318W : DD cX0_addText 318 2 320 (.iload 7) := ⟨by decide +kernel, rfl⟩
theorem DX0_addText_320W : DD cX0_addText 320 1 321 (.iaload) := ⟨by decide +kernel, rfl⟩
theorem DX0_addText_321W : DD cX0_addText 321 1 322 (.i2s) := ⟨by decide +kernel, rfl⟩
theorem DX0_addText_322W : DD cX0_addText 322 1 323 (.sastore) := ⟨by decide +kernel, rfl⟩
theorem DX0_addText_323W : DD cX0_addText 323 1 324 (.aload_n 0) := ⟨by decide +kernel, rfl⟩
theorem DX0_addText_324W : DD cX0_addText 324 1 325 (.dup) := ⟨by decide +kernel, rfl⟩
theorem DX0_addText_325W : DD cX0_addText 325 3 328 (.getfield 382) := ⟨by decide +kernel, rfl⟩
theorem DX0_addText_328W : DD cX0_addText 328 1 329 (.iconst 1) := ⟨by decide +kernel, rfl⟩
theorem DX0_addText_329W : DD cX0_addText 329 1 330 (.iadd) := ⟨by decide +kernel, rfl⟩
theorem DX0_addText_330W : DD cX0_addText 330 3 333 (.putfield 382) := ⟨by decide +kernel, rfl⟩
theorem DX0_addText_333W : DD cX0_addText 333 3 336 (.iinc 7 1) := ⟨by decide +kernel, rfl⟩
theorem DX0_addText_336W : DD cX0_addText 336 3 339 (.goto (-132)) := ⟨by decide +kernel, rfl⟩
theorem DX0_addText_339W : DD cX0_addText 339 1 340 (.iconst 1) := ⟨by decide +kernel, rfl⟩
theorem DX0_addText_340W : DD cX0_addText 340 1 341 (.ireturn) := ⟨by decide +kernel, rfl⟩
theorem ucX0_addText_0W {E : XE} {d : Nat} {σ : Sto} {Q : Res → Sto → Prop} {x1 : Int} {o2 : Nat} {n2 : Nat} {x3 : Int} {x4 : Int} (hL : Lay σ) (ho2 : σ.sh o2 = (1, n2)) (h : 0 ≤ x1 ∧ x1 < 12 ∧ (inR (σ.I 16 x1) → ((σ.I 16 x1) ≠ 1 → (∀ σ5 : Sto, σ5 = σ.wI 10 5 0 → SF σ σ5 → 0 ≤ x1 ∧ x1 < 12 ∧ (inR (σ5.I 17 x1) → 0 ≤ (σ5.I 17 x1) ∧ (σ5.I 17 x1) < 6 ∧ σ5.R 3 (σ5.I 17 x1) ≠ none ∧ (∀ b12, σ5.R 3 (σ5.I 17 x1) = some b12 → At10 σ5 b12 ∧ 12 ≤ d ∧ (0 ≤ x3 ∧ x3 ≤ (x3 + x4) ∧ (x3 + x4) ≤ n2 ∧ (x3 + x4) - x3 ≤ 29990) ∧ ((n2 : Int) ≤ 1000000) ∧ (10 = 4 ∨ 10 = 10) ∧ (16 ≤ b12) ∧ (o2 = 1 ∨ 16 ≤ o2) ∧ (ANB σ5 b12) ∧ (0 ≤ σ5.I (b12 + 1) 2 ∧ σ5.I (b12 + 1) 2 ≤ 20) ∧ (bd_0_20 σ5 (b12 + 3) 20) ∧ (bd_0_20 σ5 (10 + 2) 250) ∧ (∀ σ26 : Sto, SF σ5 σ26 → ((TLX σ26 10 (tk (anS σ5 b12) 0 (σ5.I o2) x3 (x3 + x4) x3 0 tl0)) ∧ (bd_0_20 σ26 (10 + 2) 250) ∧ (KXt 10 σ5 σ26)) → VV E mX0_addText (d + 1) 54 [(0, aO 0), (1, aI (x1)), (2, aO o2), (3, aI (x3)), (4, aI (x4)), (5, aI (0))] [] σ26 Q))))) ∧ ((σ.I 16 x1) = 1 → (∀ σ27 : Sto, σ27 = σ.wI 10 5 0 → SF σ σ27 → VV E mX0_addText (d + 1) 54 [(0, aO 0), (1, aI (x1)), (2, aO o2), (3, aI (x3)), (4, aI (x4)), (5, aI (1))] [] σ27 Q)))) : VV E mX0_addText (d + 1) 0 [(0, aO 0), (1, aI (x1)), (2, aO o2), (3, aI (x3)), (4, aI (x4))] [] σ Q := by
  refine v_aload_n 0 DX0_addText_0W rfl rfl <| w_getR (ci := 0) (kf := 7) (kz := 7) DX0_addText_1W (s_0 hL) rfl (by decide) rfl (Or.inl q1005) (fun _ _ => rfl) (r_0_7 hL) <| v_iload_n 1 DX0_addText_4W rfl rfl <| ?_
  obtain ⟨k1, k2, h⟩ := h
  refine v_iald DX0_addText_5W (s_16 hL) k1 k2 (fun f3 => ?_)
  have h := h f3
  refine v_iconst DX0_addText_6W <| ?_
  refine v_icmp_ne (tg := 14) DX0_addText_7W (by decide) f3 ⟨by decide, by decide⟩ (fun c4 => ?_) (fun c4 => ?_)
  · have h := h.1 c4
    refine v_iconst DX0_addText_14W <| v_istore DX0_addText_15W (by decide) rfl <| v_aload_n 1 DX0_addText_17W rfl rfl <| w_getR (ci := 0) (kf := 6) (kz := 6) DX0_addText_18W (s_0 hL) rfl (by decide) rfl (Or.inl q1001) (fun _ _ => rfl) (r_0_6 hL) <| v_iconst DX0_addText_21W <| ?_
    refine w_putI (ci := 1) (kf := 5) (kz := 5) DX0_addText_22W (s_10 hL) rfl (by decide) rfl (Or.inr (Or.inl ⟨rfl, _, q643⟩)) (fun _ _ => rfl) ⟨by decide, by decide⟩ rfl rfl (fun σ5 eσ5 gσ5 => ?_)
    have h := h σ5 eσ5 gσ5
    refine v_iload 0 DX0_addText_25W rfl <| ?_
    refine v_if_ne (tg := 54) DX0_addText_27W (by decide) ⟨by decide, by decide⟩ (fun c6 => absurd c6 (by decide)) (fun c6 => ?_)
    refine v_aload_n 1 DX0_addText_30W rfl rfl <| w_getR (ci := 0) (kf := 3) (kz := 3) DX0_addText_31W (s_0 (hL.sf gσ5)) rfl (by decide) rfl (Or.inl q995) (fun _ _ => rfl) (r_0_3 (hL.sf gσ5)) <| v_aload_n 1 DX0_addText_34W rfl rfl <| w_getR (ci := 0) (kf := 8) (kz := 8) DX0_addText_35W (s_0 (hL.sf gσ5)) rfl (by decide) rfl (Or.inl q1008) (fun _ _ => rfl) (r_0_8 (hL.sf gσ5)) <| v_iload_n 2 DX0_addText_38W rfl rfl <| ?_
    obtain ⟨k7, k8, h⟩ := h
    refine v_iald DX0_addText_39W (s_17 (hL.sf gσ5)) k7 k8 (fun f9 => ?_)
    have h := h f9
    obtain ⟨k10, k11, h⟩ := h
    obtain ⟨k13, h⟩ := h
    obtain ⟨b12, k14⟩ := nn_some k13
    obtain ⟨k15, h⟩ := h b12 k14
    refine v_aaldS DX0_addText_40W (s_3 (hL.sf gσ5)) ⟨by decide, by decide⟩ k10 k11 k14 <| v_aload_n 3 DX0_addText_41W rfl rfl <| v_iload_n 4 DX0_addText_42W rfl rfl <| v_iload_n 4 DX0_addText_43W rfl rfl <| v_iload 5 DX0_addText_44W rfl <| v_iadd DX0_addText_46W <| v_aload_n 1 DX0_addText_47W rfl rfl <| w_getR (ci := 0) (kf := 6) (kz := 6) DX0_addText_48W (s_0 (hL.sf gσ5)) rfl (by decide) rfl (Or.inl q1001) (fun _ _ => rfl) (r_0_6 (hL.sf gσ5)) <| ?_
    obtain ⟨k16, h⟩ := h
    obtain ⟨k17, k18, k19, k20, k21, k22, k23, k24, k25, h⟩ := h
    refine v_invV (ci := 10) (as := [aO o2, aI (x3), aI (x3 + x4), aO 10]) (st := []) DX0_addText_51W rfl okX10_analyse (Or.inl q415) q416 k15.s rfl q417 npX10_analyse (sp_X10_analyse (σ := σ5) (o0 := b12) (o1 := o2) (n1 := n2) (x2 := x3) (x3 := x3 + x4) (o4 := 10) k16 (hL.sf gσ5) k15 (SF.s gσ5 ho2 (by decide)) (lat_10 (hL.sf gσ5)) k17 k18 k19 k20 k21 k22 k23 k24 k25) (Nat.le_of_ble_eq_true rfl) (Nat.le_refl _) (Nat.le_of_ble_eq_true rfl) (RV_ret (fun σ26 gσ26 eσ26 => ?_)) RV_thr
    have h := h σ26 gσ26 eσ26
    exact v_pick [1, 2, 3, 4, 5, 0] rfl h
  · have h := h.2 c4
    refine v_iconst DX0_addText_10W <| v_goto (pc' := 15) DX0_addText_11W.1 (by decide) <| v_istore DX0_addText_15W (by decide) rfl <| v_aload_n 1 DX0_addText_17W rfl rfl <| w_getR (ci := 0) (kf := 6) (kz := 6) DX0_addText_18W (s_0 hL) rfl (by decide) rfl (Or.inl q1001) (fun _ _ => rfl) (r_0_6 hL) <| v_iconst DX0_addText_21W <| ?_
    refine w_putI (ci := 1) (kf := 5) (kz := 5) DX0_addText_22W (s_10 hL) rfl (by decide) rfl (Or.inr (Or.inl ⟨rfl, _, q643⟩)) (fun _ _ => rfl) ⟨by decide, by decide⟩ rfl rfl (fun σ27 eσ27 gσ27 => ?_)
    have h := h σ27 eσ27 gσ27
    refine v_iload 0 DX0_addText_25W rfl <| ?_
    refine v_if_ne (tg := 54) DX0_addText_27W (by decide) ⟨by decide, by decide⟩ (fun c28 => ?_) (fun c28 => absurd c28 (by decide))
    exact v_pick [1, 2, 3, 4, 5, 0] rfl h
theorem ucX0_addText_54W {E : XE} {d : Nat} {σ : Sto} {Q : Res → Sto → Prop} {x1 : Int} {o2 : Nat} {n2 : Nat} {x3 : Int} {x4 : Int} {x5 : Int} (hL : Lay σ) (ho2 : σ.sh o2 = (1, n2)) (h : inR x5 ∧ (x5 = 0 → (inR (σ.I 10 5) → 1 ≤ d ∧ (0 ≤ σ.I 0 31 ∧ σ.I 0 31 ≤ σ.I 0 20) ∧ (σ.I 0 20 ≤ 6000 ∧ σ.I 0 20 ≤ σ.I 0 31 + 24) ∧ (0 ≤ σ.I 0 22 ∧ σ.I 0 22 ≤ 60000) ∧ (0 ≤ σ.I 0 29 ∧ 0 ≤ σ.I 0 30) ∧ (σ.I 0 29 + σ.I 0 30 ≤ 24000) ∧ (0 ≤ x4 ∧ x4 ≤ 100000) ∧ (0 ≤ (σ.I 10 5) ∧ (σ.I 10 5) ≤ 100000) ∧ ((σ.I 0 20 - σ.I 0 31 < 24 ∧ σ.I 0 20 < 6000 ∧ σ.I 0 22 + x4 ≤ 60000 ∧ σ.I 0 29 + σ.I 0 30 + (σ.I 10 5) ≤ 24000) → (inR (σ.I 0 30) → inR ((σ.I 0 30) + 0) ∧ (∀ σ17 : Sto, σ17 = σ.wI 0 30 ((σ.I 0 30) + 0) → SF σ σ17 → (inR (σ17.I 0 20) → (inR (σ17.I 0 22) → 0 ≤ (σ17.I 0 20) ∧ (σ17.I 0 20) < 6000 ∧ (∀ σ22 : Sto, σ22 = σ17.wI 28 (σ17.I 0 20) (σ17.I 0 22) → SF σ17 σ22 → 0 ≤ (σ17.I 0 20) ∧ (σ17.I 0 20) < 6000 ∧ inR x4 ∧ (∀ σ26 : Sto, σ26 = σ22.wI 29 (σ17.I 0 20) x4 → SF σ22 σ26 → (inR (σ26.I 0 22) → 0 ≤ x3 ∧ 0 ≤ (σ26.I 0 22) ∧ 0 ≤ x4 ∧ x3 + x4 ≤ n2 ∧ (σ26.I 0 22) + x4 ≤ 60000 ∧ (∀ σ33 : Sto, σ33 = σ26.cp o2 x3 35 (σ26.I 0 22) x4 → SF σ26 σ33 → (inR (σ33.I 0 22) → inR ((σ33.I 0 22) + x4) ∧ (∀ σ36 : Sto, σ36 = σ33.wI 0 22 ((σ33.I 0 22) + x4) → SF σ33 σ36 → (inR (σ36.I 0 29) → 0 ≤ (σ17.I 0 20) ∧ (σ17.I 0 20) < 6000 ∧ (∀ σ40 : Sto, σ40 = σ36.wI 31 (σ17.I 0 20) (σ36.I 0 29) → SF σ36 σ40 → (inR (σ40.I 10 5) → 0 ≤ (σ17.I 0 20) ∧ (σ17.I 0 20) < 6000 ∧ (∀ σ44 : Sto, σ44 = σ40.wI 32 (σ17.I 0 20) (σ40.I 10 5) → SF σ40 σ44 → VV E mX0_addText (d + 1) 204 [(0, aO 0), (1, aI (x1)), (6, aI (σ17.I 0 20)), (7, aI (0))] [] σ44 Q))))))))))))))) ∧ (¬ (σ.I 0 20 - σ.I 0 31 < 24 ∧ σ.I 0 20 < 6000 ∧ σ.I 0 22 + x4 ≤ 60000 ∧ σ.I 0 29 + σ.I 0 30 + (σ.I 10 5) ≤ 24000) → Q (.inl (some (aI 0))) σ))) ∧ (x5 ≠ 0 → 1 ≤ d ∧ (0 ≤ σ.I 0 31 ∧ σ.I 0 31 ≤ σ.I 0 20) ∧ (σ.I 0 20 ≤ 6000 ∧ σ.I 0 20 ≤ σ.I 0 31 + 24) ∧ (0 ≤ σ.I 0 22 ∧ σ.I 0 22 ≤ 60000) ∧ (0 ≤ σ.I 0 29 ∧ 0 ≤ σ.I 0 30) ∧ (σ.I 0 29 + σ.I 0 30 ≤ 24000) ∧ (0 ≤ x4 ∧ x4 ≤ 100000) ∧ (0 ≤ (1 : Int) ∧ (1 : Int) ≤ 100000) ∧ ((σ.I 0 20 - σ.I 0 31 < 24 ∧ σ.I 0 20 < 6000 ∧ σ.I 0 22 + x4 ≤ 60000 ∧ σ.I 0 29 + σ.I 0 30 + (1 : Int) ≤ 24000) → (inR (σ.I 0 30) → inR ((σ.I 0 30) + 1) ∧ (∀ σ60 : Sto, σ60 = σ.wI 0 30 ((σ.I 0 30) + 1) → SF σ σ60 → (inR (σ60.I 0 20) → (inR (σ60.I 0 22) → 0 ≤ (σ60.I 0 20) ∧ (σ60.I 0 20) < 6000 ∧ (∀ σ65 : Sto, σ65 = σ60.wI 28 (σ60.I 0 20) (σ60.I 0 22) → SF σ60 σ65 → 0 ≤ (σ60.I 0 20) ∧ (σ60.I 0 20) < 6000 ∧ inR x4 ∧ (∀ σ69 : Sto, σ69 = σ65.wI 29 (σ60.I 0 20) x4 → SF σ65 σ69 → (inR (σ69.I 0 22) → 0 ≤ x3 ∧ 0 ≤ (σ69.I 0 22) ∧ 0 ≤ x4 ∧ x3 + x4 ≤ n2 ∧ (σ69.I 0 22) + x4 ≤ 60000 ∧ (∀ σ76 : Sto, σ76 = σ69.cp o2 x3 35 (σ69.I 0 22) x4 → SF σ69 σ76 → (inR (σ76.I 0 22) → inR ((σ76.I 0 22) + x4) ∧ (∀ σ79 : Sto, σ79 = σ76.wI 0 22 ((σ76.I 0 22) + x4) → SF σ76 σ79 → (inR (σ79.I 0 29) → 0 ≤ (σ60.I 0 20) ∧ (σ60.I 0 20) < 6000 ∧ (∀ σ83 : Sto, σ83 = σ79.wI 31 (σ60.I 0 20) (σ79.I 0 29) → SF σ79 σ83 → (inR (σ83.I 10 5) → 0 ≤ (σ60.I 0 20) ∧ (σ60.I 0 20) < 6000 ∧ (∀ σ87 : Sto, σ87 = σ83.wI 32 (σ60.I 0 20) (σ83.I 10 5) → SF σ83 σ87 → 3 ≤ d ∧ (0 ≤ x3 ∧ 0 ≤ x4 ∧ x3 + min x4 20 ≤ n2) ∧ ((n2 : Int) ≤ 1000000) ∧ (0 ≤ x1 ∧ x1 ≤ 12) ∧ (inR x4) ∧ (TC σ87) ∧ (0 ≤ σ87.I 18 7 ∧ σ87.I 18 7 < 36499) ∧ (bd_0_20 σ87 21 36500) ∧ (o2 ≤ 17 ∨ 26 ≤ o2 ∨ o2 = 19) ∧ (o2 = 19 → (x3 = 20 * σ87.I 18 7 ∨ 20 * σ87.I 18 7 + 20 ≤ x3)) ∧ (∀ (y100 : Int) (σ99 : Sto), inR y100 → SF σ87 σ99 → ((y100 = if (ls (tQ σ87 x1 (σ87.I o2) x3 (min x4 20)) (σ87.I 18 7)) = -1 then (σ87.I 18 7) else (ls (tQ σ87 x1 (σ87.I o2) x3 (min x4 20)) (σ87.I 18 7))) ∧ (RD σ87 σ99 (fun c i => if (ls (tQ σ87 x1 (σ87.I o2) x3 (min x4 20)) (σ87.I 18 7)) = -1 then (if rg c i 19 (20 * σ87.I 18 7) (20 * σ87.I 18 7 + (min x4 20)) then σ87.I o2 (x3 + (i - 20 * σ87.I 18 7)) else if at2 c i 20 (σ87.I 18 7) then x1 else if at2 c i 21 (σ87.I 18 7) then (min x4 20) else if at2 c i 22 (σ87.I 18 7) then -1 else if at2 c i 23 (σ87.I 18 7) then -1 else if at2 c i 24 (σ87.I 18 7) then σ87.I 25 (chO (σ87.I o2) x3 x1 (min x4 20)) else if at2 c i 25 (chO (σ87.I o2) x3 x1 (min x4 20)) then (σ87.I 18 7) else if at2 c i 18 7 then σ87.I 18 7 + 1 else σ87.I c i) else σ87.I c i)) ∧ (TC σ99)) → 0 ≤ (σ60.I 0 20) ∧ (σ60.I 0 20) < 6000 ∧ (∀ σ103 : Sto, σ103 = σ99.wI 33 (σ60.I 0 20) y100 → SF σ99 σ103 → VV E mX0_addText (d + 1) 204 [(0, aO 0), (1, aI (x1)), (6, aI (σ60.I 0 20)), (7, aI (0))] [] σ103 Q))))))))))))))))) ∧ (¬ (σ.I 0 20 - σ.I 0 31 < 24 ∧ σ.I 0 20 < 6000 ∧ σ.I 0 22 + x4 ≤ 60000 ∧ σ.I 0 29 + σ.I 0 30 + (1 : Int) ≤ 24000) → Q (.inl (some (aI 0))) σ))) : VV E mX0_addText (d + 1) 54 [(0, aO 0), (1, aI (x1)), (2, aO o2), (3, aI (x3)), (4, aI (x4)), (5, aI (x5))] [] σ Q := by
  refine v_aload_n 0 DX0_addText_54W rfl rfl <| v_iload 4 DX0_addText_55W rfl <| v_iload 5 DX0_addText_57W rfl <| ?_
  obtain ⟨k1, h⟩ := h
  refine v_if_eq (tg := 66) DX0_addText_59W (by decide) k1 (fun c2 => ?_) (fun c2 => ?_)
  · have h := h.1 c2
    refine v_aload_n 0 DX0_addText_66W rfl rfl <| w_getR (ci := 0) (kf := 6) (kz := 6) DX0_addText_67W (s_0 hL) rfl (by decide) rfl (Or.inl q1001) (fun _ _ => rfl) (r_0_6 hL) <| ?_
    refine w_getI (ci := 1) (kf := 5) (kz := 5) DX0_addText_70W (s_10 hL) rfl (by decide) rfl (Or.inr ⟨_, q643⟩) (fun _ _ => rfl) (fun f3 => ?_)
    have h := h f3
    obtain ⟨k4, h⟩ := h
    obtain ⟨k5, k6, k7, k8, k9, k10, k11, h⟩ := h
    refine v_invV (ci := 0) (as := [aI (x4), aI (σ.I 10 5)]) (st := []) DX0_addText_73W rfl okX0_mayCome (Or.inl q1375) q1377 (s_0 hL) rfl qs19 npX0_mayCome (sp_X0_mayCome (σ := σ) (x1 := x4) (x2 := σ.I 10 5) k4 hL k5 k6 k7 k8 k9 k10 k11) (Nat.le_of_ble_eq_true rfl) (Nat.le_refl _) (Nat.le_of_ble_eq_true rfl) (RZ_ret (fun c12 => ?_) (fun c12 => ?_)) RZ_thr
    · have h := h.1 c12
      refine v_if_ne (tg := 81) DX0_addText_76W (by decide) ⟨by decide, by decide⟩ (fun c13 => ?_) (fun c13 => absurd c13 (by decide))
      refine v_aload_n 0 DX0_addText_81W rfl rfl <| v_dup DX0_addText_82W rfl <| ?_
      refine w_getI (ci := 0) (kf := 30) (kz := 30) DX0_addText_83W (s_0 hL) rfl (by decide) rfl (Or.inl q1052) (fun _ _ => rfl) (fun f14 => ?_)
      have h := h f14
      refine v_iload 5 DX0_addText_86W rfl <| ?_
      refine v_if_eq (tg := 95) DX0_addText_88W (by decide) k1 (fun c15 => ?_) (fun c15 => absurd c15 (by omega))
      refine v_iconst DX0_addText_95W <| v_iadd DX0_addText_96W <| ?_
      obtain ⟨k16, h⟩ := h
      refine w_putI (ci := 0) (kf := 30) (kz := 30) DX0_addText_97W (s_0 hL) rfl (by decide) rfl (Or.inl ⟨rfl, q1052⟩) (fun _ _ => rfl) k16 rfl rfl (fun σ17 eσ17 gσ17 => ?_)
      have h := h σ17 eσ17 gσ17
      refine v_aload_n 0 DX0_addText_100W rfl rfl <| ?_
      refine w_getI (ci := 0) (kf := 20) (kz := 20) DX0_addText_101W (s_0 (hL.sf gσ17)) rfl (by decide) rfl (Or.inl q1036) (fun _ _ => rfl) (fun f18 => ?_)
      have h := h f18
      refine v_istore DX0_addText_104W (by decide) rfl <| v_aload_n 1 DX0_addText_106W rfl rfl <| w_getR (ci := 0) (kf := 13) (kz := 13) DX0_addText_107W (s_0 (hL.sf gσ17)) rfl (by decide) rfl (Or.inl q1020) (fun _ _ => rfl) (r_0_13 (hL.sf gσ17)) <| v_iload 0 DX0_addText_110W rfl <| v_aload_n 1 DX0_addText_112W rfl rfl <| ?_
      refine w_getI (ci := 0) (kf := 22) (kz := 22) DX0_addText_113W (s_0 (hL.sf gσ17)) rfl (by decide) rfl (Or.inl q1038) (fun _ _ => rfl) (fun f19 => ?_)
      have h := h f19
      obtain ⟨k20, k21, h⟩ := h
      refine w_iast DX0_addText_116W (s_28 (hL.sf gσ17)) k20 k21 f19 (fun σ22 eσ22 gσ22 => ?_)
      have h := h σ22 eσ22 gσ22
      refine v_aload_n 1 DX0_addText_117W rfl rfl <| w_getR (ci := 0) (kf := 14) (kz := 14) DX0_addText_118W (s_0 ((hL.sf gσ17).sf gσ22)) rfl (by decide) rfl (Or.inl q1021) (fun _ _ => rfl) (r_0_14 ((hL.sf gσ17).sf gσ22)) <| v_iload 0 DX0_addText_121W rfl <| v_iload 5 DX0_addText_123W rfl <| ?_
      obtain ⟨k23, k24, h⟩ := h
      obtain ⟨k25, h⟩ := h
      refine w_iast DX0_addText_125W (s_29 ((hL.sf gσ17).sf gσ22)) k23 k24 k25 (fun σ26 eσ26 gσ26 => ?_)
      have h := h σ26 eσ26 gσ26
      refine v_aload_n 3 DX0_addText_126W rfl rfl <| v_iload_n 4 DX0_addText_127W rfl rfl <| v_aload_n 1 DX0_addText_128W rfl rfl <| w_getR (ci := 0) (kf := 21) (kz := 21) DX0_addText_129W (s_0 (((hL.sf gσ17).sf gσ22).sf gσ26)) rfl (by decide) rfl (Or.inl q1037) (fun _ _ => rfl) (r_0_21 (((hL.sf gσ17).sf gσ22).sf gσ26)) <| v_aload_n 1 DX0_addText_132W rfl rfl <| ?_
      refine w_getI (ci := 0) (kf := 22) (kz := 22) DX0_addText_133W (s_0 (((hL.sf gσ17).sf gσ22).sf gσ26)) rfl (by decide) rfl (Or.inl q1038) (fun _ _ => rfl) (fun f27 => ?_)
      have h := h f27
      refine v_iload 5 DX0_addText_136W rfl <| ?_
      obtain ⟨k28, k29, k30, k31, k32, h⟩ := h
      refine w_copy DX0_addText_138W q1379 q406 q405 q269 (SF.s gσ26 (SF.s gσ22 (SF.s gσ17 ho2 (by decide)) (by decide)) (by decide)) (s_35 (((hL.sf gσ17).sf gσ22).sf gσ26)) (by decide) k28 k29 k30 k31 k32 (Nat.le_add_left 1 d) (Nat.le_of_ble_eq_true rfl) (fun σ33 eσ33 gσ33 => ?_)
      have h := h σ33 eσ33 gσ33
      refine v_aload_n 1 DX0_addText_141W rfl rfl <| v_dup DX0_addText_142W rfl <| ?_
      refine w_getI (ci := 0) (kf := 22) (kz := 22) DX0_addText_143W (s_0 ((((hL.sf gσ17).sf gσ22).sf gσ26).sf gσ33)) rfl (by decide) rfl (Or.inl q1038) (fun _ _ => rfl) (fun f34 => ?_)
      have h := h f34
      refine v_iload 5 DX0_addText_146W rfl <| v_iadd DX0_addText_148W <| ?_
      obtain ⟨k35, h⟩ := h
      refine w_putI (ci := 0) (kf := 22) (kz := 22) DX0_addText_149W (s_0 ((((hL.sf gσ17).sf gσ22).sf gσ26).sf gσ33)) rfl (by decide) rfl (Or.inl ⟨rfl, q1038⟩) (fun _ _ => rfl) k35 rfl rfl (fun σ36 eσ36 gσ36 => ?_)
      have h := h σ36 eσ36 gσ36
      refine v_aload_n 1 DX0_addText_152W rfl rfl <| w_getR (ci := 0) (kf := 16) (kz := 16) DX0_addText_153W (s_0 (((((hL.sf gσ17).sf gσ22).sf gσ26).sf gσ33).sf gσ36)) rfl (by decide) rfl (Or.inl q1025) (fun _ _ => rfl) (r_0_16 (((((hL.sf gσ17).sf gσ22).sf gσ26).sf gσ33).sf gσ36)) <| v_iload 0 DX0_addText_156W rfl <| v_aload_n 1 DX0_addText_158W rfl rfl <| ?_
      refine w_getI (ci := 0) (kf := 29) (kz := 29) DX0_addText_159W (s_0 (((((hL.sf gσ17).sf gσ22).sf gσ26).sf gσ33).sf gσ36)) rfl (by decide) rfl (Or.inl q1051) (fun _ _ => rfl) (fun f37 => ?_)
      have h := h f37
      obtain ⟨k38, k39, h⟩ := h
      refine w_iast DX0_addText_162W (s_31 (((((hL.sf gσ17).sf gσ22).sf gσ26).sf gσ33).sf gσ36)) k38 k39 f37 (fun σ40 eσ40 gσ40 => ?_)
      have h := h σ40 eσ40 gσ40
      refine v_aload_n 1 DX0_addText_163W rfl rfl <| w_getR (ci := 0) (kf := 17) (kz := 17) DX0_addText_164W (s_0 ((((((hL.sf gσ17).sf gσ22).sf gσ26).sf gσ33).sf gσ36).sf gσ40)) rfl (by decide) rfl (Or.inl q1028) (fun _ _ => rfl) (r_0_17 ((((((hL.sf gσ17).sf gσ22).sf gσ26).sf gσ33).sf gσ36).sf gσ40)) <| v_iload 0 DX0_addText_167W rfl <| v_aload_n 1 DX0_addText_169W rfl rfl <| w_getR (ci := 0) (kf := 6) (kz := 6) DX0_addText_170W (s_0 ((((((hL.sf gσ17).sf gσ22).sf gσ26).sf gσ33).sf gσ36).sf gσ40)) rfl (by decide) rfl (Or.inl q1001) (fun _ _ => rfl) (r_0_6 ((((((hL.sf gσ17).sf gσ22).sf gσ26).sf gσ33).sf gσ36).sf gσ40)) <| ?_
      refine w_getI (ci := 1) (kf := 5) (kz := 5) DX0_addText_173W (s_10 ((((((hL.sf gσ17).sf gσ22).sf gσ26).sf gσ33).sf gσ36).sf gσ40)) rfl (by decide) rfl (Or.inr ⟨_, q643⟩) (fun _ _ => rfl) (fun f41 => ?_)
      have h := h f41
      obtain ⟨k42, k43, h⟩ := h
      refine w_iast DX0_addText_176W (s_32 ((((((hL.sf gσ17).sf gσ22).sf gσ26).sf gσ33).sf gσ36).sf gσ40)) k42 k43 f41 (fun σ44 eσ44 gσ44 => ?_)
      have h := h σ44 eσ44 gσ44
      refine v_iload 6 DX0_addText_177W rfl <| ?_
      refine v_if_eq (tg := 201) DX0_addText_179W (by decide) k1 (fun c45 => ?_) (fun c45 => absurd c45 (by omega))
      refine v_iconst DX0_addText_201W <| v_istore DX0_addText_202W (by decide) rfl <| ?_
      exact v_pick [2, 3, 1, 0] rfl h
    · have h := h.2 c12
      refine v_if_ne (tg := 81) DX0_addText_76W (by decide) ⟨by decide, by decide⟩ (fun c46 => absurd c46 (by decide)) (fun c46 => ?_)
      refine v_iconst DX0_addText_79W <| ?_
      exact v_iret DX0_addText_80W rfl (narZ ⟨by decide, by decide⟩) h
  · have h := h.2 c2
    refine v_iconst DX0_addText_62W <| v_goto (pc' := 73) DX0_addText_63W.1 (by decide) <| ?_
    obtain ⟨k47, h⟩ := h
    obtain ⟨k48, k49, k50, k51, k52, k53, k54, h⟩ := h
    refine v_invV (ci := 0) (as := [aI (x4), aI (1)]) (st := []) DX0_addText_73W rfl okX0_mayCome (Or.inl q1375) q1377 (s_0 hL) rfl qs19 npX0_mayCome (sp_X0_mayCome (σ := σ) (x1 := x4) (x2 := (1 : Int)) k47 hL k48 k49 k50 k51 k52 k53 k54) (Nat.le_of_ble_eq_true rfl) (Nat.le_refl _) (Nat.le_of_ble_eq_true rfl) (RZ_ret (fun c55 => ?_) (fun c55 => ?_)) RZ_thr
    · have h := h.1 c55
      refine v_if_ne (tg := 81) DX0_addText_76W (by decide) ⟨by decide, by decide⟩ (fun c56 => ?_) (fun c56 => absurd c56 (by decide))
      refine v_aload_n 0 DX0_addText_81W rfl rfl <| v_dup DX0_addText_82W rfl <| ?_
      refine w_getI (ci := 0) (kf := 30) (kz := 30) DX0_addText_83W (s_0 hL) rfl (by decide) rfl (Or.inl q1052) (fun _ _ => rfl) (fun f57 => ?_)
      have h := h f57
      refine v_iload 5 DX0_addText_86W rfl <| ?_
      refine v_if_eq (tg := 95) DX0_addText_88W (by decide) k1 (fun c58 => absurd c58 (by omega)) (fun c58 => ?_)
      refine v_iconst DX0_addText_91W <| v_goto (pc' := 96) DX0_addText_92W.1 (by decide) <| v_iadd DX0_addText_96W <| ?_
      obtain ⟨k59, h⟩ := h
      refine w_putI (ci := 0) (kf := 30) (kz := 30) DX0_addText_97W (s_0 hL) rfl (by decide) rfl (Or.inl ⟨rfl, q1052⟩) (fun _ _ => rfl) k59 rfl rfl (fun σ60 eσ60 gσ60 => ?_)
      have h := h σ60 eσ60 gσ60
      refine v_aload_n 0 DX0_addText_100W rfl rfl <| ?_
      refine w_getI (ci := 0) (kf := 20) (kz := 20) DX0_addText_101W (s_0 (hL.sf gσ60)) rfl (by decide) rfl (Or.inl q1036) (fun _ _ => rfl) (fun f61 => ?_)
      have h := h f61
      refine v_istore DX0_addText_104W (by decide) rfl <| v_aload_n 1 DX0_addText_106W rfl rfl <| w_getR (ci := 0) (kf := 13) (kz := 13) DX0_addText_107W (s_0 (hL.sf gσ60)) rfl (by decide) rfl (Or.inl q1020) (fun _ _ => rfl) (r_0_13 (hL.sf gσ60)) <| v_iload 0 DX0_addText_110W rfl <| v_aload_n 1 DX0_addText_112W rfl rfl <| ?_
      refine w_getI (ci := 0) (kf := 22) (kz := 22) DX0_addText_113W (s_0 (hL.sf gσ60)) rfl (by decide) rfl (Or.inl q1038) (fun _ _ => rfl) (fun f62 => ?_)
      have h := h f62
      obtain ⟨k63, k64, h⟩ := h
      refine w_iast DX0_addText_116W (s_28 (hL.sf gσ60)) k63 k64 f62 (fun σ65 eσ65 gσ65 => ?_)
      have h := h σ65 eσ65 gσ65
      refine v_aload_n 1 DX0_addText_117W rfl rfl <| w_getR (ci := 0) (kf := 14) (kz := 14) DX0_addText_118W (s_0 ((hL.sf gσ60).sf gσ65)) rfl (by decide) rfl (Or.inl q1021) (fun _ _ => rfl) (r_0_14 ((hL.sf gσ60).sf gσ65)) <| v_iload 0 DX0_addText_121W rfl <| v_iload 5 DX0_addText_123W rfl <| ?_
      obtain ⟨k66, k67, h⟩ := h
      obtain ⟨k68, h⟩ := h
      refine w_iast DX0_addText_125W (s_29 ((hL.sf gσ60).sf gσ65)) k66 k67 k68 (fun σ69 eσ69 gσ69 => ?_)
      have h := h σ69 eσ69 gσ69
      refine v_aload_n 3 DX0_addText_126W rfl rfl <| v_iload_n 4 DX0_addText_127W rfl rfl <| v_aload_n 1 DX0_addText_128W rfl rfl <| w_getR (ci := 0) (kf := 21) (kz := 21) DX0_addText_129W (s_0 (((hL.sf gσ60).sf gσ65).sf gσ69)) rfl (by decide) rfl (Or.inl q1037) (fun _ _ => rfl) (r_0_21 (((hL.sf gσ60).sf gσ65).sf gσ69)) <| v_aload_n 1 DX0_addText_132W rfl rfl <| ?_
      refine w_getI (ci := 0) (kf := 22) (kz := 22) DX0_addText_133W (s_0 (((hL.sf gσ60).sf gσ65).sf gσ69)) rfl (by decide) rfl (Or.inl q1038) (fun _ _ => rfl) (fun f70 => ?_)
      have h := h f70
      refine v_iload 5 DX0_addText_136W rfl <| ?_
      obtain ⟨k71, k72, k73, k74, k75, h⟩ := h
      refine w_copy DX0_addText_138W q1379 q406 q405 q269 (SF.s gσ69 (SF.s gσ65 (SF.s gσ60 ho2 (by decide)) (by decide)) (by decide)) (s_35 (((hL.sf gσ60).sf gσ65).sf gσ69)) (by decide) k71 k72 k73 k74 k75 (Nat.le_add_left 1 d) (Nat.le_of_ble_eq_true rfl) (fun σ76 eσ76 gσ76 => ?_)
      have h := h σ76 eσ76 gσ76
      refine v_aload_n 1 DX0_addText_141W rfl rfl <| v_dup DX0_addText_142W rfl <| ?_
      refine w_getI (ci := 0) (kf := 22) (kz := 22) DX0_addText_143W (s_0 ((((hL.sf gσ60).sf gσ65).sf gσ69).sf gσ76)) rfl (by decide) rfl (Or.inl q1038) (fun _ _ => rfl) (fun f77 => ?_)
      have h := h f77
      refine v_iload 5 DX0_addText_146W rfl <| v_iadd DX0_addText_148W <| ?_
      obtain ⟨k78, h⟩ := h
      refine w_putI (ci := 0) (kf := 22) (kz := 22) DX0_addText_149W (s_0 ((((hL.sf gσ60).sf gσ65).sf gσ69).sf gσ76)) rfl (by decide) rfl (Or.inl ⟨rfl, q1038⟩) (fun _ _ => rfl) k78 rfl rfl (fun σ79 eσ79 gσ79 => ?_)
      have h := h σ79 eσ79 gσ79
      refine v_aload_n 1 DX0_addText_152W rfl rfl <| w_getR (ci := 0) (kf := 16) (kz := 16) DX0_addText_153W (s_0 (((((hL.sf gσ60).sf gσ65).sf gσ69).sf gσ76).sf gσ79)) rfl (by decide) rfl (Or.inl q1025) (fun _ _ => rfl) (r_0_16 (((((hL.sf gσ60).sf gσ65).sf gσ69).sf gσ76).sf gσ79)) <| v_iload 0 DX0_addText_156W rfl <| v_aload_n 1 DX0_addText_158W rfl rfl <| ?_
      refine w_getI (ci := 0) (kf := 29) (kz := 29) DX0_addText_159W (s_0 (((((hL.sf gσ60).sf gσ65).sf gσ69).sf gσ76).sf gσ79)) rfl (by decide) rfl (Or.inl q1051) (fun _ _ => rfl) (fun f80 => ?_)
      have h := h f80
      obtain ⟨k81, k82, h⟩ := h
      refine w_iast DX0_addText_162W (s_31 (((((hL.sf gσ60).sf gσ65).sf gσ69).sf gσ76).sf gσ79)) k81 k82 f80 (fun σ83 eσ83 gσ83 => ?_)
      have h := h σ83 eσ83 gσ83
      refine v_aload_n 1 DX0_addText_163W rfl rfl <| w_getR (ci := 0) (kf := 17) (kz := 17) DX0_addText_164W (s_0 ((((((hL.sf gσ60).sf gσ65).sf gσ69).sf gσ76).sf gσ79).sf gσ83)) rfl (by decide) rfl (Or.inl q1028) (fun _ _ => rfl) (r_0_17 ((((((hL.sf gσ60).sf gσ65).sf gσ69).sf gσ76).sf gσ79).sf gσ83)) <| v_iload 0 DX0_addText_167W rfl <| v_aload_n 1 DX0_addText_169W rfl rfl <| w_getR (ci := 0) (kf := 6) (kz := 6) DX0_addText_170W (s_0 ((((((hL.sf gσ60).sf gσ65).sf gσ69).sf gσ76).sf gσ79).sf gσ83)) rfl (by decide) rfl (Or.inl q1001) (fun _ _ => rfl) (r_0_6 ((((((hL.sf gσ60).sf gσ65).sf gσ69).sf gσ76).sf gσ79).sf gσ83)) <| ?_
      refine w_getI (ci := 1) (kf := 5) (kz := 5) DX0_addText_173W (s_10 ((((((hL.sf gσ60).sf gσ65).sf gσ69).sf gσ76).sf gσ79).sf gσ83)) rfl (by decide) rfl (Or.inr ⟨_, q643⟩) (fun _ _ => rfl) (fun f84 => ?_)
      have h := h f84
      obtain ⟨k85, k86, h⟩ := h
      refine w_iast DX0_addText_176W (s_32 ((((((hL.sf gσ60).sf gσ65).sf gσ69).sf gσ76).sf gσ79).sf gσ83)) k85 k86 f84 (fun σ87 eσ87 gσ87 => ?_)
      have h := h σ87 eσ87 gσ87
      refine v_iload 6 DX0_addText_177W rfl <| ?_
      refine v_if_eq (tg := 201) DX0_addText_179W (by decide) k1 (fun c88 => absurd c88 (by omega)) (fun c88 => ?_)
      refine v_aload_n 1 DX0_addText_182W rfl rfl <| w_getR (ci := 0) (kf := 18) (kz := 18) DX0_addText_183W (s_0 (((((((hL.sf gσ60).sf gσ65).sf gσ69).sf gσ76).sf gσ79).sf gσ83).sf gσ87)) rfl (by decide) rfl (Or.inl q1030) (fun _ _ => rfl) (r_0_18 (((((((hL.sf gσ60).sf gσ65).sf gσ69).sf gσ76).sf gσ79).sf gσ83).sf gσ87)) <| v_iload 0 DX0_addText_186W rfl <| v_aload_n 1 DX0_addText_188W rfl rfl <| w_getR (ci := 0) (kf := 10) (kz := 10) DX0_addText_189W (s_0 (((((((hL.sf gσ60).sf gσ65).sf gσ69).sf gσ76).sf gσ79).sf gσ83).sf gσ87)) rfl (by decide) rfl (Or.inl q1013) (fun _ _ => rfl) (r_0_10 (((((((hL.sf gσ60).sf gσ65).sf gσ69).sf gσ76).sf gσ79).sf gσ83).sf gσ87)) <| v_iload_n 2 DX0_addText_192W rfl rfl <| v_aload_n 3 DX0_addText_193W rfl rfl <| v_iload_n 4 DX0_addText_194W rfl rfl <| v_iload 5 DX0_addText_195W rfl <| ?_
      obtain ⟨k89, h⟩ := h
      obtain ⟨k90, k91, k92, k93, k94, k95, k96, k97, k98, h⟩ := h
      refine v_invV (ci := 2) (as := [aI (x1), aO o2, aI (x3), aI (x4)]) (st := [aI (σ60.I 0 20), aO 33]) DX0_addText_197W rfl okX2_come (Or.inl q1380) q1381 (s_18 (((((((hL.sf gσ60).sf gσ65).sf gσ69).sf gσ76).sf gσ79).sf gσ83).sf gσ87)) rfl q1382 npX2_come (sp_X2_come (σ := σ87) (x1 := x1) (o2 := o2) (n2 := n2) (x3 := x3) (x4 := x4) k89 (((((((hL.sf gσ60).sf gσ65).sf gσ69).sf gσ76).sf gσ79).sf gσ83).sf gσ87) (SF.s gσ87 (SF.s gσ83 (SF.s gσ79 (SF.s gσ76 (SF.s gσ69 (SF.s gσ65 (SF.s gσ60 ho2 (by decide)) (by decide)) (by decide)) (by decide)) (by decide)) (by decide)) (by decide)) k90 k91 k92 k93 k94 k95 k96 k97 k98) (Nat.le_of_ble_eq_true rfl) (Nat.le_refl _) (Nat.le_of_ble_eq_true rfl) (RVI_ret (fun y100 σ99 y100f gσ99 eσ99 => ?_)) RVI_thr
      have h := h y100 σ99 y100f gσ99 eσ99
      obtain ⟨k101, k102, h⟩ := h
      refine w_iast DX0_addText_200W (s_33 ((((((((hL.sf gσ60).sf gσ65).sf gσ69).sf gσ76).sf gσ79).sf gσ83).sf gσ87).sf gσ99)) k101 k102 y100f (fun σ103 eσ103 gσ103 => ?_)
      have h := h σ103 eσ103 gσ103
      refine v_iconst DX0_addText_201W <| v_istore DX0_addText_202W (by decide) rfl <| ?_
      exact v_pick [2, 3, 1, 0] rfl h
    · have h := h.2 c55
      refine v_if_ne (tg := 81) DX0_addText_76W (by decide) ⟨by decide, by decide⟩ (fun c104 => absurd c104 (by decide)) (fun c104 => ?_)
      refine v_iconst DX0_addText_79W <| ?_
      exact v_iret DX0_addText_80W rfl (narZ ⟨by decide, by decide⟩) h
theorem ucX0_addText_204W {E : XE} {d : Nat} {σ : Sto} {Q : Res → Sto → Prop} {x1 : Int} {x6 : Int} {x7 : Int} (hL : Lay σ)  (h : (inR (σ.I 10 5) → inR x7 ∧ ((σ.I 10 5) ≤ x7 → Q (.inl (some (aI 1))) σ) ∧ (x7 < (σ.I 10 5) → (inR (σ.I 0 29) → 0 ≤ x7 ∧ x7 < 250 ∧ (inR (σ.I 12 x7) → 3 ≤ d ∧ (0 ≤ (20 * x7) ∧ 0 ≤ (σ.I 12 x7) ∧ (20 * x7) + min (σ.I 12 x7) 20 ≤ 5000) ∧ ((5000 : Int) ≤ 1000000) ∧ (0 ≤ x1 ∧ x1 ≤ 12) ∧ (inR (σ.I 12 x7)) ∧ (TC σ) ∧ (0 ≤ σ.I 18 7 ∧ σ.I 18 7 < 36499) ∧ (bd_0_20 σ 21 36500) ∧ (11 ≤ 17 ∨ 26 ≤ 11 ∨ 11 = 19) ∧ (11 = 19 → ((20 * x7) = 20 * σ.I 18 7 ∨ 20 * σ.I 18 7 + 20 ≤ (20 * x7))) ∧ (∀ (y19 : Int) (σ18 : Sto), inR y19 → SF σ σ18 → ((y19 = if (ls (tQ σ x1 (σ.I 11) (20 * x7) (min (σ.I 12 x7) 20)) (σ.I 18 7)) = -1 then (σ.I 18 7) else (ls (tQ σ x1 (σ.I 11) (20 * x7) (min (σ.I 12 x7) 20)) (σ.I 18 7))) ∧ (RD σ σ18 (fun c i => if (ls (tQ σ x1 (σ.I 11) (20 * x7) (min (σ.I 12 x7) 20)) (σ.I 18 7)) = -1 then (if rg c i 19 (20 * σ.I 18 7) (20 * σ.I 18 7 + (min (σ.I 12 x7) 20)) then σ.I 11 ((20 * x7) + (i - 20 * σ.I 18 7)) else if at2 c i 20 (σ.I 18 7) then x1 else if at2 c i 21 (σ.I 18 7) then (min (σ.I 12 x7) 20) else if at2 c i 22 (σ.I 18 7) then -1 else if at2 c i 23 (σ.I 18 7) then -1 else if at2 c i 24 (σ.I 18 7) then σ.I 25 (chO (σ.I 11) (20 * x7) x1 (min (σ.I 12 x7) 20)) else if at2 c i 25 (chO (σ.I 11) (20 * x7) x1 (min (σ.I 12 x7) 20)) then (σ.I 18 7) else if at2 c i 18 7 then σ.I 18 7 + 1 else σ.I c i) else σ.I c i)) ∧ (TC σ18)) → 0 ≤ (σ.I 0 29) ∧ (σ.I 0 29) < 24000 ∧ (∀ σ22 : Sto, σ22 = σ18.wI 36 (σ.I 0 29) y19 → SF σ18 σ22 → 0 ≤ (σ.I 0 29) ∧ (σ.I 0 29) < 24000 ∧ (∀ σ25 : Sto, σ25 = σ22.wI 38 (σ.I 0 29) (sx16 (sx16 x6)) → SF σ22 σ25 → 0 ≤ x7 ∧ x7 < 250 ∧ (inR (σ25.I 15 x7) → 0 ≤ (σ.I 0 29) ∧ (σ.I 0 29) < 24000 ∧ (∀ σ31 : Sto, σ31 = σ25.wI 39 (σ.I 0 29) (sx16 (sx16 (σ25.I 15 x7))) → SF σ25 σ31 → 0 ≤ x7 ∧ x7 < 250 ∧ (inR (σ31.I 13 x7) → 0 ≤ (σ.I 0 29) ∧ (σ.I 0 29) < 24000 ∧ (∀ σ37 : Sto, σ37 = σ31.wI 40 (σ.I 0 29) (sx16 (sx16 (σ31.I 13 x7))) → SF σ31 σ37 → 0 ≤ x7 ∧ x7 < 250 ∧ (inR (σ37.I 14 x7) → 0 ≤ (σ.I 0 29) ∧ (σ.I 0 29) < 24000 ∧ (∀ σ43 : Sto, σ43 = σ37.wI 41 (σ.I 0 29) (sx16 (sx16 (σ37.I 14 x7))) → SF σ37 σ43 → (inR (σ43.I 0 29) → inR ((σ43.I 0 29) + 1) ∧ (∀ σ46 : Sto, σ46 = σ43.wI 0 29 ((σ43.I 0 29) + 1) → SF σ43 σ46 → VV E mX0_addText (d + 1) 204 [(0, aO 0), (1, aI (x1)), (6, aI (x6)), (7, aI (x7 + 1))] [] σ46 Q)))))))))))))))) : VV E mX0_addText (d + 1) 204 [(0, aO 0), (1, aI (x1)), (6, aI (x6)), (7, aI (x7))] [] σ Q := by
  refine v_iload 3 DX0_addText_204W rfl <| v_aload_n 0 DX0_addText_206W rfl rfl <| w_getR (ci := 0) (kf := 6) (kz := 6) DX0_addText_207W (s_0 hL) rfl (by decide) rfl (Or.inl q1001) (fun _ _ => rfl) (r_0_6 hL) <| ?_
  refine w_getI (ci := 1) (kf := 5) (kz := 5) DX0_addText_210W (s_10 hL) rfl (by decide) rfl (Or.inr ⟨_, q643⟩) (fun _ _ => rfl) (fun f1 => ?_)
  have h := h f1
  obtain ⟨k2, h⟩ := h
  refine v_icmp_ge (tg := 339) DX0_addText_213W (by decide) k2 f1 (fun c3 => ?_) (fun c3 => ?_)
  · have h := h.1 c3
    refine v_iconst DX0_addText_339W <| ?_
    exact v_iret DX0_addText_340W rfl (narZ ⟨by decide, by decide⟩) h
  · have h := h.2 c3
    refine v_aload_n 0 DX0_addText_216W rfl rfl <| ?_
    refine w_getI (ci := 0) (kf := 29) (kz := 29) DX0_addText_217W (s_0 hL) rfl (by decide) rfl (Or.inl q1051) (fun _ _ => rfl) (fun f4 => ?_)
    have h := h f4
    refine v_istore DX0_addText_220W (by decide) rfl <| v_aload_n 1 DX0_addText_222W rfl rfl <| w_getR (ci := 0) (kf := 23) (kz := 23) DX0_addText_223W (s_0 hL) rfl (by decide) rfl (Or.inl q1040) (fun _ _ => rfl) (r_0_23 hL) <| v_iload 0 DX0_addText_226W rfl <| v_aload_n 1 DX0_addText_228W rfl rfl <| w_getR (ci := 0) (kf := 10) (kz := 10) DX0_addText_229W (s_0 hL) rfl (by decide) rfl (Or.inl q1013) (fun _ _ => rfl) (r_0_10 hL) <| v_iload_n 2 DX0_addText_232W rfl rfl <| v_aload_n 1 DX0_addText_233W rfl rfl <| w_getR (ci := 0) (kf := 6) (kz := 6) DX0_addText_234W (s_0 hL) rfl (by decide) rfl (Or.inl q1001) (fun _ _ => rfl) (r_0_6 hL) <| w_getR (ci := 1) (kf := 0) (kz := 0) DX0_addText_237W (s_10 hL) rfl (by decide) rfl (Or.inr ⟨_, q630⟩) (fun _ _ => rfl) (r_10_0 hL) <| v_bipush DX0_addText_240W ⟨by decide, by decide⟩ <| v_iload 4 DX0_addText_242W rfl <| v_imul DX0_addText_244W <| v_aload_n 1 DX0_addText_245W rfl rfl <| w_getR (ci := 0) (kf := 6) (kz := 6) DX0_addText_246W (s_0 hL) rfl (by decide) rfl (Or.inl q1001) (fun _ _ => rfl) (r_0_6 hL) <| w_getR (ci := 1) (kf := 1) (kz := 1) DX0_addText_249W (s_10 hL) rfl (by decide) rfl (Or.inr ⟨_, q633⟩) (fun _ _ => rfl) (r_10_1 hL) <| v_iload 4 DX0_addText_252W rfl <| ?_
    obtain ⟨k5, k6, h⟩ := h
    refine v_iald DX0_addText_254W (s_12 hL) k5 k6 (fun f7 => ?_)
    have h := h f7
    obtain ⟨k8, h⟩ := h
    obtain ⟨k9, k10, k11, k12, k13, k14, k15, k16, k17, h⟩ := h
    refine v_invV (ci := 2) (as := [aI (x1), aO 11, aI (20 * x7), aI (σ.I 12 x7)]) (st := [aI (σ.I 0 29), aO 36]) DX0_addText_255W rfl okX2_come (Or.inl q1380) q1381 (s_18 hL) rfl q1382 npX2_come (sp_X2_come (σ := σ) (x1 := x1) (o2 := 11) (n2 := 5000) (x3 := 20 * x7) (x4 := σ.I 12 x7) k8 hL (s_11 hL) k9 k10 k11 k12 k13 k14 k15 k16 k17) (Nat.le_of_ble_eq_true rfl) (Nat.le_refl _) (Nat.le_of_ble_eq_true rfl) (RVI_ret (fun y19 σ18 y19f gσ18 eσ18 => ?_)) RVI_thr
    have h := h y19 σ18 y19f gσ18 eσ18
    obtain ⟨k20, k21, h⟩ := h
    refine w_iast DX0_addText_258W (s_36 (hL.sf gσ18)) k20 k21 y19f (fun σ22 eσ22 gσ22 => ?_)
    have h := h σ22 eσ22 gσ22
    refine v_aload_n 1 DX0_addText_259W rfl rfl <| w_getR (ci := 0) (kf := 25) (kz := 25) DX0_addText_260W (s_0 ((hL.sf gσ18).sf gσ22)) rfl (by decide) rfl (Or.inl q1046) (fun _ _ => rfl) (r_0_25 ((hL.sf gσ18).sf gσ22)) <| v_iload 0 DX0_addText_263W rfl <| v_iload 3 DX0_addText_265W rfl <| v_i2s DX0_addText_267W <| ?_
    obtain ⟨k23, k24, h⟩ := h
    refine w_sast DX0_addText_268W (s_38 ((hL.sf gσ18).sf gσ22)) k23 k24 (fun σ25 eσ25 gσ25 => ?_)
    have h := h σ25 eσ25 gσ25
    refine v_aload_n 1 DX0_addText_269W rfl rfl <| w_getR (ci := 0) (kf := 26) (kz := 26) DX0_addText_270W (s_0 (((hL.sf gσ18).sf gσ22).sf gσ25)) rfl (by decide) rfl (Or.inl q1048) (fun _ _ => rfl) (r_0_26 (((hL.sf gσ18).sf gσ22).sf gσ25)) <| v_iload 0 DX0_addText_273W rfl <| v_aload_n 1 DX0_addText_275W rfl rfl <| w_getR (ci := 0) (kf := 6) (kz := 6) DX0_addText_276W (s_0 (((hL.sf gσ18).sf gσ22).sf gσ25)) rfl (by decide) rfl (Or.inl q1001) (fun _ _ => rfl) (r_0_6 (((hL.sf gσ18).sf gσ22).sf gσ25)) <| w_getR (ci := 1) (kf := 4) (kz := 4) DX0_addText_279W (s_10 (((hL.sf gσ18).sf gσ22).sf gσ25)) rfl (by decide) rfl (Or.inr ⟨_, q640⟩) (fun _ _ => rfl) (r_10_4 (((hL.sf gσ18).sf gσ22).sf gσ25)) <| v_iload 4 DX0_addText_282W rfl <| ?_
    obtain ⟨k26, k27, h⟩ := h
    refine v_iald DX0_addText_284W (s_15 (((hL.sf gσ18).sf gσ22).sf gσ25)) k26 k27 (fun f28 => ?_)
    have h := h f28
    refine v_i2s DX0_addText_285W <| ?_
    obtain ⟨k29, k30, h⟩ := h
    refine w_sast DX0_addText_286W (s_39 (((hL.sf gσ18).sf gσ22).sf gσ25)) k29 k30 (fun σ31 eσ31 gσ31 => ?_)
    have h := h σ31 eσ31 gσ31
    refine v_aload_n 1 DX0_addText_287W rfl rfl <| w_getR (ci := 0) (kf := 27) (kz := 27) DX0_addText_288W (s_0 ((((hL.sf gσ18).sf gσ22).sf gσ25).sf gσ31)) rfl (by decide) rfl (Or.inl q1049) (fun _ _ => rfl) (r_0_27 ((((hL.sf gσ18).sf gσ22).sf gσ25).sf gσ31)) <| v_iload 0 DX0_addText_291W rfl <| v_aload_n 1 DX0_addText_293W rfl rfl <| w_getR (ci := 0) (kf := 6) (kz := 6) DX0_addText_294W (s_0 ((((hL.sf gσ18).sf gσ22).sf gσ25).sf gσ31)) rfl (by decide) rfl (Or.inl q1001) (fun _ _ => rfl) (r_0_6 ((((hL.sf gσ18).sf gσ22).sf gσ25).sf gσ31)) <| w_getR (ci := 1) (kf := 2) (kz := 2) DX0_addText_297W (s_10 ((((hL.sf gσ18).sf gσ22).sf gσ25).sf gσ31)) rfl (by decide) rfl (Or.inr ⟨_, q635⟩) (fun _ _ => rfl) (r_10_2 ((((hL.sf gσ18).sf gσ22).sf gσ25).sf gσ31)) <| v_iload 4 DX0_addText_300W rfl <| ?_
    obtain ⟨k32, k33, h⟩ := h
    refine v_iald DX0_addText_302W (s_13 ((((hL.sf gσ18).sf gσ22).sf gσ25).sf gσ31)) k32 k33 (fun f34 => ?_)
    have h := h f34
    refine v_i2s DX0_addText_303W <| ?_
    obtain ⟨k35, k36, h⟩ := h
    refine w_sast DX0_addText_304W (s_40 ((((hL.sf gσ18).sf gσ22).sf gσ25).sf gσ31)) k35 k36 (fun σ37 eσ37 gσ37 => ?_)
    have h := h σ37 eσ37 gσ37
    refine v_aload_n 1 DX0_addText_305W rfl rfl <| w_getR (ci := 0) (kf := 28) (kz := 28) DX0_addText_306W (s_0 (((((hL.sf gσ18).sf gσ22).sf gσ25).sf gσ31).sf gσ37)) rfl (by decide) rfl (Or.inl q1050) (fun _ _ => rfl) (r_0_28 (((((hL.sf gσ18).sf gσ22).sf gσ25).sf gσ31).sf gσ37)) <| v_iload 0 DX0_addText_309W rfl <| v_aload_n 1 DX0_addText_311W rfl rfl <| w_getR (ci := 0) (kf := 6) (kz := 6) DX0_addText_312W (s_0 (((((hL.sf gσ18).sf gσ22).sf gσ25).sf gσ31).sf gσ37)) rfl (by decide) rfl (Or.inl q1001) (fun _ _ => rfl) (r_0_6 (((((hL.sf gσ18).sf gσ22).sf gσ25).sf gσ31).sf gσ37)) <| w_getR (ci := 1) (kf := 3) (kz := 3) DX0_addText_315W (s_10 (((((hL.sf gσ18).sf gσ22).sf gσ25).sf gσ31).sf gσ37)) rfl (by decide) rfl (Or.inr ⟨_, q637⟩) (fun _ _ => rfl) (r_10_3 (((((hL.sf gσ18).sf gσ22).sf gσ25).sf gσ31).sf gσ37)) <| v_iload 4 DX0_addText_318W rfl <| ?_
    obtain ⟨k38, k39, h⟩ := h
    refine v_iald DX0_addText_320W (s_14 (((((hL.sf gσ18).sf gσ22).sf gσ25).sf gσ31).sf gσ37)) k38 k39 (fun f40 => ?_)
    have h := h f40
    refine v_i2s DX0_addText_321W <| ?_
    obtain ⟨k41, k42, h⟩ := h
    refine w_sast DX0_addText_322W (s_41 (((((hL.sf gσ18).sf gσ22).sf gσ25).sf gσ31).sf gσ37)) k41 k42 (fun σ43 eσ43 gσ43 => ?_)
    have h := h σ43 eσ43 gσ43
    refine v_aload_n 1 DX0_addText_323W rfl rfl <| v_dup DX0_addText_324W rfl <| ?_
    refine w_getI (ci := 0) (kf := 29) (kz := 29) DX0_addText_325W (s_0 ((((((hL.sf gσ18).sf gσ22).sf gσ25).sf gσ31).sf gσ37).sf gσ43)) rfl (by decide) rfl (Or.inl q1051) (fun _ _ => rfl) (fun f44 => ?_)
    have h := h f44
    refine v_iconst DX0_addText_328W <| v_iadd DX0_addText_329W <| ?_
    obtain ⟨k45, h⟩ := h
    refine w_putI (ci := 0) (kf := 29) (kz := 29) DX0_addText_330W (s_0 ((((((hL.sf gσ18).sf gσ22).sf gσ25).sf gσ31).sf gσ37).sf gσ43)) rfl (by decide) rfl (Or.inl ⟨rfl, q1051⟩) (fun _ _ => rfl) k45 rfl rfl (fun σ46 eσ46 gσ46 => ?_)
    have h := h σ46 eσ46 gσ46
    refine v_iinc 4 DX0_addText_333W rfl (by decide) rfl <| v_goto (pc' := 204) DX0_addText_336W.1 (by decide) <| ?_
    exact v_pick [2, 3, 4, 0] rfl h
theorem sp_X0_addTextW {E : XE} {d : Nat} {σ : Sto} {x1 : Int} {o2 : Nat} {n2 : Nat} {x3 : Int} {x4 : Int} (hd : 20 ≤ d) (hL : Lay σ) (ho2 : σ.sh o2 = (1, n2)) (p0 : 0 ≤ σ.I 0 31 ∧ σ.I 0 31 ≤ σ.I 0 20) (p1 : σ.I 0 20 ≤ 6000 ∧ σ.I 0 20 ≤ σ.I 0 31 + 24) (p2 : 0 ≤ σ.I 0 22 ∧ σ.I 0 22 ≤ 60000) (p3 : 0 ≤ σ.I 0 29 ∧ 0 ≤ σ.I 0 30) (p4 : σ.I 0 29 + σ.I 0 30 ≤ 24000) (p5 : o2 = 1) (p6 : 0 ≤ x3 ∧ 0 ≤ x4 ∧ x4 ≤ 1000 ∧ x3 + x4 ≤ 30000) (p7 : 0 ≤ x1 ∧ x1 < σ.I 0 9 ∧ σ.I 0 9 ≤ 12) (p8 : σ.I 16 x1 = 0 ∨ σ.I 16 x1 = 1) (p9 : σ.I 16 x1 = 0 → 0 ≤ σ.I 17 x1 ∧ σ.I 17 x1 < σ.I 0 4) (p10 : AN σ) (p11 : ANX σ) (p12 : bd_0_20 σ 12 250) (p13 : TC σ) (p14 : TU σ) (p15 : 0 ≤ σ.I 18 7 ∧ σ.I 18 7 ≤ 30000) (p16 : bd_0_20 σ 21 36500) (p17 : bd_0_12 σ 20 36500) (p18 : σ.I 0 4 ≤ 6) : CC E mX0_addText d [aO 0, aI (x1), aO o2, aI (x3), aI (x4)] σ (RVZ (fun y τ => ((¬ (σ.I 0 20 - σ.I 0 31 < 24 ∧ σ.I 0 20 < 6000 ∧ σ.I 0 22 + x4 ≤ 60000 ∧ σ.I 0 29 + σ.I 0 30 + (lTX σ x1 (σ.I 1) x3 x4).1 ≤ 24000) ∧ y = 0 ∧ KXt 10 σ τ) ∨ ((σ.I 0 20 - σ.I 0 31 < 24 ∧ σ.I 0 20 < 6000 ∧ σ.I 0 22 + x4 ≤ 60000 ∧ σ.I 0 29 + σ.I 0 30 + (lTX σ x1 (σ.I 1) x3 x4).1 ≤ 24000) ∧ y = 1 ∧ TXX σ τ x1 (σ.I 1) x3 x4 (lTX σ x1 (σ.I 1) x3 x4))) ∧ (bd_0_20 τ 12 250))) := by
  obtain ⟨d, rfl⟩ : ∃ e, d = e + 1 := ⟨d - 1, by omega⟩
  have hn2 : (n2 : Int) = 30000 := (by have e := ho2; rw [p5, s_1 hL] at e; have e2 := (Prod.mk.inj e).2; omega)
  have hLw : ¬ σ.I 16 x1 = 0 → (lTX σ x1 (σ.I 1) x3 x4) = wdT (σ.I 1) x3 x4 := fun h => if_neg h
  have hLt : σ.I 16 x1 = 0 → (lTX σ x1 (σ.I 1) x3 x4) = tk (anS σ (anC σ (σ.I 17 x1))) 0 (σ.I 1) x3 (x3 + x4) x3 0 tl0 := fun h => if_pos h
  have hlim : ∀ j, 0 ≤ j → j < (lTX σ x1 (σ.I 1) x3 x4).1 → (0 ≤ (lTX σ x1 (σ.I 1) x3 x4).2.1 j ∧ (lTX σ x1 (σ.I 1) x3 x4).2.1 j ≤ 20) ∧ (0 ≤ (lTX σ x1 (σ.I 1) x3 x4).2.2.2.2.2 j ∧ (lTX σ x1 (σ.I 1) x3 x4).2.2.2.2.2 j ≤ 30000) ∧ (0 ≤ (lTX σ x1 (σ.I 1) x3 x4).2.2.2.1 j ∧ (lTX σ x1 (σ.I 1) x3 x4).2.2.2.1 j ≤ 30000) ∧ (0 ≤ (lTX σ x1 (σ.I 1) x3 x4).2.2.2.2.1 j ∧ (lTX σ x1 (σ.I 1) x3 x4).2.2.2.2.1 j ≤ 30000) := (by
    intro j j0 j1
    by_cases q : σ.I 16 x1 = 0
    · have hr := tk_TKI (σ := anS σ (anC σ (σ.I 17 x1))) (a := 0) (A := (σ.I 1)) (f := x3) (to := x3 + x4) (ARW_X (p11 _ (p9 q).1 (p9 q).2).1) (by omega) (by omega)
      rw [hLt q] at j1 ⊢
      have hq := hr.2.1 j j0 j1
      omega
    · rw [hLw q] at j1 ⊢
      exact ⟨⟨by show 0 ≤ min x4 20; omega, by show min x4 20 ≤ 20; omega⟩, ⟨by show (0 : Int) ≤ 0; omega, by show (0 : Int) ≤ 30000; omega⟩, ⟨by show (0 : Int) ≤ 0; omega, by show (0 : Int) ≤ 30000; omega⟩, ⟨by show 0 ≤ x4; omega, by show x4 ≤ 30000; omega⟩⟩)
  have key : ∀ wa wb wc : Nat, (∀ (x5 : Int) (τ : Sto), SF σ τ → ((KTX (σ.I 0 20) (σ.I 0 22) (σ.I 0 29) σ τ) ∧ ((0 ≤ x5 ∧ x5 ≤ 1) ∧ (x5 = 1 ↔ σ.I 16 x1 = 1)) ∧ (x5 = 0 → TLX τ 10 (lTX σ x1 (σ.I 1) x3 x4)) ∧ (x5 = 1 → τ.I 10 5 = 0) ∧ (bd_0_20 τ 12 250) ∧ (KXt 10 σ τ)) → wa = 9 → wb = 0 → wc = 0 → VV E mX0_addText (d + 1) 54 [(0, aO 0), (1, aI (x1)), (2, aO o2), (3, aI (x3)), (4, aI (x4)), (5, aI (x5))] [] τ (RVZ (fun y τ => ((¬ (σ.I 0 20 - σ.I 0 31 < 24 ∧ σ.I 0 20 < 6000 ∧ σ.I 0 22 + x4 ≤ 60000 ∧ σ.I 0 29 + σ.I 0 30 + (lTX σ x1 (σ.I 1) x3 x4).1 ≤ 24000) ∧ y = 0 ∧ KXt 10 σ τ) ∨ ((σ.I 0 20 - σ.I 0 31 < 24 ∧ σ.I 0 20 < 6000 ∧ σ.I 0 22 + x4 ≤ 60000 ∧ σ.I 0 29 + σ.I 0 30 + (lTX σ x1 (σ.I 1) x3 x4).1 ≤ 24000) ∧ y = 1 ∧ TXX σ τ x1 (σ.I 1) x3 x4 (lTX σ x1 (σ.I 1) x3 x4))) ∧ (bd_0_20 τ 12 250)))) ∧ (∀ (x6 : Int) (x7 : Int) (τ : Sto), SF σ τ → ((KTX (σ.I 0 20) (σ.I 0 22) (σ.I 0 29) σ τ) ∧ ((σ.I 0 20 - σ.I 0 31 < 24 ∧ σ.I 0 20 < 6000 ∧ σ.I 0 22 + x4 ≤ 60000 ∧ σ.I 0 29 + σ.I 0 30 + (lTX σ x1 (σ.I 1) x3 x4).1 ≤ 24000)) ∧ (x6 = (σ.I 0 20)) ∧ (τ.I 0 22 = σ.I 0 22 + x4 ∧ τ.I 28 (σ.I 0 20) = σ.I 0 22 ∧ τ.I 29 (σ.I 0 20) = x4 ∧ τ.I 31 (σ.I 0 20) = σ.I 0 29) ∧ (alN (fun k => τ.I 35 (σ.I 0 22 + k) = (σ.I 1) (x3 + k)) x4) ∧ (bd_0_20 τ 12 250) ∧ (σ.I 16 x1 = 0 → TLX τ 10 (lTX σ x1 (σ.I 1) x3 x4) ∧ τ.I 32 (σ.I 0 20) = (lTX σ x1 (σ.I 1) x3 x4).1 ∧ τ.I 0 29 = σ.I 0 29 + x7 ∧ τ.I 0 30 = σ.I 0 30 ∧ TJN τ (σ.I 0 20) (σ.I 0 29) x1 (lTX σ x1 (σ.I 1) x3 x4) x7 ∧ x7 ≤ (lTX σ x1 (σ.I 1) x3 x4).1) ∧ (σ.I 16 x1 = 1 → τ.I 10 5 = 0 ∧ x7 = 0 ∧ τ.I 32 (σ.I 0 20) = 0 ∧ τ.I 0 29 = σ.I 0 29 ∧ τ.I 0 30 = σ.I 0 30 + 1 ∧ rowX τ (τ.I 33 (σ.I 0 20)) x1 ((lTX σ x1 (σ.I 1) x3 x4).2.1 0) ((lTX σ x1 (σ.I 1) x3 x4).2.2.1 0) ∧ (lTX σ x1 (σ.I 1) x3 x4).1 = 1) ∧ (0 ≤ x7) ∧ (TXT σ τ) ∧ (TU τ) ∧ (TC τ) ∧ (τ.I 18 7 ≤ σ.I 18 7 + (if σ.I 16 x1 = 0 then x7 else 1)) ∧ (bd_0_20 τ 21 36500) ∧ (bd_0_12 τ 20 36500) ∧ (TXNF σ τ x1) ∧ (RSX σ τ ((σ.I 0 29) + x7))) → wa = 8 → wb = (300 - x7).toNat → wc = 0 → VV E mX0_addText (d + 1) 204 [(0, aO 0), (1, aI (x1)), (6, aI (x6)), (7, aI (x7))] [] τ (RVZ (fun y τ => ((¬ (σ.I 0 20 - σ.I 0 31 < 24 ∧ σ.I 0 20 < 6000 ∧ σ.I 0 22 + x4 ≤ 60000 ∧ σ.I 0 29 + σ.I 0 30 + (lTX σ x1 (σ.I 1) x3 x4).1 ≤ 24000) ∧ y = 0 ∧ KXt 10 σ τ) ∨ ((σ.I 0 20 - σ.I 0 31 < 24 ∧ σ.I 0 20 < 6000 ∧ σ.I 0 22 + x4 ≤ 60000 ∧ σ.I 0 29 + σ.I 0 30 + (lTX σ x1 (σ.I 1) x3 x4).1 ≤ 24000) ∧ y = 1 ∧ TXX σ τ x1 (σ.I 1) x3 x4 (lTX σ x1 (σ.I 1) x3 x4))) ∧ (bd_0_20 τ 12 250)))) := by
    refine lex3 (fun wa wb wc ih => ?_)
    have ih0 : ∀ (x5 : Int) (τ : Sto), SF σ τ → ((KTX (σ.I 0 20) (σ.I 0 22) (σ.I 0 29) σ τ) ∧ ((0 ≤ x5 ∧ x5 ≤ 1) ∧ (x5 = 1 ↔ σ.I 16 x1 = 1)) ∧ (x5 = 0 → TLX τ 10 (lTX σ x1 (σ.I 1) x3 x4)) ∧ (x5 = 1 → τ.I 10 5 = 0) ∧ (bd_0_20 τ 12 250) ∧ (KXt 10 σ τ)) → lt3 9 0 0 wa wb wc → VV E mX0_addText (d + 1) 54 [(0, aO 0), (1, aI (x1)), (2, aO o2), (3, aI (x3)), (4, aI (x4)), (5, aI (x5))] [] τ (RVZ (fun y τ => ((¬ (σ.I 0 20 - σ.I 0 31 < 24 ∧ σ.I 0 20 < 6000 ∧ σ.I 0 22 + x4 ≤ 60000 ∧ σ.I 0 29 + σ.I 0 30 + (lTX σ x1 (σ.I 1) x3 x4).1 ≤ 24000) ∧ y = 0 ∧ KXt 10 σ τ) ∨ ((σ.I 0 20 - σ.I 0 31 < 24 ∧ σ.I 0 20 < 6000 ∧ σ.I 0 22 + x4 ≤ 60000 ∧ σ.I 0 29 + σ.I 0 30 + (lTX σ x1 (σ.I 1) x3 x4).1 ≤ 24000) ∧ y = 1 ∧ TXX σ τ x1 (σ.I 1) x3 x4 (lTX σ x1 (σ.I 1) x3 x4))) ∧ (bd_0_20 τ 12 250))) := fun z0 z1 h0 h1 hlt => (ih _ _ _ hlt).1 z0 z1 h0 h1 rfl rfl rfl
    have ih1 : ∀ (x6 : Int) (x7 : Int) (τ : Sto), SF σ τ → ((KTX (σ.I 0 20) (σ.I 0 22) (σ.I 0 29) σ τ) ∧ ((σ.I 0 20 - σ.I 0 31 < 24 ∧ σ.I 0 20 < 6000 ∧ σ.I 0 22 + x4 ≤ 60000 ∧ σ.I 0 29 + σ.I 0 30 + (lTX σ x1 (σ.I 1) x3 x4).1 ≤ 24000)) ∧ (x6 = (σ.I 0 20)) ∧ (τ.I 0 22 = σ.I 0 22 + x4 ∧ τ.I 28 (σ.I 0 20) = σ.I 0 22 ∧ τ.I 29 (σ.I 0 20) = x4 ∧ τ.I 31 (σ.I 0 20) = σ.I 0 29) ∧ (alN (fun k => τ.I 35 (σ.I 0 22 + k) = (σ.I 1) (x3 + k)) x4) ∧ (bd_0_20 τ 12 250) ∧ (σ.I 16 x1 = 0 → TLX τ 10 (lTX σ x1 (σ.I 1) x3 x4) ∧ τ.I 32 (σ.I 0 20) = (lTX σ x1 (σ.I 1) x3 x4).1 ∧ τ.I 0 29 = σ.I 0 29 + x7 ∧ τ.I 0 30 = σ.I 0 30 ∧ TJN τ (σ.I 0 20) (σ.I 0 29) x1 (lTX σ x1 (σ.I 1) x3 x4) x7 ∧ x7 ≤ (lTX σ x1 (σ.I 1) x3 x4).1) ∧ (σ.I 16 x1 = 1 → τ.I 10 5 = 0 ∧ x7 = 0 ∧ τ.I 32 (σ.I 0 20) = 0 ∧ τ.I 0 29 = σ.I 0 29 ∧ τ.I 0 30 = σ.I 0 30 + 1 ∧ rowX τ (τ.I 33 (σ.I 0 20)) x1 ((lTX σ x1 (σ.I 1) x3 x4).2.1 0) ((lTX σ x1 (σ.I 1) x3 x4).2.2.1 0) ∧ (lTX σ x1 (σ.I 1) x3 x4).1 = 1) ∧ (0 ≤ x7) ∧ (TXT σ τ) ∧ (TU τ) ∧ (TC τ) ∧ (τ.I 18 7 ≤ σ.I 18 7 + (if σ.I 16 x1 = 0 then x7 else 1)) ∧ (bd_0_20 τ 21 36500) ∧ (bd_0_12 τ 20 36500) ∧ (TXNF σ τ x1) ∧ (RSX σ τ ((σ.I 0 29) + x7))) → lt3 8 ((300 - x7).toNat) 0 wa wb wc → VV E mX0_addText (d + 1) 204 [(0, aO 0), (1, aI (x1)), (6, aI (x6)), (7, aI (x7))] [] τ (RVZ (fun y τ => ((¬ (σ.I 0 20 - σ.I 0 31 < 24 ∧ σ.I 0 20 < 6000 ∧ σ.I 0 22 + x4 ≤ 60000 ∧ σ.I 0 29 + σ.I 0 30 + (lTX σ x1 (σ.I 1) x3 x4).1 ≤ 24000) ∧ y = 0 ∧ KXt 10 σ τ) ∨ ((σ.I 0 20 - σ.I 0 31 < 24 ∧ σ.I 0 20 < 6000 ∧ σ.I 0 22 + x4 ≤ 60000 ∧ σ.I 0 29 + σ.I 0 30 + (lTX σ x1 (σ.I 1) x3 x4).1 ≤ 24000) ∧ y = 1 ∧ TXX σ τ x1 (σ.I 1) x3 x4 (lTX σ x1 (σ.I 1) x3 x4))) ∧ (bd_0_20 τ 12 250))) := fun z0 z1 z2 h0 h1 hlt => (ih _ _ _ hlt).2 z0 z1 z2 h0 h1 rfl rfl rfl
    clear ih
    refine ⟨?_, ?_⟩
    · rintro x5 τ gτ ⟨i0, i1, i2, i3, i4, i5⟩ ha hb hc
      subst ha hb hc
      have h0 : ∀ c i, c ≠ 2 → ¬ (10 ≤ c ∧ c ≤ 15) → τ.I c i = σ.I c i := fun c i a b => i5.2 c i (by unfold wsXt; omega)
      have hV : τ.I 0 20 = σ.I 0 20 := h0 _ _ (by decide) (by omega)
      have hD : τ.I 0 31 = σ.I 0 31 := h0 _ _ (by decide) (by omega)
      have hH : τ.I 0 22 = σ.I 0 22 := h0 _ _ (by decide) (by omega)
      have hT : τ.I 0 29 = σ.I 0 29 := h0 _ _ (by decide) (by omega)
      have hW : τ.I 0 30 = σ.I 0 30 := h0 _ _ (by decide) (by omega)
      have h1 : ∀ i, τ.I 1 i = σ.I 1 i := fun i => h0 _ _ (by decide) (by omega)
      have hL1 : x5 = 0 → (lTX σ x1 (σ.I 1) x3 x4).1 = τ.I 10 5 := fun h => (i2 h).1.symm
      have hL2 : x5 = 1 → (lTX σ x1 (σ.I 1) x3 x4).1 = 1 := fun h => (by rw [hLw (by omega)]; rfl)
      have hLb : x5 = 0 → 0 ≤ (lTX σ x1 (σ.I 1) x3 x4).1 ∧ (lTX σ x1 (σ.I 1) x3 x4).1 ≤ 250 := fun h => (i2 h).2.1
      refine ucX0_addText_54W  (hL.sf gτ) (SF.s gτ ho2 (by decide)) ?_
      refine ⟨?_, ?_⟩
      · (first | exact ⟨by omega, by omega⟩ | assumption)
      refine ⟨fun c1 => ?_, fun c2 => ?_⟩
      · rintro ⟨f3, f3q⟩
        refine ⟨?_, ?_⟩
        · omega
        refine ⟨?_, ?_⟩
        · (first | omega | exact ⟨by omega, by omega⟩ | assumption)
        refine ⟨?_, ?_⟩
        · (first | omega | exact ⟨by omega, by omega⟩ | assumption)
        refine ⟨?_, ?_⟩
        · (first | omega | exact ⟨by omega, by omega⟩ | assumption)
        refine ⟨?_, ?_⟩
        · (first | omega | exact ⟨by omega, by omega⟩ | assumption)
        refine ⟨?_, ?_⟩
        · (first | omega | exact ⟨by omega, by omega⟩ | assumption)
        refine ⟨?_, ?_⟩
        · (first | omega | exact ⟨by omega, by omega⟩ | assumption)
        refine ⟨?_, ?_⟩
        · (first | omega | exact ⟨by omega, by omega⟩ | assumption)
        refine ⟨fun c4 => ?_, fun c5 => ?_⟩
        · rintro ⟨f6, f6q⟩
          refine ⟨?_, ?_⟩
          · (first | exact ⟨by omega, by omega⟩ | assumption)
          intro σ17 eσ17 gσ17
          have kσ17 : KTX (σ.I 0 20) (σ.I 0 22) (σ.I 0 29) τ σ17 := KTX_w eσ17 (by unfold wsTX; omega)
          have hv17 : σ17.I 0 20 = σ.I 0 20 := (by rw [eσ17, I_wI, if_neg (by omega)]; exact hV)
          have hh17 : σ17.I 0 22 = σ.I 0 22 := (by rw [eσ17, I_wI, if_neg (by omega)]; exact hH)
          rintro ⟨f7, f7q⟩
          rintro ⟨f8, f8q⟩
          refine ⟨?_, ?_⟩
          · (first | omega | exact ⟨by omega, by omega⟩ | assumption)
          refine ⟨?_, ?_⟩
          · (first | omega | exact ⟨by omega, by omega⟩ | assumption)
          intro σ22 eσ22 gσ22
          have kσ22 : KTX (σ.I 0 20) (σ.I 0 22) (σ.I 0 29) σ17 σ22 := KTX_w eσ22 (by unfold wsTX; omega)
          refine ⟨?_, ?_⟩
          · (first | omega | exact ⟨by omega, by omega⟩ | assumption)
          refine ⟨?_, ?_⟩
          · (first | omega | exact ⟨by omega, by omega⟩ | assumption)
          refine ⟨?_, ?_⟩
          · (first | exact ⟨by omega, by omega⟩ | assumption)
          intro σ26 eσ26 gσ26
          have kσ26 : KTX (σ.I 0 20) (σ.I 0 22) (σ.I 0 29) σ22 σ26 := KTX_w eσ26 (by unfold wsTX; omega)
          have hs26 : σ26.I 0 22 = σ.I 0 22 := (by rw [eσ26, I_ne _ _ _ _ (by omega), eσ22, I_ne _ _ _ _ (by omega)]; exact hh17)
          rintro ⟨f9, f9q⟩
          refine ⟨?_, ?_⟩
          · (first | omega | exact ⟨by omega, by omega⟩ | assumption)
          refine ⟨?_, ?_⟩
          · (first | omega | exact ⟨by omega, by omega⟩ | assumption)
          refine ⟨?_, ?_⟩
          · (first | omega | exact ⟨by omega, by omega⟩ | assumption)
          refine ⟨?_, ?_⟩
          · (first | omega | exact ⟨by omega, by omega⟩ | assumption)
          refine ⟨?_, ?_⟩
          · (first | omega | exact ⟨by omega, by omega⟩ | assumption)
          intro σ33 eσ33 gσ33
          have kσ33 : KTX (σ.I 0 20) (σ.I 0 22) (σ.I 0 29) σ26 σ33 := KTX_c eσ33 (fun _ _ _ => by unfold wsTX; omega)
          have hs33 : σ33.I 0 22 = σ.I 0 22 := (by rw [eσ33, I_cp, if_neg (by omega)]; exact hs26)
          rintro ⟨f10, f10q⟩
          refine ⟨?_, ?_⟩
          · (first | exact ⟨by omega, by omega⟩ | assumption)
          intro σ36 eσ36 gσ36
          have kσ36 : KTX (σ.I 0 20) (σ.I 0 22) (σ.I 0 29) σ33 σ36 := KTX_w eσ36 (by unfold wsTX; omega)
          rintro ⟨f11, f11q⟩
          refine ⟨?_, ?_⟩
          · (first | omega | exact ⟨by omega, by omega⟩ | assumption)
          refine ⟨?_, ?_⟩
          · (first | omega | exact ⟨by omega, by omega⟩ | assumption)
          intro σ40 eσ40 gσ40
          have kσ40 : KTX (σ.I 0 20) (σ.I 0 22) (σ.I 0 29) σ36 σ40 := KTX_w eσ40 (by unfold wsTX; omega)
          rintro ⟨f12, f12q⟩
          refine ⟨?_, ?_⟩
          · (first | omega | exact ⟨by omega, by omega⟩ | assumption)
          refine ⟨?_, ?_⟩
          · (first | omega | exact ⟨by omega, by omega⟩ | assumption)
          intro σ44 eσ44 gσ44
          have kσ44 : KTX (σ.I 0 20) (σ.I 0 22) (σ.I 0 29) σ40 σ44 := KTX_w eσ44 (by unfold wsTX; omega)
          have hk44 : ∀ c i, ¬ (c = 28 ∨ c = 29 ∨ c = 31 ∨ c = 32 ∨ c = 35 ∨ (c = 0 ∧ (i = 22 ∨ i = 30))) → σ44.I c i = τ.I c i := fun c i q => (by rw [eσ44, I_ne _ _ _ _ (by omega), eσ40, I_ne _ _ _ _ (by omega), eσ36, I_wI, if_neg (by omega), eσ33, I_cp, if_neg (by omega), eσ26, I_ne _ _ _ _ (by omega), eσ22, I_ne _ _ _ _ (by omega), eσ17, I_wI, if_neg (by omega)])
          have hx44 : ∀ c i, 18 ≤ c → c ≤ 25 → σ44.I c i = σ.I c i := fun c i a b => (hk44 c i (by omega)).trans (h0 c i (by omega) (by omega))
          have hs26 : σ26.I 0 22 = σ.I 0 22 := (by rw [eσ26, I_ne _ _ _ _ (by omega), eσ22, I_ne _ _ _ _ (by omega), eσ17, I_wI, if_neg (by omega)]; exact hH)
          have hv17 : σ17.I 0 20 = σ.I 0 20 := (by rw [eσ17, I_wI, if_neg (by omega)]; exact hV)
          have h44a : σ44.I 0 22 = σ.I 0 22 + x4 := (by rw [eσ44, I_ne _ _ _ _ (by omega), eσ40, I_ne _ _ _ _ (by omega), eσ36, I_same, eσ33, I_cp, if_neg (by omega), hs26])
          have h44b : σ44.I 28 (σ.I 0 20) = σ.I 0 22 := (by rw [eσ44, I_ne _ _ _ _ (by omega), eσ40, I_ne _ _ _ _ (by omega), eσ36, I_ne _ _ _ _ (by omega), eσ33, I_cp, if_neg (by omega), eσ26, I_ne _ _ _ _ (by omega), eσ22, hv17, I_same, eσ17, I_wI, if_neg (by omega)]; exact hH)
          have h44c : σ44.I 29 (σ.I 0 20) = x4 := (by rw [eσ44, I_ne _ _ _ _ (by omega), eσ40, I_ne _ _ _ _ (by omega), eσ36, I_ne _ _ _ _ (by omega), eσ33, I_cp, if_neg (by omega), eσ26, hv17, I_same])
          have h44d : σ44.I 31 (σ.I 0 20) = σ.I 0 29 := (by rw [eσ44, I_ne _ _ _ _ (by omega), eσ40, hv17, I_same, eσ36, I_wI, if_neg (by omega), eσ33, I_cp, if_neg (by omega), eσ26, I_ne _ _ _ _ (by omega), eσ22, I_ne _ _ _ _ (by omega), eσ17, I_wI, if_neg (by omega)]; exact hT)
          have h44e : σ44.I 32 (σ.I 0 20) = τ.I 10 5 := (by rw [eσ44, hv17, I_same, eσ40, I_ne _ _ _ _ (by omega), eσ36, I_ne _ _ _ _ (by omega), eσ33, I_cp, if_neg (by omega), eσ26, I_ne _ _ _ _ (by omega), eσ22, I_ne _ _ _ _ (by omega), eσ17, I_ne _ _ _ _ (by omega)])
          have h44f : ∀ k, 0 ≤ k → k < x4 → σ44.I 35 (σ.I 0 22 + k) = σ.I 1 (x3 + k) := fun k a b => (by rw [eσ44, I_ne _ _ _ _ (by omega), eσ40, I_ne _ _ _ _ (by omega), eσ36, I_ne _ _ _ _ (by omega), eσ33, I_cp, hs26, if_pos ⟨rfl, by omega, by omega⟩, p5, show x3 + (σ.I 0 22 + k - σ.I 0 22) = x3 + k by omega, eσ26, I_ne _ _ _ _ (by omega), eσ22, I_ne _ _ _ _ (by omega), eσ17, I_ne _ _ _ _ (by omega)]; exact h1 _)
          have h44w : σ44.I 0 30 = σ.I 0 30 := (by rw [eσ44, I_ne _ _ _ _ (by omega), eσ40, I_ne _ _ _ _ (by omega), eσ36, I_wI, if_neg (by omega), eσ33, I_cp, if_neg (by omega), eσ26, I_ne _ _ _ _ (by omega), eσ22, I_ne _ _ _ _ (by omega), eσ17, I_same, hW]; omega)
          refine ih1 _ _ _ (((((((gτ.tr gσ17).tr gσ22).tr gσ26).tr gσ33).tr gσ36).tr gσ40).tr gσ44) ⟨?_, ?_, ?_, ?_, ?_, ?_, ?_, ?_, ?_, ?_, ?_, ?_, ?_, ?_, ?_, ?_, ?_⟩ ?_
          · exact (Ch.tr (Ch.tr (Ch.tr (Ch.tr (Ch.tr (Ch.tr (Ch.tr i0 kσ17) kσ22) kσ26) kσ33) kσ36) kσ40) kσ44)
          · (clear ih0 ih1; first | exact i1 | omega)
          · (clear ih0 ih1; first | exact i2 | exact hv17 | exact hv60)
          · (clear ih0 ih1; first | exact ⟨h44a, h44b, h44c, h44d⟩ | exact ⟨(hz _ _ (by omega) (by omega)).trans h87a, (hz _ _ (by omega) (by omega)).trans h87b, (hz _ _ (by omega) (by omega)).trans h87c, (hz _ _ (by omega) (by omega)).trans h87d⟩)
          · (clear ih0 ih1; first | exact (fun k a b => h44f k a b) | exact (fun k a b => (hz _ _ (by omega) (by omega)).trans (h87f k a b)))
          · (clear ih0 ih1; first | (intro i a b; rw [hk44 _ _ (by omega)]; exact i4 i a b) | (intro i a b; rw [hz _ _ (by omega) (by omega), hk87 _ _ (by omega)]; exact i4 i a b) | exact i4)
          · (clear ih0 ih1; first | (intro q; exact ⟨TLX_fr (i2 (by omega)) (fun c i a b => hk44 c i (by omega)), by rw [h44e, hL1 (by omega)], by rw [hk44 _ _ (by omega), hT]; omega, h44w, fun j a b => by omega, by have := hLb (by omega); omega⟩) | (intro q; exfalso; omega))
          · (clear ih0 ih1; first | (intro q; exfalso; omega) | (intro q; refine ⟨?_, rfl, ?_, ?_, (hz _ _ (by omega) (by omega)).trans h87w, ?_, hL2 (by omega)⟩; (rw [hz _ _ (by omega) (by omega), hk87 _ _ (by omega)]; exact i3 (by omega)); (rw [hz _ _ (by omega) (by omega), h87e]; exact i3 (by omega)); (rw [hz _ _ (by omega) (by omega), hk87 _ _ (by omega), hT]); (rw [hy]; refine rowX_e ?_ (fun c i a b => hk103 c i (by omega)); have hr := hcx.2.2.1; rw [hLw (by omega)]; exact rowX_r hr (fun k a b => h187 _))))
          · (first | omega | exact ⟨by omega, by omega⟩ | assumption)
          · (clear ih0 ih1; first | exact TXT_e hx44 | exact TXT_tr (TXT_e hx87) (TXT_tr hcx.1 (TXT_e (fun c i a b => hk103 c i (by omega))) (by rw [hx87 _ _ (by decide) (by decide)]; omega)) (by omega))
          · (clear ih0 ih1; first | exact TU_e p14 hx44 | exact TU_e hcx.2.1 (fun c i a b => hk103 c i (by omega)))
          · (clear ih0 ih1; first | exact TC_e p13 hx44 | exact TC_e eσ99_2 (fun c i a b => hk103 c i (by omega)))
          · (clear ih0 ih1; first | (rw [hx44 _ _ (by decide) (by decide), if_pos (by omega)]; omega) | (rw [hk103 _ _ (by decide), if_neg (by omega)]; have q := hcx.2.2.2.1; rw [hx87 _ _ (by decide) (by decide)] at q; omega))
          · (clear ih0 ih1; first | (intro i a b; rw [hx44 _ _ (by decide) (by decide)]; exact p16 i a b) | (intro i a b; rw [hk103 _ _ (by decide)]; exact hcx.2.2.2.2.1 i a b))
          · (clear ih0 ih1; first | (intro i a b; rw [hx44 _ _ (by decide) (by decide)]; exact p17 i a b) | (intro i a b; rw [hk103 _ _ (by decide)]; exact hcx.2.2.2.2.2.1 i a b))
          · (clear ih0 ih1; first | exact TXNF_e hx44 | exact TXNF_tr (TXNF_e hx87) (TXT_tr hcx.1 (TXT_e (fun c i a b => hk103 c i (by omega))) (by rw [hx87 _ _ (by decide) (by decide)]; omega)) (TXNF_tr hcf (TXT_e (fun c i a b => hk103 c i (by omega))) (TXNF_e (fun c i a b => hk103 c i (by omega))) (by rw [hx87 _ _ (by decide) (by decide)]; omega)) (by omega))
          · (clear ih0 ih1; first | exact (fun c i a d => (hk44 c i (by omega)).trans (h0 c i (by omega) (by omega))) | exact (fun c i a d => ((hz c i (by omega) (by omega)).trans (hk87 c i (by omega))).trans (h0 c i (by omega) (by omega))))
          · (unfold lt3; omega)
        · refine RVZ_mk ?_ ?_
          · (first | exact ⟨by omega, by omega⟩ | assumption)
          · refine ⟨?_, ?_⟩
            · (clear ih0 ih1; first | exact Or.inl ⟨by omega, rfl, i5⟩)
            · (clear ih0 ih1; first | (intro i a b; rw [hk44 _ _ (by omega)]; exact i4 i a b) | (intro i a b; rw [hz _ _ (by omega) (by omega), hk87 _ _ (by omega)]; exact i4 i a b) | exact i4)
      · refine ⟨?_, ?_⟩
        · omega
        refine ⟨?_, ?_⟩
        · (first | omega | exact ⟨by omega, by omega⟩ | assumption)
        refine ⟨?_, ?_⟩
        · (first | omega | exact ⟨by omega, by omega⟩ | assumption)
        refine ⟨?_, ?_⟩
        · (first | omega | exact ⟨by omega, by omega⟩ | assumption)
        refine ⟨?_, ?_⟩
        · (first | omega | exact ⟨by omega, by omega⟩ | assumption)
        refine ⟨?_, ?_⟩
        · (first | omega | exact ⟨by omega, by omega⟩ | assumption)
        refine ⟨?_, ?_⟩
        · (first | omega | exact ⟨by omega, by omega⟩ | assumption)
        refine ⟨?_, ?_⟩
        · (first | omega | exact ⟨by omega, by omega⟩ | assumption)
        refine ⟨fun c13 => ?_, fun c14 => ?_⟩
        · rintro ⟨f15, f15q⟩
          refine ⟨?_, ?_⟩
          · (first | exact ⟨by omega, by omega⟩ | assumption)
          intro σ60 eσ60 gσ60
          have kσ60 : KTX (σ.I 0 20) (σ.I 0 22) (σ.I 0 29) τ σ60 := KTX_w eσ60 (by unfold wsTX; omega)
          have hv60 : σ60.I 0 20 = σ.I 0 20 := (by rw [eσ60, I_wI, if_neg (by omega)]; exact hV)
          have hh60 : σ60.I 0 22 = σ.I 0 22 := (by rw [eσ60, I_wI, if_neg (by omega)]; exact hH)
          rintro ⟨f16, f16q⟩
          rintro ⟨f17, f17q⟩
          refine ⟨?_, ?_⟩
          · (first | omega | exact ⟨by omega, by omega⟩ | assumption)
          refine ⟨?_, ?_⟩
          · (first | omega | exact ⟨by omega, by omega⟩ | assumption)
          intro σ65 eσ65 gσ65
          have kσ65 : KTX (σ.I 0 20) (σ.I 0 22) (σ.I 0 29) σ60 σ65 := KTX_w eσ65 (by unfold wsTX; omega)
          refine ⟨?_, ?_⟩
          · (first | omega | exact ⟨by omega, by omega⟩ | assumption)
          refine ⟨?_, ?_⟩
          · (first | omega | exact ⟨by omega, by omega⟩ | assumption)
          refine ⟨?_, ?_⟩
          · (first | exact ⟨by omega, by omega⟩ | assumption)
          intro σ69 eσ69 gσ69
          have kσ69 : KTX (σ.I 0 20) (σ.I 0 22) (σ.I 0 29) σ65 σ69 := KTX_w eσ69 (by unfold wsTX; omega)
          have hs69 : σ69.I 0 22 = σ.I 0 22 := (by rw [eσ69, I_ne _ _ _ _ (by omega), eσ65, I_ne _ _ _ _ (by omega)]; exact hh60)
          rintro ⟨f18, f18q⟩
          refine ⟨?_, ?_⟩
          · (first | omega | exact ⟨by omega, by omega⟩ | assumption)
          refine ⟨?_, ?_⟩
          · (first | omega | exact ⟨by omega, by omega⟩ | assumption)
          refine ⟨?_, ?_⟩
          · (first | omega | exact ⟨by omega, by omega⟩ | assumption)
          refine ⟨?_, ?_⟩
          · (first | omega | exact ⟨by omega, by omega⟩ | assumption)
          refine ⟨?_, ?_⟩
          · (first | omega | exact ⟨by omega, by omega⟩ | assumption)
          intro σ76 eσ76 gσ76
          have kσ76 : KTX (σ.I 0 20) (σ.I 0 22) (σ.I 0 29) σ69 σ76 := KTX_c eσ76 (fun _ _ _ => by unfold wsTX; omega)
          have hs76 : σ76.I 0 22 = σ.I 0 22 := (by rw [eσ76, I_cp, if_neg (by omega)]; exact hs69)
          rintro ⟨f19, f19q⟩
          refine ⟨?_, ?_⟩
          · (first | exact ⟨by omega, by omega⟩ | assumption)
          intro σ79 eσ79 gσ79
          have kσ79 : KTX (σ.I 0 20) (σ.I 0 22) (σ.I 0 29) σ76 σ79 := KTX_w eσ79 (by unfold wsTX; omega)
          rintro ⟨f20, f20q⟩
          refine ⟨?_, ?_⟩
          · (first | omega | exact ⟨by omega, by omega⟩ | assumption)
          refine ⟨?_, ?_⟩
          · (first | omega | exact ⟨by omega, by omega⟩ | assumption)
          intro σ83 eσ83 gσ83
          have kσ83 : KTX (σ.I 0 20) (σ.I 0 22) (σ.I 0 29) σ79 σ83 := KTX_w eσ83 (by unfold wsTX; omega)
          rintro ⟨f21, f21q⟩
          refine ⟨?_, ?_⟩
          · (first | omega | exact ⟨by omega, by omega⟩ | assumption)
          refine ⟨?_, ?_⟩
          · (first | omega | exact ⟨by omega, by omega⟩ | assumption)
          intro σ87 eσ87 gσ87
          have kσ87 : KTX (σ.I 0 20) (σ.I 0 22) (σ.I 0 29) σ83 σ87 := KTX_w eσ87 (by unfold wsTX; omega)
          have hk87 : ∀ c i, ¬ (c = 28 ∨ c = 29 ∨ c = 31 ∨ c = 32 ∨ c = 35 ∨ (c = 0 ∧ (i = 22 ∨ i = 30))) → σ87.I c i = τ.I c i := fun c i q => (by rw [eσ87, I_ne _ _ _ _ (by omega), eσ83, I_ne _ _ _ _ (by omega), eσ79, I_wI, if_neg (by omega), eσ76, I_cp, if_neg (by omega), eσ69, I_ne _ _ _ _ (by omega), eσ65, I_ne _ _ _ _ (by omega), eσ60, I_wI, if_neg (by omega)])
          have hx87 : ∀ c i, 18 ≤ c → c ≤ 25 → σ87.I c i = σ.I c i := fun c i a b => (hk87 c i (by omega)).trans (h0 c i (by omega) (by omega))
          have h187 : ∀ i, σ87.I 1 i = σ.I 1 i := fun i => (hk87 _ _ (by omega)).trans (h1 i)
          have hs69 : σ69.I 0 22 = σ.I 0 22 := (by rw [eσ69, I_ne _ _ _ _ (by omega), eσ65, I_ne _ _ _ _ (by omega), eσ60, I_wI, if_neg (by omega)]; exact hH)
          have hv60 : σ60.I 0 20 = σ.I 0 20 := (by rw [eσ60, I_wI, if_neg (by omega)]; exact hV)
          have h87a : σ87.I 0 22 = σ.I 0 22 + x4 := (by rw [eσ87, I_ne _ _ _ _ (by omega), eσ83, I_ne _ _ _ _ (by omega), eσ79, I_same, eσ76, I_cp, if_neg (by omega), hs69])
          have h87b : σ87.I 28 (σ.I 0 20) = σ.I 0 22 := (by rw [eσ87, I_ne _ _ _ _ (by omega), eσ83, I_ne _ _ _ _ (by omega), eσ79, I_ne _ _ _ _ (by omega), eσ76, I_cp, if_neg (by omega), eσ69, I_ne _ _ _ _ (by omega), eσ65, hv60, I_same, eσ60, I_wI, if_neg (by omega)]; exact hH)
          have h87c : σ87.I 29 (σ.I 0 20) = x4 := (by rw [eσ87, I_ne _ _ _ _ (by omega), eσ83, I_ne _ _ _ _ (by omega), eσ79, I_ne _ _ _ _ (by omega), eσ76, I_cp, if_neg (by omega), eσ69, hv60, I_same])
          have h87d : σ87.I 31 (σ.I 0 20) = σ.I 0 29 := (by rw [eσ87, I_ne _ _ _ _ (by omega), eσ83, hv60, I_same, eσ79, I_wI, if_neg (by omega), eσ76, I_cp, if_neg (by omega), eσ69, I_ne _ _ _ _ (by omega), eσ65, I_ne _ _ _ _ (by omega), eσ60, I_wI, if_neg (by omega)]; exact hT)
          have h87e : σ87.I 32 (σ.I 0 20) = τ.I 10 5 := (by rw [eσ87, hv60, I_same, eσ83, I_ne _ _ _ _ (by omega), eσ79, I_ne _ _ _ _ (by omega), eσ76, I_cp, if_neg (by omega), eσ69, I_ne _ _ _ _ (by omega), eσ65, I_ne _ _ _ _ (by omega), eσ60, I_ne _ _ _ _ (by omega)])
          have h87f : ∀ k, 0 ≤ k → k < x4 → σ87.I 35 (σ.I 0 22 + k) = σ.I 1 (x3 + k) := fun k a b => (by rw [eσ87, I_ne _ _ _ _ (by omega), eσ83, I_ne _ _ _ _ (by omega), eσ79, I_ne _ _ _ _ (by omega), eσ76, I_cp, hs69, if_pos ⟨rfl, by omega, by omega⟩, p5, show x3 + (σ.I 0 22 + k - σ.I 0 22) = x3 + k by omega, eσ69, I_ne _ _ _ _ (by omega), eσ65, I_ne _ _ _ _ (by omega), eσ60, I_ne _ _ _ _ (by omega)]; exact h1 _)
          have h87w : σ87.I 0 30 = σ.I 0 30 + 1 := (by rw [eσ87, I_ne _ _ _ _ (by omega), eσ83, I_ne _ _ _ _ (by omega), eσ79, I_wI, if_neg (by omega), eσ76, I_cp, if_neg (by omega), eσ69, I_ne _ _ _ _ (by omega), eσ65, I_ne _ _ _ _ (by omega), eσ60, I_same, hW])
          have h187c := hx87 18 7 (by decide) (by decide)
          refine ⟨?_, ?_⟩
          · omega
          refine ⟨?_, ?_⟩
          · (first | omega | exact ⟨by omega, by omega⟩ | assumption)
          refine ⟨?_, ?_⟩
          · (first | omega | exact ⟨by omega, by omega⟩ | assumption)
          refine ⟨?_, ?_⟩
          · (first | omega | exact ⟨by omega, by omega⟩ | assumption)
          refine ⟨?_, ?_⟩
          · (first | omega | exact ⟨by omega, by omega⟩ | assumption)
          refine ⟨?_, ?_⟩
          · (clear ih0 ih1; first | exact TC_e p13 hx87 | assumption)
          refine ⟨?_, ?_⟩
          · (first | omega | exact ⟨by omega, by omega⟩ | assumption)
          refine ⟨?_, ?_⟩
          · (first | assumption | (clear ih0 ih1; intro i h0 h1; grind (splits := 16) (ematch := 30) (gen := 30) [-Prod, inR, inL, bd_0_20_at, bd_0_12_at, = fI_wI, = sx16_sx16]))
          refine ⟨?_, ?_⟩
          · (first | omega | exact ⟨by omega, by omega⟩ | assumption)
          refine ⟨?_, ?_⟩
          · (first | omega | exact ⟨by omega, by omega⟩ | assumption)
          rintro y100 σ99 ⟨y100f, y100fq⟩ gσ99 ⟨eσ99_0, ⟨⟨eσ99_1r, eσ99_1s, eσ99_1n⟩, eσ99_1⟩, eσ99_2⟩
          rw [p5] at eσ99_0 eσ99_1
          have hcx := come_x (A := σ87.I 1) (i := x3) (n := min x4 20) (TU_e p14 hx87) (by omega) (by rw [hx87 _ _ (by decide) (by decide)]; omega) (fun i a b => (by rw [hx87 _ _ (by decide) (by decide)]; exact p16 i a b)) (fun i a b => (by rw [hx87 _ _ (by decide) (by decide)]; exact p17 i a b)) (by omega) eσ99_0 eσ99_1
          have hcf := come_f (A := σ87.I 1) (i := x3) (n := min x4 20) eσ99_1
          have kσ99 : KTX (σ.I 0 20) (σ.I 0 22) (σ.I 0 29) σ87 σ99 := KTX_come eσ99_1r eσ99_1s eσ99_1n hcx.2.2.2.2.2.2
          refine ⟨?_, ?_⟩
          · (first | omega | exact ⟨by omega, by omega⟩ | assumption)
          refine ⟨?_, ?_⟩
          · (first | omega | exact ⟨by omega, by omega⟩ | assumption)
          intro σ103 eσ103 gσ103
          have kσ103 : KTX (σ.I 0 20) (σ.I 0 22) (σ.I 0 29) σ99 σ103 := KTX_w eσ103 (by unfold wsTX; omega)
          have hk103 : ∀ c i, c ≠ 33 → σ103.I c i = σ99.I c i := fun c i q => (by rw [eσ103]; exact I_ne _ _ _ _ q)
          have ho99 : ∀ c i, ¬ (18 ≤ c ∧ c ≤ 25) → σ99.I c i = σ87.I c i := fun c i q => hcx.2.2.2.2.2.2 c i (by omega) (by omega)
          have hz : ∀ c i, ¬ (18 ≤ c ∧ c ≤ 25) → c ≠ 33 → σ103.I c i = σ87.I c i := fun c i a b => (hk103 c i b).trans (ho99 c i a)
          have hy : σ103.I 33 (σ.I 0 20) = y100 := (by rw [eσ103, hv60, I_same])
          refine ih1 _ _ _ (((((((((gτ.tr gσ60).tr gσ65).tr gσ69).tr gσ76).tr gσ79).tr gσ83).tr gσ87).tr gσ99).tr gσ103) ⟨?_, ?_, ?_, ?_, ?_, ?_, ?_, ?_, ?_, ?_, ?_, ?_, ?_, ?_, ?_, ?_, ?_⟩ ?_
          · exact (Ch.tr (Ch.tr (Ch.tr (Ch.tr (Ch.tr (Ch.tr (Ch.tr (Ch.tr (Ch.tr i0 kσ60) kσ65) kσ69) kσ76) kσ79) kσ83) kσ87) kσ99) kσ103)
          · (clear ih0 ih1; first | exact i1 | omega)
          · (clear ih0 ih1; first | exact i2 | exact hv17 | exact hv60)
          · (clear ih0 ih1; first | exact ⟨h44a, h44b, h44c, h44d⟩ | exact ⟨(hz _ _ (by omega) (by omega)).trans h87a, (hz _ _ (by omega) (by omega)).trans h87b, (hz _ _ (by omega) (by omega)).trans h87c, (hz _ _ (by omega) (by omega)).trans h87d⟩)
          · (clear ih0 ih1; first | exact (fun k a b => h44f k a b) | exact (fun k a b => (hz _ _ (by omega) (by omega)).trans (h87f k a b)))
          · (clear ih0 ih1; first | (intro i a b; rw [hk44 _ _ (by omega)]; exact i4 i a b) | (intro i a b; rw [hz _ _ (by omega) (by omega), hk87 _ _ (by omega)]; exact i4 i a b) | exact i4)
          · (clear ih0 ih1; first | (intro q; exact ⟨TLX_fr (i2 (by omega)) (fun c i a b => hk44 c i (by omega)), by rw [h44e, hL1 (by omega)], by rw [hk44 _ _ (by omega), hT]; omega, h44w, fun j a b => by omega, by have := hLb (by omega); omega⟩) | (intro q; exfalso; omega))
          · (clear ih0 ih1; first | (intro q; exfalso; omega) | (intro q; refine ⟨?_, rfl, ?_, ?_, (hz _ _ (by omega) (by omega)).trans h87w, ?_, hL2 (by omega)⟩; (rw [hz _ _ (by omega) (by omega), hk87 _ _ (by omega)]; exact i3 (by omega)); (rw [hz _ _ (by omega) (by omega), h87e]; exact i3 (by omega)); (rw [hz _ _ (by omega) (by omega), hk87 _ _ (by omega), hT]); (rw [hy]; refine rowX_e ?_ (fun c i a b => hk103 c i (by omega)); have hr := hcx.2.2.1; rw [hLw (by omega)]; exact rowX_r hr (fun k a b => h187 _))))
          · (first | omega | exact ⟨by omega, by omega⟩ | assumption)
          · (clear ih0 ih1; first | exact TXT_e hx44 | exact TXT_tr (TXT_e hx87) (TXT_tr hcx.1 (TXT_e (fun c i a b => hk103 c i (by omega))) (by rw [hx87 _ _ (by decide) (by decide)]; omega)) (by omega))
          · (clear ih0 ih1; first | exact TU_e p14 hx44 | exact TU_e hcx.2.1 (fun c i a b => hk103 c i (by omega)))
          · (clear ih0 ih1; first | exact TC_e p13 hx44 | exact TC_e eσ99_2 (fun c i a b => hk103 c i (by omega)))
          · (clear ih0 ih1; first | (rw [hx44 _ _ (by decide) (by decide), if_pos (by omega)]; omega) | (rw [hk103 _ _ (by decide), if_neg (by omega)]; have q := hcx.2.2.2.1; rw [hx87 _ _ (by decide) (by decide)] at q; omega))
          · (clear ih0 ih1; first | (intro i a b; rw [hx44 _ _ (by decide) (by decide)]; exact p16 i a b) | (intro i a b; rw [hk103 _ _ (by decide)]; exact hcx.2.2.2.2.1 i a b))
          · (clear ih0 ih1; first | (intro i a b; rw [hx44 _ _ (by decide) (by decide)]; exact p17 i a b) | (intro i a b; rw [hk103 _ _ (by decide)]; exact hcx.2.2.2.2.2.1 i a b))
          · (clear ih0 ih1; first | exact TXNF_e hx44 | exact TXNF_tr (TXNF_e hx87) (TXT_tr hcx.1 (TXT_e (fun c i a b => hk103 c i (by omega))) (by rw [hx87 _ _ (by decide) (by decide)]; omega)) (TXNF_tr hcf (TXT_e (fun c i a b => hk103 c i (by omega))) (TXNF_e (fun c i a b => hk103 c i (by omega))) (by rw [hx87 _ _ (by decide) (by decide)]; omega)) (by omega))
          · (clear ih0 ih1; first | exact (fun c i a d => (hk44 c i (by omega)).trans (h0 c i (by omega) (by omega))) | exact (fun c i a d => ((hz c i (by omega) (by omega)).trans (hk87 c i (by omega))).trans (h0 c i (by omega) (by omega))))
          · (unfold lt3; omega)
        · refine RVZ_mk ?_ ?_
          · (first | exact ⟨by omega, by omega⟩ | assumption)
          · refine ⟨?_, ?_⟩
            · (clear ih0 ih1; first | exact Or.inl ⟨by omega, rfl, i5⟩)
            · (clear ih0 ih1; first | (intro i a b; rw [hk44 _ _ (by omega)]; exact i4 i a b) | (intro i a b; rw [hz _ _ (by omega) (by omega), hk87 _ _ (by omega)]; exact i4 i a b) | exact i4)
    · rintro x6 x7 τ gτ ⟨i0, i1, i2, i3, i4, i5, i6, i7, i8, i9, i10, i11, i12, i13, i14, i15, i16⟩ ha hb hc
      subst ha hb hc
      have hcw : x7 < τ.I 10 5 → x7 < 250 ∧ τ.I 0 29 = σ.I 0 29 + x7 ∧ σ.I 0 29 + x7 < 24000 ∧ (0 ≤ τ.I 12 x7 ∧ τ.I 12 x7 ≤ 20) ∧ (0 ≤ τ.I 18 7 ∧ τ.I 18 7 < 36000) := (by intro h; have hKT : σ.I 16 x1 = 0 := (by rcases p8 with q | q; (exact q); (have q2 := (i7 q).1; omega)); obtain ⟨t1, t2, t3, t4, t5, t6⟩ := i6 hKT; have q := t1.1; have q1 := t1.2.1; have q3 := (t1.2.2 x7 i8 (by omega)).1; have q4 : τ.I 12 x7 = (lTX σ x1 (σ.I 1) x3 x4).2.1 x7 := q3.1; have q5 := i9.1; have q6 := i12; rw [if_pos hKT] at q6; have q7 := i1; omega)
      refine ucX0_addText_204W  (hL.sf gτ)  ?_
      rintro ⟨f1, f1q⟩
      refine ⟨?_, ?_⟩
      · (first | exact ⟨by omega, by omega⟩ | assumption)
      refine ⟨fun c2 => ?_, fun c3 => ?_⟩
      · refine RVZ_mk ?_ ?_
        · (first | exact ⟨by omega, by omega⟩ | assumption)
        · refine ⟨?_, ?_⟩
          · (clear ih0 ih1; refine Or.inr ⟨i1, rfl, i0, i3, i4, fun h => ?_, fun h => ?_, i9, i10, i11, ?_, i13, i14, i15, ?_⟩; (obtain ⟨t1, t2, t3, t4, t5, t6⟩ := i6 h; have q := t1.1; have e : x7 = (lTX σ x1 (σ.I 1) x3 x4).1 := (by omega); rw [e] at t3 t5; exact ⟨t2, t3, t4, t5⟩); (obtain ⟨t1, t2, t3, t4, t5, t6, t7⟩ := i7 h; exact ⟨t3, t4, t5, t6⟩); (rcases p8 with q | q; (rw [if_pos q] at i12; have q1 := (i6 q).2.2.2.2.2; omega); (rw [if_neg (by omega)] at i12; have q1 := (i7 q).2.2.2.2.2.2; omega)); (have hq : τ.I 0 29 = σ.I 0 29 + x7 := (by rcases p8 with q | q; (exact (i6 q).2.2.1); (have q1 := (i7 q).2.1; have q2 := (i7 q).2.2.2.1; omega)); rw [hq]; exact i16))
          · (clear ih0 ih1; first | exact i5 | (intro i a b; rw [hzz _ _ (by omega) (by omega)]; exact i5 i a b))
      · rintro ⟨f4, f4q⟩
        refine ⟨?_, ?_⟩
        · (first | omega | exact ⟨by omega, by omega⟩ | assumption)
        refine ⟨?_, ?_⟩
        · (first | omega | exact ⟨by omega, by omega⟩ | assumption)
        rintro ⟨f5, f5q⟩
        refine ⟨?_, ?_⟩
        · omega
        refine ⟨?_, ?_⟩
        · (first | omega | exact ⟨by omega, by omega⟩ | assumption)
        refine ⟨?_, ?_⟩
        · (first | omega | exact ⟨by omega, by omega⟩ | assumption)
        refine ⟨?_, ?_⟩
        · (first | omega | exact ⟨by omega, by omega⟩ | assumption)
        refine ⟨?_, ?_⟩
        · (first | omega | exact ⟨by omega, by omega⟩ | assumption)
        refine ⟨?_, ?_⟩
        · (clear ih0 ih1; first | exact TC_e p13 hx87 | assumption)
        refine ⟨?_, ?_⟩
        · (first | omega | exact ⟨by omega, by omega⟩ | assumption)
        refine ⟨?_, ?_⟩
        · (first | assumption | (clear ih0 ih1; intro i h0 h1; grind (splits := 16) (ematch := 30) (gen := 30) [-Prod, inR, inL, bd_0_20_at, bd_0_12_at, = fI_wI, = sx16_sx16]))
        refine ⟨?_, ?_⟩
        · (first | omega | exact ⟨by omega, by omega⟩ | assumption)
        refine ⟨?_, ?_⟩
        · (first | omega | exact ⟨by omega, by omega⟩ | assumption)
        rintro y19 σ18 ⟨y19f, y19fq⟩ gσ18 ⟨eσ18_0, ⟨⟨eσ18_1r, eσ18_1s, eσ18_1n⟩, eσ18_1⟩, eσ18_2⟩
        have hcx := come_x (A := τ.I 11) (i := 20 * x7) (n := min (τ.I 12 x7) 20) i10 (by omega) (by omega) i13 i14 (by omega) eσ18_0 eσ18_1
        have hcf := come_f (A := τ.I 11) (i := 20 * x7) (n := min (τ.I 12 x7) 20) eσ18_1
        have kσ18 : KTX (σ.I 0 20) (σ.I 0 22) (σ.I 0 29) τ σ18 := KTX_come eσ18_1r eσ18_1s eσ18_1n hcx.2.2.2.2.2.2
        have ho18 : ∀ c i, ¬ (18 ≤ c ∧ c ≤ 25) → σ18.I c i = τ.I c i := fun c i q => hcx.2.2.2.2.2.2 c i (by omega) (by omega)
        have hKT : σ.I 16 x1 = 0 := (by rcases p8 with q | q; (exact q); (have q2 := (i7 q).1; omega))
        obtain ⟨t1, t2, t3, t4, t5, t6⟩ := i6 hKT
        have hrw := t1.2.2 x7 i8 (by have q := t1.1; omega)
        have hl7 := hlim x7 i8 (by have q := t1.1; omega)
        refine ⟨?_, ?_⟩
        · (first | omega | exact ⟨by omega, by omega⟩ | assumption)
        refine ⟨?_, ?_⟩
        · (first | omega | exact ⟨by omega, by omega⟩ | assumption)
        intro σ22 eσ22 gσ22
        have kσ22 : KTX (σ.I 0 20) (σ.I 0 22) (σ.I 0 29) σ18 σ22 := KTX_w eσ22 (by unfold wsTX; omega)
        refine ⟨?_, ?_⟩
        · (first | omega | exact ⟨by omega, by omega⟩ | assumption)
        refine ⟨?_, ?_⟩
        · (first | omega | exact ⟨by omega, by omega⟩ | assumption)
        intro σ25 eσ25 gσ25
        have kσ25 : KTX (σ.I 0 20) (σ.I 0 22) (σ.I 0 29) σ22 σ25 := KTX_w eσ25 (by unfold wsTX; omega)
        refine ⟨?_, ?_⟩
        · (first | omega | exact ⟨by omega, by omega⟩ | assumption)
        refine ⟨?_, ?_⟩
        · (first | omega | exact ⟨by omega, by omega⟩ | assumption)
        rintro ⟨f6, f6q⟩
        refine ⟨?_, ?_⟩
        · (first | omega | exact ⟨by omega, by omega⟩ | assumption)
        refine ⟨?_, ?_⟩
        · (first | omega | exact ⟨by omega, by omega⟩ | assumption)
        intro σ31 eσ31 gσ31
        have kσ31 : KTX (σ.I 0 20) (σ.I 0 22) (σ.I 0 29) σ25 σ31 := KTX_w eσ31 (by unfold wsTX; omega)
        refine ⟨?_, ?_⟩
        · (first | omega | exact ⟨by omega, by omega⟩ | assumption)
        refine ⟨?_, ?_⟩
        · (first | omega | exact ⟨by omega, by omega⟩ | assumption)
        rintro ⟨f7, f7q⟩
        refine ⟨?_, ?_⟩
        · (first | omega | exact ⟨by omega, by omega⟩ | assumption)
        refine ⟨?_, ?_⟩
        · (first | omega | exact ⟨by omega, by omega⟩ | assumption)
        intro σ37 eσ37 gσ37
        have kσ37 : KTX (σ.I 0 20) (σ.I 0 22) (σ.I 0 29) σ31 σ37 := KTX_w eσ37 (by unfold wsTX; omega)
        refine ⟨?_, ?_⟩
        · (first | omega | exact ⟨by omega, by omega⟩ | assumption)
        refine ⟨?_, ?_⟩
        · (first | omega | exact ⟨by omega, by omega⟩ | assumption)
        rintro ⟨f8, f8q⟩
        refine ⟨?_, ?_⟩
        · (first | omega | exact ⟨by omega, by omega⟩ | assumption)
        refine ⟨?_, ?_⟩
        · (first | omega | exact ⟨by omega, by omega⟩ | assumption)
        intro σ43 eσ43 gσ43
        have kσ43 : KTX (σ.I 0 20) (σ.I 0 22) (σ.I 0 29) σ37 σ43 := KTX_w eσ43 (by unfold wsTX; omega)
        have z43 : σ43.I 0 29 = τ.I 0 29 := (by rw [eσ43, I_ne _ _ _ _ (by omega), eσ37, I_ne _ _ _ _ (by omega), eσ31, I_ne _ _ _ _ (by omega), eσ25, I_ne _ _ _ _ (by omega), eσ22, I_ne _ _ _ _ (by omega)]; exact ho18 _ _ (by omega))
        rintro ⟨f9, f9q⟩
        refine ⟨?_, ?_⟩
        · (first | exact ⟨by omega, by omega⟩ | assumption)
        intro σ46 eσ46 gσ46
        have kσ46 : KTX (σ.I 0 20) (σ.I 0 22) (σ.I 0 29) σ43 σ46 := KTX_w eσ46 (by unfold wsTX; omega)
        have hk46 : ∀ c i, ¬ (c = 36 ∨ (38 ≤ c ∧ c ≤ 41) ∨ (c = 0 ∧ i = 29)) → σ46.I c i = σ18.I c i := fun c i q => (by rw [eσ46, I_wI, if_neg (by omega), eσ43, I_ne _ _ _ _ (by omega), eσ37, I_ne _ _ _ _ (by omega), eσ31, I_ne _ _ _ _ (by omega), eσ25, I_ne _ _ _ _ (by omega), eσ22, I_ne _ _ _ _ (by omega)])
        have hx46 : ∀ c i, 18 ≤ c → c ≤ 25 → σ46.I c i = σ18.I c i := fun c i a b => hk46 c i (by omega)
        have hzz : ∀ c i, ¬ (18 ≤ c ∧ c ≤ 25) → ¬ (c = 36 ∨ (38 ≤ c ∧ c ≤ 41) ∨ (c = 0 ∧ i = 29)) → σ46.I c i = τ.I c i := fun c i a b => (hk46 c i b).trans (ho18 c i a)
        have hT7 : σ18.I 0 29 = σ.I 0 29 + x7 := (ho18 _ _ (by omega)).trans t3
        refine ih1 _ _ _ (((((((gτ.tr gσ18).tr gσ22).tr gσ25).tr gσ31).tr gσ37).tr gσ43).tr gσ46) ⟨?_, ?_, ?_, ?_, ?_, ?_, ?_, ?_, ?_, ?_, ?_, ?_, ?_, ?_, ?_, ?_, ?_⟩ ?_
        · exact (Ch.tr (Ch.tr (Ch.tr (Ch.tr (Ch.tr (Ch.tr (Ch.tr i0 kσ18) kσ22) kσ25) kσ31) kσ37) kσ43) kσ46)
        · (clear ih0 ih1; first | exact i1 | omega)
        · (clear ih0 ih1; first | exact i2 | exact hv17 | exact hv60)
        · (clear ih0 ih1; exact ⟨(hzz _ _ (by omega) (by omega)).trans i3.1, (hzz _ _ (by omega) (by omega)).trans i3.2.1, (hzz _ _ (by omega) (by omega)).trans i3.2.2.1, (hzz _ _ (by omega) (by omega)).trans i3.2.2.2⟩)
        · (clear ih0 ih1; exact (fun k a b => (hzz _ _ (by omega) (by omega)).trans (i4 k a b)))
        · (clear ih0 ih1; first | exact i5 | (intro i a b; rw [hzz _ _ (by omega) (by omega)]; exact i5 i a b))
        · (clear ih0 ih1; (intro _; refine ⟨TLX_fr t1 (fun c i a b => hzz c i (by omega) (by omega)), (hzz _ _ (by omega) (by omega)).trans t2, ?_, (hzz _ _ (by omega) (by omega)).trans t4, ?_, by have q := t1.1; omega⟩; (rw [eσ46, I_same, eσ43, I_ne _ _ _ _ (by omega), eσ37, I_ne _ _ _ _ (by omega), eσ31, I_ne _ _ _ _ (by omega), eσ25, I_ne _ _ _ _ (by omega), eσ22, I_ne _ _ _ _ (by omega), hT7]; omega); (intro j a b; rcases (show j < x7 ∨ j = x7 by omega) with q | q; (refine TJN_x (σ := τ) (n := x7) t5 (TXT_tr hcx.1 (TXT_e hx46) (by omega)) (fun j a b => (hlim j a (by omega)).1.2) (fun c i c1 c2 c3 => ?_) j a q; rw [eσ46, I_wI, if_neg (by omega), eσ43, I_wI, if_neg (by omega), eσ37, I_wI, if_neg (by omega), eσ31, I_wI, if_neg (by omega), eσ25, I_wI, if_neg (by omega), eσ22, I_wI, if_neg (by omega)]; exact ho18 c i (by omega)); (subst q; have e36 : σ46.I 36 (σ.I 0 29 + j) = y19 := (by rw [eσ46, I_wI, if_neg (by omega), eσ43, I_ne _ _ _ _ (by omega), eσ37, I_ne _ _ _ _ (by omega), eσ31, I_ne _ _ _ _ (by omega), eσ25, I_ne _ _ _ _ (by omega), eσ22, t3, I_same]); refine ⟨?_, ?_, ?_, ?_, ?_⟩; (rw [e36]; refine rowX_e ?_ hx46; have hr := hcx.2.2.1; rw [show min (τ.I 12 j) 20 = (lTX σ x1 (σ.I 1) x3 x4).2.1 j by (have w : τ.I 12 j = (lTX σ x1 (σ.I 1) x3 x4).2.1 j ∧ 0 ≤ (lTX σ x1 (σ.I 1) x3 x4).2.1 j ∧ (lTX σ x1 (σ.I 1) x3 x4).2.1 j ≤ 20 := hrw.1; omega)] at hr; exact rowX_r hr (fun k a b => hrw.2.2 k a b)); (rw [eσ46, I_wI, if_neg (by omega), eσ43, I_ne _ _ _ _ (by omega), eσ37, I_ne _ _ _ _ (by omega), eσ31, I_ne _ _ _ _ (by omega), eσ25, t3, I_same, i2, sx16_sx16]; exact sx16_id (by omega) (by omega)); (rw [eσ46, I_wI, if_neg (by omega), eσ43, I_ne _ _ _ _ (by omega), eσ37, I_ne _ _ _ _ (by omega), eσ31, t3, I_same]; have q : τ.I 15 j = (lTX σ x1 (σ.I 1) x3 x4).2.2.2.2.2 j := hrw.2.1.2.2; rw [show σ25.I 15 j = (lTX σ x1 (σ.I 1) x3 x4).2.2.2.2.2 j by (rw [eσ25, I_ne _ _ _ _ (by omega), eσ22, I_ne _ _ _ _ (by omega)]; exact (ho18 _ _ (by omega)).trans q)]; first | (rw [sx16_sx16]; exact sx16_id (by omega) (by omega)) | exact sx16_id (by omega) (by omega)); (rw [eσ46, I_wI, if_neg (by omega), eσ43, I_ne _ _ _ _ (by omega), eσ37, t3, I_same]; have q : τ.I 13 j = (lTX σ x1 (σ.I 1) x3 x4).2.2.2.1 j := hrw.2.1.1; rw [show σ31.I 13 j = (lTX σ x1 (σ.I 1) x3 x4).2.2.2.1 j by (rw [eσ31, I_ne _ _ _ _ (by omega), eσ25, I_ne _ _ _ _ (by omega), eσ22, I_ne _ _ _ _ (by omega)]; exact (ho18 _ _ (by omega)).trans q)]; first | (rw [sx16_sx16]; exact sx16_id (by omega) (by omega)) | exact sx16_id (by omega) (by omega)); (rw [eσ46, I_wI, if_neg (by omega), eσ43, t3, I_same]; have q : τ.I 14 j = (lTX σ x1 (σ.I 1) x3 x4).2.2.2.2.1 j := hrw.2.1.2.1; rw [show σ37.I 14 j = (lTX σ x1 (σ.I 1) x3 x4).2.2.2.2.1 j by (rw [eσ37, I_ne _ _ _ _ (by omega), eσ31, I_ne _ _ _ _ (by omega), eσ25, I_ne _ _ _ _ (by omega), eσ22, I_ne _ _ _ _ (by omega)]; exact (ho18 _ _ (by omega)).trans q)]; first | (rw [sx16_sx16]; exact sx16_id (by omega) (by omega)) | exact sx16_id (by omega) (by omega))))))
        · (clear ih0 ih1; (intro q; exfalso; omega))
        · (first | omega | exact ⟨by omega, by omega⟩ | assumption)
        · (clear ih0 ih1; exact TXT_tr i9 (TXT_tr hcx.1 (TXT_e hx46) (by have := i9.1; omega)) (by omega))
        · (clear ih0 ih1; exact TU_e hcx.2.1 hx46)
        · (clear ih0 ih1; exact TC_e eσ18_2 hx46)
        · (clear ih0 ih1; (rw [hx46 _ _ (by decide) (by decide)]; rw [if_pos hKT] at i12 ⊢; have q := hcx.2.2.2.1; omega))
        · (clear ih0 ih1; (intro i a b; rw [hk46 _ _ (by omega)]; exact hcx.2.2.2.2.1 i a b))
        · (clear ih0 ih1; (intro i a b; rw [hk46 _ _ (by omega)]; exact hcx.2.2.2.2.2.1 i a b))
        · (clear ih0 ih1; exact TXNF_tr i15 (TXT_tr hcx.1 (TXT_e hx46) (by have := i9.1; omega)) (TXNF_tr hcf (TXT_e hx46) (TXNF_e hx46) (by have := i9.1; omega)) (by omega))
        · (clear ih0 ih1; exact RSX_tr i16 (b := σ.I 0 29 + x7 + 1) (fun c i a d => (by rw [eσ46, I_wI, if_neg (by omega), eσ43, I_wI, if_neg (by omega), eσ37, I_wI, if_neg (by omega), eσ31, I_wI, if_neg (by omega), eσ25, I_wI, if_neg (by omega), eσ22, I_wI, if_neg (by omega)]; exact ho18 c i (by omega))) (by omega) (by omega))
        · (unfold lt3; omega)
  have k0_ : ∀ (x5 : Int) (τ : Sto), SF σ τ → ((KTX (σ.I 0 20) (σ.I 0 22) (σ.I 0 29) σ τ) ∧ ((0 ≤ x5 ∧ x5 ≤ 1) ∧ (x5 = 1 ↔ σ.I 16 x1 = 1)) ∧ (x5 = 0 → TLX τ 10 (lTX σ x1 (σ.I 1) x3 x4)) ∧ (x5 = 1 → τ.I 10 5 = 0) ∧ (bd_0_20 τ 12 250) ∧ (KXt 10 σ τ)) → VV E mX0_addText (d + 1) 54 [(0, aO 0), (1, aI (x1)), (2, aO o2), (3, aI (x3)), (4, aI (x4)), (5, aI (x5))] [] τ (RVZ (fun y τ => ((¬ (σ.I 0 20 - σ.I 0 31 < 24 ∧ σ.I 0 20 < 6000 ∧ σ.I 0 22 + x4 ≤ 60000 ∧ σ.I 0 29 + σ.I 0 30 + (lTX σ x1 (σ.I 1) x3 x4).1 ≤ 24000) ∧ y = 0 ∧ KXt 10 σ τ) ∨ ((σ.I 0 20 - σ.I 0 31 < 24 ∧ σ.I 0 20 < 6000 ∧ σ.I 0 22 + x4 ≤ 60000 ∧ σ.I 0 29 + σ.I 0 30 + (lTX σ x1 (σ.I 1) x3 x4).1 ≤ 24000) ∧ y = 1 ∧ TXX σ τ x1 (σ.I 1) x3 x4 (lTX σ x1 (σ.I 1) x3 x4))) ∧ (bd_0_20 τ 12 250))) := fun z0 z1 h0 h1 => (key _ _ _).1 z0 z1 h0 h1 rfl rfl rfl
  have k1_ : ∀ (x6 : Int) (x7 : Int) (τ : Sto), SF σ τ → ((KTX (σ.I 0 20) (σ.I 0 22) (σ.I 0 29) σ τ) ∧ ((σ.I 0 20 - σ.I 0 31 < 24 ∧ σ.I 0 20 < 6000 ∧ σ.I 0 22 + x4 ≤ 60000 ∧ σ.I 0 29 + σ.I 0 30 + (lTX σ x1 (σ.I 1) x3 x4).1 ≤ 24000)) ∧ (x6 = (σ.I 0 20)) ∧ (τ.I 0 22 = σ.I 0 22 + x4 ∧ τ.I 28 (σ.I 0 20) = σ.I 0 22 ∧ τ.I 29 (σ.I 0 20) = x4 ∧ τ.I 31 (σ.I 0 20) = σ.I 0 29) ∧ (alN (fun k => τ.I 35 (σ.I 0 22 + k) = (σ.I 1) (x3 + k)) x4) ∧ (bd_0_20 τ 12 250) ∧ (σ.I 16 x1 = 0 → TLX τ 10 (lTX σ x1 (σ.I 1) x3 x4) ∧ τ.I 32 (σ.I 0 20) = (lTX σ x1 (σ.I 1) x3 x4).1 ∧ τ.I 0 29 = σ.I 0 29 + x7 ∧ τ.I 0 30 = σ.I 0 30 ∧ TJN τ (σ.I 0 20) (σ.I 0 29) x1 (lTX σ x1 (σ.I 1) x3 x4) x7 ∧ x7 ≤ (lTX σ x1 (σ.I 1) x3 x4).1) ∧ (σ.I 16 x1 = 1 → τ.I 10 5 = 0 ∧ x7 = 0 ∧ τ.I 32 (σ.I 0 20) = 0 ∧ τ.I 0 29 = σ.I 0 29 ∧ τ.I 0 30 = σ.I 0 30 + 1 ∧ rowX τ (τ.I 33 (σ.I 0 20)) x1 ((lTX σ x1 (σ.I 1) x3 x4).2.1 0) ((lTX σ x1 (σ.I 1) x3 x4).2.2.1 0) ∧ (lTX σ x1 (σ.I 1) x3 x4).1 = 1) ∧ (0 ≤ x7) ∧ (TXT σ τ) ∧ (TU τ) ∧ (TC τ) ∧ (τ.I 18 7 ≤ σ.I 18 7 + (if σ.I 16 x1 = 0 then x7 else 1)) ∧ (bd_0_20 τ 21 36500) ∧ (bd_0_12 τ 20 36500) ∧ (TXNF σ τ x1) ∧ (RSX σ τ ((σ.I 0 29) + x7))) → VV E mX0_addText (d + 1) 204 [(0, aO 0), (1, aI (x1)), (6, aI (x6)), (7, aI (x7))] [] τ (RVZ (fun y τ => ((¬ (σ.I 0 20 - σ.I 0 31 < 24 ∧ σ.I 0 20 < 6000 ∧ σ.I 0 22 + x4 ≤ 60000 ∧ σ.I 0 29 + σ.I 0 30 + (lTX σ x1 (σ.I 1) x3 x4).1 ≤ 24000) ∧ y = 0 ∧ KXt 10 σ τ) ∨ ((σ.I 0 20 - σ.I 0 31 < 24 ∧ σ.I 0 20 < 6000 ∧ σ.I 0 22 + x4 ≤ 60000 ∧ σ.I 0 29 + σ.I 0 30 + (lTX σ x1 (σ.I 1) x3 x4).1 ≤ 24000) ∧ y = 1 ∧ TXX σ τ x1 (σ.I 1) x3 x4 (lTX σ x1 (σ.I 1) x3 x4))) ∧ (bd_0_20 τ 12 250))) := fun z0 z1 z2 h0 h1 => (key _ _ _).2 z0 z1 z2 h0 h1 rfl rfl rfl
  clear key
  refine ucX0_addText_0W  hL ho2 ?_
  refine ⟨?_, ?_⟩
  · (first | omega | exact ⟨by omega, by omega⟩ | assumption)
  refine ⟨?_, ?_⟩
  · (first | omega | exact ⟨by omega, by omega⟩ | assumption)
  rintro ⟨f1, f1q⟩
  refine ⟨fun c2 => ?_, fun c3 => ?_⟩
  · intro σ5 eσ5 gσ5
    have kσ5 : KTX (σ.I 0 20) (σ.I 0 22) (σ.I 0 29) σ σ5 := KTX_w eσ5 (by unfold wsTX; omega)
    have hp9 := p9 (by omega)
    have hu5 : ∀ c i, c ≠ 10 → σ5.I c i = σ.I c i := fun c i q => (by rw [eσ5]; exact I_ne _ _ _ _ q)
    have hR5 : σ5.R = σ.R := (by rw [eσ5]; rfl)
    have hK0 : σ.I 16 x1 = 0 := (by omega)
    have h517 := hu5 17 x1 (by decide)
    have k5 : KXt 10 σ σ5 := KXt_w eσ5 (by unfold wsXt; omega)
    refine ⟨?_, ?_⟩
    · (first | omega | exact ⟨by omega, by omega⟩ | assumption)
    refine ⟨?_, ?_⟩
    · (first | omega | exact ⟨by omega, by omega⟩ | assumption)
    rintro ⟨f4, f4q⟩
    refine ⟨?_, ?_⟩
    · (first | omega | exact ⟨by omega, by omega⟩ | assumption)
    refine ⟨?_, ?_⟩
    · (first | omega | exact ⟨by omega, by omega⟩ | assumption)
    refine ⟨?_, fun b12 r5 => ?_⟩
    · (clear k0_ k1_; exact AN_n p10 hR5 (k := σ5.I 17 x1) (by rw [hu5 17 x1 (by decide)]; exact (p9 hK0).1) (by rw [hu5 17 x1 (by decide)]; exact (p9 hK0).2))
    have hbc := AN_c p10 hR5 (k := σ5.I 17 x1) (by rw [hu5 17 x1 (by decide)]; exact (p9 hK0).1) (by rw [hu5 17 x1 (by decide)]; exact (p9 hK0).2) r5
    rw [hu5 _ _ (by decide)] at hbc
    subst hbc
    have hg := AN_g p10 (p9 hK0).1 (p9 hK0).2
    have hB : ∀ c, anC σ (σ.I 17 x1) ≤ c → σ5.I c = σ.I c := fun c q => funext fun i => hu5 c i (by omega)
    obtain ⟨hX3, hX4, hX5⟩ := ANBs_e (τ := σ5) (fun c q _ => hB c q) (p11 _ (p9 hK0).1 (p9 hK0).2)
    refine ⟨?_, ?_⟩
    · (clear k0_ k1_; exact AN_b p10 hR5 gσ5 (k := σ5.I 17 x1) (by rw [hu5 17 x1 (by decide)]; exact (p9 hK0).1) (by rw [hu5 17 x1 (by decide)]; exact (p9 hK0).2) (by assumption))
    refine ⟨?_, ?_⟩
    · omega
    refine ⟨?_, ?_⟩
    · (first | omega | exact ⟨by omega, by omega⟩ | assumption)
    refine ⟨?_, ?_⟩
    · (first | omega | exact ⟨by omega, by omega⟩ | assumption)
    refine ⟨?_, ?_⟩
    · (first | omega | exact ⟨by omega, by omega⟩ | assumption)
    refine ⟨?_, ?_⟩
    · (first | omega | exact ⟨by omega, by omega⟩ | assumption)
    refine ⟨?_, ?_⟩
    · (first | omega | exact ⟨by omega, by omega⟩ | assumption)
    refine ⟨?_, ?_⟩
    · (clear k0_ k1_; exact hX3)
    refine ⟨?_, ?_⟩
    · (first | omega | exact ⟨by omega, by omega⟩ | assumption)
    refine ⟨?_, ?_⟩
    · (clear k0_ k1_; first | exact eσ26_1 | exact hX5 | (intro i a b; rw [hu5 _ _ (by decide)]; exact p12 i a b) | (intro i a b; rw [eσ27, I_ne _ _ _ _ (by decide)]; exact p12 i a b))
    refine ⟨?_, ?_⟩
    · (clear k0_ k1_; first | exact eσ26_1 | exact hX5 | (intro i a b; rw [hu5 _ _ (by decide)]; exact p12 i a b) | (intro i a b; rw [eσ27, I_ne _ _ _ _ (by decide)]; exact p12 i a b))
    rintro σ26 gσ26 ⟨eσ26_0, eσ26_1, eσ26_2⟩
    have kσ26 : KTX (σ.I 0 20) (σ.I 0 22) (σ.I 0 29) σ5 σ26 := KTX_of_KXt eσ26_2
    have kσ26r := eσ26_2.1.1
    rw [p5] at eσ26_0
    rw [anS_e (fun c q _ => hB c q) (show σ5.2 = σ.2 by rw [eσ5]; rfl), show σ5.I 1 = σ.I 1 from funext (fun i => hu5 _ _ (by decide)), ← hLt hK0] at eσ26_0
    refine k0_ _ _ (gσ5.tr gσ26) ⟨?_, ?_, ?_, ?_, ?_, ?_⟩
    · exact (Ch.tr kσ5 kσ26)
    · (first | omega | exact ⟨by omega, by omega⟩ | assumption)
    · (clear k0_ k1_; first | (intro _; exact eσ26_0) | (intro q; exfalso; omega))
    · (clear k0_ k1_; first | (intro q; exfalso; omega) | (intro _; rw [eσ27]; exact I_same _ _ _ _))
    · (clear k0_ k1_; first | exact eσ26_1 | exact hX5 | (intro i a b; rw [hu5 _ _ (by decide)]; exact p12 i a b) | (intro i a b; rw [eσ27, I_ne _ _ _ _ (by decide)]; exact p12 i a b))
    · (clear k0_ k1_; first | exact Ch.tr k5 eσ26_2 | exact k27)
  · intro σ27 eσ27 gσ27
    have kσ27 : KTX (σ.I 0 20) (σ.I 0 22) (σ.I 0 29) σ σ27 := KTX_w eσ27 (by unfold wsTX; omega)
    have k27 : KXt 10 σ σ27 := KXt_w eσ27 (by unfold wsXt; omega)
    refine k0_ _ _ gσ27 ⟨?_, ?_, ?_, ?_, ?_, ?_⟩
    · exact kσ27
    · (first | omega | exact ⟨by omega, by omega⟩ | assumption)
    · (clear k0_ k1_; first | (intro _; exact eσ26_0) | (intro q; exfalso; omega))
    · (clear k0_ k1_; first | (intro q; exfalso; omega) | (intro _; rw [eσ27]; exact I_same _ _ _ _))
    · (clear k0_ k1_; first | exact eσ26_1 | exact hX5 | (intro i a b; rw [hu5 _ _ (by decide)]; exact p12 i a b) | (intro i a b; rw [eσ27, I_ne _ _ _ _ (by decide)]; exact p12 i a b))
    · (clear k0_ k1_; first | exact Ch.tr k5 eσ26_2 | exact k27)
