set_option maxRecDepth 100000
set_option maxHeartbeats 1200000
theorem DX0_like_0W : DD cX0_like 0 1 1 (.aload_n 0) := ⟨by decide +kernel, rfl⟩
theorem DX0_like_1W : DD cX0_like 1 3 4 (.invokevirtual 467) := ⟨by decide +kernel, rfl⟩
theorem DX0_like_4W : DD cX0_like 4 1 5 (.aload_n 0) := ⟨by decide +kernel, rfl⟩
theorem DX0_like_5W : DD cX0_like 5 1 6 (.iload_n 1) := ⟨by decide +kernel, rfl⟩
theorem DX0_like_6W : DD cX0_like 6 3 9 (.invokevirtual 598) := ⟨by decide +kernel, rfl⟩
theorem DX0_like_9W : DD cX0_like 9 1 10 (.istore_n 3) := ⟨by decide +kernel, rfl⟩
theorem DX0_like_10W : DD cX0_like 10 1 11 (.iload_n 3) := ⟨by decide +kernel, rfl⟩
theorem DX0_like_11W : DD cX0_like 11 3 14 (.ifCond .ge 5) := ⟨by decide +kernel, rfl⟩
theorem DX0_like_14W : DD cX0_like 14 1 15 (.iconst (-1)) := ⟨by decide +kernel, rfl⟩
theorem DX0_like_15W : DD cX0_like 15 1 16 (.ireturn) := ⟨by decide +kernel, rfl⟩
theorem DX0_like_16W : DD cX0_like 16 1 17 (.iload_n 2) := ⟨by decide +kernel, rfl⟩
theorem DX0_like_17W : DD cX0_like 17 1 18 (.iconst 0) := ⟨by decide +kernel, rfl⟩
theorem DX0_like_18W : DD cX0_like 18 1 19 (.aload_n 0) := ⟨by decide +kernel, rfl⟩
theorem DX0_like_19W : DD cX0_like 19 3 22 (.getfield 437) := ⟨by decide +kernel, rfl⟩
theorem DX0_like_22W : DD cX0_like 22 1 23 (.iconst 1) := ⟨by decide +kernel, rfl⟩
theorem DX0_like_23W : DD cX0_like 23 1 24 (.isub) := ⟨by decide +kernel, rfl⟩
theorem DX0_like_24W : DD cX0_like 24 3 27 (.invokestatic 18) := ⟨by decide +kernel, rfl⟩
theorem DX0_like_27W : DD cX0_like 27 3 30 (.ifCond .eq 12) := ⟨by decide +kernel, rfl⟩
theorem DX0_like_30W : DD cX0_like 30 1 31 (.aload_n 0) := ⟨by decide +kernel, rfl⟩
theorem DX0_like_31W : DD cX0_like 31 1 32 (.iload_n 2) := ⟨by decide +kernel, rfl⟩
theorem DX0_like_32W : DD cX0_like 32 1 33 (.iload_n 3) := ⟨by decide +kernel, rfl⟩
theorem DX0_like_33W : DD cX0_like 33 3 36 (.invokevirtual 461) := ⟨by decide +kernel, rfl⟩
theorem DX0_like_36W : DD cX0_like 36 3 39 (.ifCond .ne 5) := ⟨by decide +kernel, rfl⟩
theorem DX0_like_39W : DD cX0_like 39 1 40 (.iconst (-1)) := ⟨by decide +kernel, rfl⟩
theorem DX0_like_40W : DD cX0_like 40 1 41 (.ireturn) := ⟨by decide +kernel, rfl⟩
theorem DX0_like_41W : DD cX0_like 41 1 42 (.aload_n 0) := ⟨by decide +kernel, rfl⟩
theorem DX0_like_42W : DD cX0_like 42 1 43 (.aload_n 0) := ⟨by decide +kernel, rfl⟩
theorem DX0_like_43W : DD cX0_like 43 3 46 (.getfield 268) := ⟨by decide +kernel, rfl⟩
theorem DX0_like_46W : DD cX0_like 46 1 47 (.iload_n 3) := ⟨by decide +kernel, rfl⟩
theorem DX0_like_47W : DD cX0_like 47 3 50 (.invokevirtual 605) := ⟨by decide +kernel, rfl⟩
theorem DX0_like_50W : DD cX0_like 50 1 51 (.aload_n 0) := ⟨by decide +kernel, rfl⟩
theorem DX0_like_51W : DD cX0_like 51 3 54 (.getfield 268) := ⟨by decide +kernel, rfl⟩
theorem DX0_like_54W : DD cX0_like 54 3 57 (.getfield 568) := ⟨by decide +kernel, rfl⟩
theorem DX0_like_57W : DD cX0_like 57 3 60 (.getfield 584) := ⟨by decide +kernel, rfl⟩
theorem DX0_like_60W : DD cX0_like 60 1 61 (.iload_n 2) := ⟨by decide +kernel, rfl⟩
theorem DX0_like_61W : DD cX0_like 61 1 62 (.baload) := ⟨by decide +kernel, rfl⟩
theorem DX0_like_62W : DD cX0_like 62 3 65 (.ifCond .ne 5) := ⟨by decide +kernel, rfl⟩
theorem DX0_like_65W : DD cX0_like 65 1 66 (.iconst (-1)) := ⟨by decide +kernel, rfl⟩
theorem DX0_like_66W : DD cX0_like 66 1 67 (.ireturn) := ⟨by decide +kernel, rfl⟩
theorem DX0_like_67W : DD cX0_like 67 1 68 (.aload_n 0) := ⟨by decide +kernel, rfl⟩
theorem DX0_like_68W : DD cX0_like 68 3 71 (.invokevirtual 601) := ⟨by decide +kernel, rfl⟩
theorem DX0_like_71W : DD cX0_like 71 3 74 (.ifCond .ne 6) := ⟨by decide +kernel, rfl⟩
theorem DX0_like_74W : DD cX0_like 74 2 76 (.bipush (-4)) := ⟨by decide +kernel, rfl⟩
theorem DX0_like_76W : DD cX0_like 76 1 77 (.ireturn) := ⟨by decide +kernel, rfl⟩
theorem DX0_like_77W : DD cX0_like 77 1 78 (.aload_n 0) := ⟨by decide +kernel, rfl⟩
theorem DX0_like_78W : DD cX0_like 78 3 81 (.getfield 268) := ⟨by decide +kernel, rfl⟩
theorem DX0_like_81W : DD cX0_like 81 1 82 (.aload_n 0) := ⟨by decide +kernel, rfl⟩
theorem DX0_like_82W : DD cX0_like 82 3 85 (.getfield 562) := ⟨by decide +kernel, rfl⟩
theorem DX0_like_85W : DD cX0_like 85 3 88 (.putfield 580) := ⟨by decide +kernel, rfl⟩
theorem DX0_like_88W : DD cX0_like 88 1 89 (.aload_n 0) := ⟨by decide +kernel, rfl⟩
theorem DX0_like_89W : DD cX0_like 89 3 92 (.getfield 268) := ⟨by decide +kernel, rfl⟩
theorem DX0_like_92W : DD cX0_like 92 3 95 (.getfield 568) := ⟨by decide +kernel, rfl⟩
theorem DX0_like_95W : DD cX0_like 95 3 98 (.invokevirtual 688) := ⟨by decide +kernel, rfl⟩
theorem DX0_like_98W : DD cX0_like 98 1 99 (.aload_n 0) := ⟨by decide +kernel, rfl⟩
theorem DX0_like_99W : DD cX0_like 99 1 100 (.iload_n 2) := ⟨by decide +kernel, rfl⟩
theorem DX0_like_100W : DD cX0_like 100 3 103 (.invokevirtual 690) := ⟨by decide +kernel, rfl⟩
theorem DX0_like_103W : DD cX0_like 103 1 104 (.iconst 0) := ⟨by decide +kernel, rfl⟩
theorem DX0_like_104W : DD cX0_like 104 2 106 (.istore 4) := ⟨by decide +kernel, rfl⟩
theorem DX0_like_106W : DD cX0_like 106 2 108 (.iload 4) := ⟨by decide +kernel, rfl⟩
theorem DX0_like_108W : DD cX0_like 108 1 109 (.aload_n 0) := ⟨by decide +kernel, rfl⟩
theorem DX0_like_109W : DD cX0_like 109 3 112 (.getfield 437) := ⟨by decide +kernel, rfl⟩
theorem DX0_like_112W : DD cX0_like 112 3 115 (.if_icmp .ge 159) := ⟨by decide +kernel, rfl⟩
theorem DX0_like_115W : DD cX0_like 115 1 116 (.aload_n 0) := ⟨by decide +kernel, rfl⟩
theorem DX0_like_116W : DD cX0_like 116 3 119 (.getfield 268) := ⟨by decide +kernel, rfl⟩
theorem DX0_like_119W : DD cX0_like 119 3 122 (.getfield 568) := ⟨by decide +kernel, rfl⟩
theorem DX0_like_122W : DD cX0_like 122 3 125 (.getfield 584) := ⟨by decide +kernel, rfl⟩
theorem DX0_like_125W : DD cX0_like 125 2 127 (.iload 4) := ⟨by decide +kernel, rfl⟩
theorem DX0_like_127W : DD cX0_like 127 1 128 (.baload) := ⟨by decide +kernel, rfl⟩
theorem DX0_like_128W : DD cX0_like 128 3 131 (.ifCond .eq 137) := ⟨by decide +kernel, rfl⟩
theorem DX0_like_131W : DD cX0_like 131 2 133 (.iload 4) := ⟨by decide +kernel, rfl⟩
theorem DX0_like_133W : DD cX0_like 133 1 134 (.iload_n 2) := ⟨by decide +kernel, rfl⟩
theorem DX0_like_134W : DD cX0_like 134 3 137 (.if_icmp .ne 6) := ⟨by decide +kernel, rfl⟩
theorem DX0_like_137W : DD cX0_like 137 3 140 (.goto 128) := ⟨by decide +kernel, rfl⟩
theorem DX0_like_140W : DD cX0_like 140 3 143 (.ldc2_w 609) := ⟨by decide +kernel, rfl⟩
theorem DX0_like_143W : DD cX0_like 143 2 145 (.lstore 5) := ⟨by decide +kernel, rfl⟩
theorem DX0_like_145W : DD cX0_like 145 1 146 (.iconst 0) := ⟨by decide +kernel, rfl⟩
theorem DX0_like_146W : DD cX0_like 146 2 148 (.istore 7) := ⟨by decide +kernel, rfl⟩
theorem DX0_like_148W : DD cX0_like 148 2 150 (.iload 7) := ⟨by decide +kernel, rfl⟩
theorem DX0_like_150W : DD cX0_like 150 1 151 (.aload_n 0) := ⟨by decide +kernel, rfl⟩
theorem DX0_like_151W : DD cX0_like 151 3 154 (.getfield 693) := ⟨by decide +kernel, rfl⟩
theorem DX0_like_154W : DD cX0_like 154 3 157 (.if_icmp .ge 96) := ⟨by decide +kernel, rfl⟩
theorem DX0_like_157W : DD cX0_like 157 1 158 (.aload_n 0) := ⟨by decide +kernel, rfl⟩
theorem DX0_like_158W : DD cX0_like 158 1 159 (.aload_n 0) := ⟨by decide +kernel, rfl⟩
theorem DX0_like_159W : DD cX0_like 159 3 162 (.getfield 335) := ⟨by decide +kernel, rfl⟩
theorem DX0_like_162W : DD cX0_like 162 2 164 (.iload 7) := ⟨by decide +kernel, rfl⟩
theorem DX0_like_164W : DD cX0_like 164 1 165 (.iaload) := ⟨by decide +kernel, rfl⟩
theorem DX0_like_165W : DD cX0_like 165 2 167 (.iload 4) := ⟨by decide +kernel, rfl⟩
theorem DX0_like_167W : DD cX0_like 167 3 170 (.invokevirtual 696) := ⟨by decide +kernel, rfl⟩
theorem DX0_like_170W : DD cX0_like 170 2 172 (.istore 8) := ⟨by decide +kernel, rfl⟩
theorem DX0_like_172W : DD cX0_like 172 1 173 (.aload_n 0) := ⟨by decide +kernel, rfl⟩
theorem DX0_like_173W : DD cX0_like 173 3 176 (.getfield 139) := ⟨by decide +kernel, rfl⟩
theorem DX0_like_176W : DD cX0_like 176 3 179 (.getfield 491) := ⟨by decide +kernel, rfl⟩
theorem DX0_like_179W : DD cX0_like 179 1 180 (.aload_n 0) := ⟨by decide +kernel, rfl⟩
theorem DX0_like_180W : DD cX0_like 180 3 183 (.getfield 335) := ⟨by decide +kernel, rfl⟩
theorem DX0_like_183W : DD cX0_like 183 2 185 (.iload 7) := ⟨by decide +kernel, rfl⟩
theorem DX0_like_185W : DD cX0_like 185 1 186 (.iaload) := ⟨by decide +kernel, rfl⟩
theorem DX0_like_186W : DD cX0_like 186 1 187 (.baload) := ⟨by decide +kernel, rfl⟩
theorem DX0_like_187W : DD cX0_like 187 2 189 (.istore 9) := ⟨by decide +kernel, rfl⟩
theorem DX0_like_189W : DD cX0_like 189 2 191 (.iload 8) := ⟨by decide +kernel, rfl⟩
theorem DX0_like_191W : DD cX0_like 191 3 194 (.ifCond .le 53) := ⟨by decide +kernel, rfl⟩
theorem DX0_like_194W : DD cX0_like 194 2 196 (.lload 5) := ⟨by decide +kernel, rfl⟩
theorem DX0_like_196W : DD cX0_like 196 1 197 (.lconst 0) := ⟨by decide +kernel, rfl⟩
theorem DX0_like_197W : DD cX0_like 197 3 200 (.invokestatic 698) := ⟨by decide +kernel, rfl⟩
theorem DX0_like_200W : DD cX0_like 200 1 201 (.aload_n 0) := ⟨by decide +kernel, rfl⟩
theorem DX0_like_201W : DD cX0_like 201 3 204 (.getfield 268) := ⟨by decide +kernel, rfl⟩
theorem DX0_like_204W : DD cX0_like 204 1 205 (.aload_n 0) := ⟨by decide +kernel, rfl⟩
theorem DX0_like_205W : DD cX0_like 205 3 208 (.getfield 268) := ⟨by decide +kernel, rfl⟩
theorem DX0_like_208W : DD cX0_like 208 2 210 (.iload 9) := ⟨by decide +kernel, rfl⟩
theorem DX0_like_210W : DD cX0_like 210 1 211 (.aload_n 0) := ⟨by decide +kernel, rfl⟩
theorem DX0_like_211W : DD cX0_like 211 3 214 (.getfield 268) := ⟨by decide +kernel, rfl⟩
theorem DX0_like_214W : DD cX0_like 214 3 217 (.getfield 568) := ⟨by decide +kernel, rfl⟩
theorem DX0_like_217W : DD cX0_like 217 1 218 (.aload_n 0) := ⟨by decide +kernel, rfl⟩
theorem DX0_like_218W : DD cX0_like 218 3 221 (.getfield 335) := ⟨by decide +kernel, rfl⟩
theorem DX0_like_221W : DD cX0_like 221 2 223 (.iload 7) := ⟨by decide +kernel, rfl⟩
theorem DX0_like_223W : DD cX0_like 223 1 224 (.iaload) := ⟨by decide +kernel, rfl⟩
theorem DX0_like_224W : DD cX0_like 224 3 227 (.invokevirtual 678) := ⟨by decide +kernel, rfl⟩
theorem DX0_like_227W : DD cX0_like 227 3 230 (.invokevirtual 701) := ⟨by decide +kernel, rfl⟩
theorem DX0_like_230W : DD cX0_like 230 1 231 (.i2l) := ⟨by decide +kernel, rfl⟩
theorem DX0_like_231W : DD cX0_like 231 2 233 (.iload 8) := ⟨by decide +kernel, rfl⟩
theorem DX0_like_233W : DD cX0_like 233 1 234 (.i2l) := ⟨by decide +kernel, rfl⟩
theorem DX0_like_234W : DD cX0_like 234 2 236 (.iload 4) := ⟨by decide +kernel, rfl⟩
theorem DX0_like_236W : DD cX0_like 236 2 238 (.iload 9) := ⟨by decide +kernel, rfl⟩
theorem DX0_like_238W : DD cX0_like 238 3 241 (.invokevirtual 704) := ⟨by decide +kernel, rfl⟩
theorem DX0_like_241W : DD cX0_like 241 1 242 (.ladd) := ⟨by decide +kernel, rfl⟩
theorem DX0_like_242W : DD cX0_like 242 2 244 (.lstore 5) := ⟨by decide +kernel, rfl⟩
theorem DX0_like_244W : DD cX0_like 244 3 247 (.iinc 7 1) := ⟨by decide +kernel, rfl⟩
theorem DX0_like_247W : DD cX0_like 247 3 250 (.goto (-99)) := ⟨by decide +kernel, rfl⟩
theorem DX0_like_250W : DD cX0_like 250 2 252 (.lload 5) := ⟨by decide +kernel, rfl⟩
theorem DX0_like_252W : DD cX0_like 252 1 253 (.lconst 0) := ⟨by decide +kernel, rfl⟩
theorem DX0_like_253W : DD cX0_like 253 1 254 (.lcmp) := ⟨by decide +kernel, rfl⟩
theorem DX0_like_254W : DD cX0_like 254 3 257 (.ifCond .lt 11) := ⟨by decide +kernel, rfl⟩
theorem DX0_like_257W : DD cX0_like 257 1 258 (.aload_n 0) := ⟨by decide +kernel, rfl⟩
theorem DX0_like_258W : DD cX0_like 258 2 260 (.iload 4) := ⟨by decide +kernel, rfl⟩
theorem DX0_like_260W : DD cX0_like 260 2 262 (.lload 5) := ⟨by decide +kernel, rfl⟩
theorem DX0_like_262W : DD cX0_like 262 3 265 (.invokevirtual 611) := ⟨by decide +kernel, rfl⟩
theorem DX0_like_265W : DD cX0_like 265 3 268 (.iinc 4 1) := ⟨by decide +kernel, rfl⟩
theorem DX0_like_268W : DD cX0_like 268 3 271 (.goto (-162)) := ⟨by decide +kernel, rfl⟩
theorem DX0_like_271W : DD cX0_like 271 1 272 (.aload_n 0) := ⟨by decide +kernel, rfl⟩
theorem DX0_like_272W : DD cX0_like 272 1 273 (.iconst (-1)) := ⟨by decide +kernel, rfl⟩
theorem DX0_like_273W : DD cX0_like 273 1 274 (.iconst 0) := ⟨by decide +kernel, rfl⟩
theorem DX0_like_274W : DD cX0_like 274 1 275 (.iconst 1) := ⟨by decide +kernel, rfl⟩
theorem DX0_like_275W : DD cX0_like 275 3 278 (.invokevirtual 615) := ⟨by decide +kernel, rfl⟩
theorem DX0_like_278W : DD cX0_like 278 1 279 (.aload_n 0) := ⟨by decide +kernel, rfl⟩
theorem DX0_like_279W : DD cX0_like 279 3 282 (.getfield 547) := ⟨by decide +kernel, rfl⟩
theorem DX0_like_282W : DD cX0_like 282 1 283 (.ireturn) := ⟨by decide +kernel, rfl⟩
theorem ucX0_like_0W {E : XE} {d : Nat} {σ : Sto} {Q : Res → Sto → Prop} {K : Int} {V : Int} {x1 : Int} {x2 : Int} (hL : Lay σ)  (h : 1 ≤ d ∧ (∀ σ2 : Sto, SF σ σ2 → (RD σ σ2 (fun c i => if fgX c i then 0 else σ.I c i)) → 2 ≤ d ∧ (inR x1) ∧ (∀ y5 : Int, y5 = (if x1 = -1 then σ2.I 0 40 else if 0 ≤ x1 ∧ x1 ≤ 3 then σ2.I 48 x1 else -1) → inR y5 → (0 ≤ y5 → (inR (σ2.I 0 39) → 1 ≤ d ∧ (inR x2) ∧ (inR (0 : Int)) ∧ (inR ((σ2.I 0 39) - 1)) ∧ (((0 : Int) ≤ x2 ∧ x2 ≤ ((σ2.I 0 39) - 1)) → 1 ≤ d ∧ (0 ≤ x2 ∧ x2 < 600) ∧ (inR y5) ∧ ((inV (σ2.I 47) (σ2.I 45) (σ2.I 46) y5 x2) → 527 ≤ d ∧ (87 = 87 ∨ 87 = 121) ∧ (inR y5) ∧ (0 ≤ σ2.I 0 46 ∧ σ2.I 0 46 < 4) ∧ (BSX σ2 K V) ∧ (0 < σ2.I 0 46 → σ2.I (ubX σ2) 1 ≠ 0 → QLX σ2 (ubX σ2)) ∧ (PBD σ2 155) ∧ (∀ σ26 : Sto, SF σ2 σ26 → (((σ26.I (87 + 15) 6 = 0 ∧ σ26.I (87 + 15) 7 = (σ2.I 0 39) ∧ σ26.I (87 + 15) 8 = 0) ∧ σ26.I (87 + 15) 1 = (if 0 < σ2.I 0 46 then σ2.I (ubX σ2) 2 else 0)) ∧ (CHN σ26 (87 + 15)) ∧ (SEX σ2 σ26 87 K V y5) ∧ (PBD σ26 155) ∧ (KMw 87 σ2 σ26)) → 0 ≤ x2 ∧ x2 < 601 ∧ (0 ≤ σ26.I 103 x2 ∧ σ26.I 103 x2 ≤ 1 → ((σ26.I 103 x2) ≠ 0 → 2 ≤ d ∧ (1 ≤ σ26.I 0 96 ∧ σ26.I 0 96 ≤ 8) ∧ (1 ≤ σ26.I 0 95 ∧ σ26.I 0 95 ≤ 8) ∧ (bd_0_1000000 σ26 211 8) ∧ (∀ (y36 : Int) (σ35 : Sto), 0 ≤ y36 ∧ y36 ≤ 1 → SF σ26 σ35 → ((y36 = 1 ↔ alN (fun s => 0 ≤ nOf (σ26.I 210) (σ26.I 0 96) s) (σ26.I 0 95)) ∧ (RD σ26 σ35 (fun c i => if y36 = 1 ∧ c = 211 then σ26.I c i + cn (fun s => nOf (σ26.I 210) (σ26.I 0 96) s = i) (σ26.I 0 95) else σ26.I c i))) → (y36 ≠ 0 → (inR (σ35.I 0 63) → (∀ σ39 : Sto, σ39 = σ35.wI 87 2 (σ35.I 0 63) → SF σ35 σ39 → 1 ≤ d ∧ (102 = 102 ∨ 102 = 136 ∨ 102 = 170) ∧ (0 ≤ σ39.I 0 9 ∧ σ39.I 0 9 ≤ 12) ∧ (0 ≤ σ39.I 102 6 ∧ σ39.I 102 6 ≤ σ39.I 102 7 ∧ σ39.I 102 7 ≤ 601) ∧ (OB σ39 42 43) ∧ (bd_0_250 σ39 32 6000) ∧ (VFX σ39 102) ∧ (∀ σ47 : Sto, SF σ39 σ47 → ((CNT σ39 σ47 102 (σ39.I 102 7)) ∧ (KCn 102 σ39 σ47)) → 6 ≤ d ∧ (0 ≤ x2 ∧ x2 < 601) ∧ (OB σ47 42 43) ∧ (TKO σ47 x2) ∧ (OFZ σ47) ∧ (0 ≤ σ47.I 18 7 ∧ σ47.I 18 7 < 36500) ∧ (PT σ47 K) ∧ (PW σ47 V) ∧ (OBV σ47 K V) ∧ (∀ t, 0 ≤ t → t < σ47.I 18 7 → (0 ≤ σ47.I 20 t ∧ σ47.I 20 t < 12) ∧ 0 ≤ owX σ47 102 t K V ∧ owX σ47 102 t K V ≤ σ47.I 104 (σ47.I 20 t) ∧ σ47.I 104 (σ47.I 20 t) ≤ 601) ∧ (TUB σ47) ∧ (bd_0_20 σ47 21 36500) ∧ (bd_0_36499 σ47 207 6) ∧ (bd_0_250 σ47 32 6000) ∧ (∀ σ62 : Sto, SF σ47 σ62 → ((FVX σ47 σ62 K V x2)) → VV E mX0_like (d + 1) 106 [(0, aO 0), (2, aI (x2)), (4, aI (0))] [] σ62 Q))))) ∧ (y36 = 0 → Q (.inl (some (aI (-4)))) σ35))) ∧ ((σ26.I 103 x2) = 0 → Q (.inl (some (aI (-1)))) σ26)))) ∧ (¬ (inV (σ2.I 47) (σ2.I 45) (σ2.I 46) y5 x2) → Q (.inl (some (aI (-1)))) σ2)) ∧ (¬ ((0 : Int) ≤ x2 ∧ x2 ≤ ((σ2.I 0 39) - 1)) → Q (.inl (some (aI (-1)))) σ2))) ∧ (y5 < 0 → Q (.inl (some (aI (-1)))) σ2)))) : VV E mX0_like (d + 1) 0 [(0, aO 0), (1, aI (x1)), (2, aI (x2))] [] σ Q := by
  refine v_aload_n 0 DX0_like_0W rfl rfl <| ?_
  obtain ⟨k1, h⟩ := h
  refine v_invV (ci := 0) (as := []) (st := []) DX0_like_1W rfl okX0_forgetHits (Or.inl q1468) q1470 (s_0 hL) rfl qs27 npX0_forgetHits (sp_X0_forgetHits (σ := σ)  k1 hL ) (Nat.le_of_ble_eq_true rfl) (Nat.le_refl _) (Nat.le_of_ble_eq_true rfl) (RV_ret (fun σ2 gσ2 eσ2 => ?_)) RV_thr
  have h := h σ2 gσ2 eσ2
  refine v_aload_n 0 DX0_like_4W rfl rfl <| v_iload_n 1 DX0_like_5W rfl rfl <| ?_
  obtain ⟨k3, h⟩ := h
  obtain ⟨k4, h⟩ := h
  refine v_invV (ci := 0) (as := [aI (x1)]) (st := []) DX0_like_6W rfl okX0_versionOf (Or.inl q1725) q1727 (s_0 (hL.sf gσ2)) rfl qs55 npX0_versionOf (sp_X0_versionOf (σ := σ2) (x1 := x1) k3 (hL.sf gσ2) k4) (Nat.le_of_ble_eq_true rfl) (Nat.le_refl _) (Nat.le_of_ble_eq_true rfl) (RI_ret (fun y5 y5e y5f => ?_)) RI_thr
  have h := h y5 y5e y5f
  refine v_istore_n DX0_like_9W rfl (by decide) rfl <| v_iload_n 0 DX0_like_10W rfl rfl <| ?_
  refine v_if_ge (tg := 16) DX0_like_11W (by decide) y5f (fun c6 => ?_) (fun c6 => ?_)
  · have h := h.1 c6
    refine v_iload_n 3 DX0_like_16W rfl rfl <| v_iconst DX0_like_17W <| v_aload_n 1 DX0_like_18W rfl rfl <| ?_
    refine w_getI (ci := 0) (kf := 39) (kz := 39) DX0_like_19W (s_0 (hL.sf gσ2)) rfl (by decide) rfl (Or.inl q1079) (fun _ _ => rfl) (fun f7 => ?_)
    have h := h f7
    refine v_iconst DX0_like_22W <| v_isub DX0_like_23W <| ?_
    obtain ⟨k8, h⟩ := h
    obtain ⟨k9, k10, k11, h⟩ := h
    refine v_invS (as := [aI (x2), aI (0), aI ((σ2.I 0 39) - 1)]) (st := []) DX0_like_24W rfl okX0_isIn (Or.inl q300) q301 npX0_isIn (sp_X0_isIn (σ := σ2) (x0 := x2) (x1 := (0 : Int)) (x2 := (σ2.I 0 39) - 1) k8 (hL.sf gσ2) k9 k10 k11) (Nat.le_of_ble_eq_true rfl) (Nat.le_refl _) (Nat.le_of_ble_eq_true rfl) (RZ_ret (fun c12 => ?_) (fun c12 => ?_)) RZ_thr
    · have h := h.1 c12
      refine v_if_eq (tg := 39) DX0_like_27W (by decide) ⟨by decide, by decide⟩ (fun c13 => absurd c13 (by decide)) (fun c13 => ?_)
      refine v_aload_n 1 DX0_like_30W rfl rfl <| v_iload_n 3 DX0_like_31W rfl rfl <| v_iload_n 0 DX0_like_32W rfl rfl <| ?_
      obtain ⟨k14, h⟩ := h
      obtain ⟨k15, k16, h⟩ := h
      refine v_invV (ci := 0) (as := [aI (x2), aI (y5)]) (st := []) DX0_like_33W rfl okX0_isInVersion (Or.inl q1492) q1494 (s_0 (hL.sf gσ2)) rfl qs29 npX0_isInVersion (sp_X0_isInVersion (σ := σ2) (x1 := x2) (x2 := y5) k14 (hL.sf gσ2) k15 k16) (Nat.le_of_ble_eq_true rfl) (Nat.le_refl _) (Nat.le_of_ble_eq_true rfl) (RZ_ret (fun c17 => ?_) (fun c17 => ?_)) RZ_thr
      · have h := h.1 c17
        refine v_if_ne (tg := 41) DX0_like_36W (by decide) ⟨by decide, by decide⟩ (fun c18 => ?_) (fun c18 => absurd c18 (by decide))
        refine v_aload_n 1 DX0_like_41W rfl rfl <| v_aload_n 1 DX0_like_42W rfl rfl <| w_getR (ci := 0) (kf := 60) (kz := 60) DX0_like_43W (s_0 (hL.sf gσ2)) rfl (by decide) rfl (Or.inl q1106) (fun _ _ => rfl) (r_0_60 (hL.sf gσ2)) <| v_iload_n 0 DX0_like_46W rfl rfl <| ?_
        obtain ⟨k19, h⟩ := h
        obtain ⟨k20, k21, k22, k23, k24, k25, h⟩ := h
        refine v_invV (ci := 0) (as := [aO 87, aI (y5)]) (st := []) DX0_like_47W rfl okX0_makeWorld (Or.inl q1737) q1739 (s_0 (hL.sf gσ2)) rfl qs58 npX0_makeWorld (sp_X0_makeWorld (σ := σ2) (o1 := 87) (x2 := y5) (K := K) (V := V) k19 (hL.sf gσ2) (lat_87 (hL.sf gσ2)) k20 k21 k22 k23 k24 k25) (Nat.le_of_ble_eq_true rfl) (Nat.le_refl _) (Nat.le_of_ble_eq_true rfl) (RV_ret (fun σ26 gσ26 eσ26 => ?_)) RV_thr
        have h := h σ26 gσ26 eσ26
        refine v_aload_n 1 DX0_like_50W rfl rfl <| w_getR (ci := 0) (kf := 60) (kz := 60) DX0_like_51W (s_0 ((hL.sf gσ2).sf gσ26)) rfl (by decide) rfl (Or.inl q1106) (fun _ _ => rfl) (r_0_60 ((hL.sf gσ2).sf gσ26)) <| w_getR (ci := 5) (kf := 1) (kz := 1) DX0_like_54W (s_87 ((hL.sf gσ2).sf gσ26)) rfl (by decide) rfl (Or.inr ⟨_, q888⟩) (fun _ _ => rfl) (r_87_1 ((hL.sf gσ2).sf gσ26)) <| w_getR (ci := 6) (kf := 0) (kz := 0) DX0_like_57W (s_102 ((hL.sf gσ2).sf gσ26)) rfl (by decide) rfl (Or.inr ⟨_, q844⟩) (fun _ _ => rfl) (r_102_0 ((hL.sf gσ2).sf gσ26)) <| v_iload_n 3 DX0_like_60W rfl rfl <| ?_
        obtain ⟨k27, k28, h⟩ := h
        refine v_zald DX0_like_61W (s_103 ((hL.sf gσ2).sf gσ26)) k27 k28 (fun f29 => ?_)
        have h := h f29
        refine v_if_ne (tg := 67) DX0_like_62W (by decide) (inR_z f29) (fun c30 => ?_) (fun c30 => ?_)
        · have h := h.1 c30
          refine v_aload_n 1 DX0_like_67W rfl rfl <| ?_
          obtain ⟨k31, h⟩ := h
          obtain ⟨k32, k33, k34, h⟩ := h
          refine v_invV (ci := 0) (as := []) (st := []) DX0_like_68W rfl okX0_askShards (Or.inl q1729) q1731 (s_0 ((hL.sf gσ2).sf gσ26)) rfl qs56 npX0_askShards (sp_X0_askShards (σ := σ26)  k31 ((hL.sf gσ2).sf gσ26) k32 k33 k34) (Nat.le_of_ble_eq_true rfl) (Nat.le_refl _) (Nat.le_of_ble_eq_true rfl) (RVZ_ret (fun y36 σ35 y36f gσ35 eσ35 => ?_)) RVZ_thr
          have h := h y36 σ35 y36f gσ35 eσ35
          refine v_if_ne (tg := 77) DX0_like_71W (by decide) (inR_z y36f) (fun c37 => ?_) (fun c37 => ?_)
          · have h := h.1 c37
            refine v_aload_n 1 DX0_like_77W rfl rfl <| w_getR (ci := 0) (kf := 60) (kz := 60) DX0_like_78W (s_0 (((hL.sf gσ2).sf gσ26).sf gσ35)) rfl (by decide) rfl (Or.inl q1106) (fun _ _ => rfl) (r_0_60 (((hL.sf gσ2).sf gσ26).sf gσ35)) <| v_aload_n 1 DX0_like_81W rfl rfl <| ?_
            refine w_getI (ci := 0) (kf := 63) (kz := 63) DX0_like_82W (s_0 (((hL.sf gσ2).sf gσ26).sf gσ35)) rfl (by decide) rfl (Or.inl q1109) (fun _ _ => rfl) (fun f38 => ?_)
            have h := h f38
            refine w_putI (ci := 5) (kf := 2) (kz := 2) DX0_like_85W (s_87 (((hL.sf gσ2).sf gσ26).sf gσ35)) rfl (by decide) rfl (Or.inr (Or.inl ⟨rfl, _, q890⟩)) (fun _ _ => rfl) f38 rfl rfl (fun σ39 eσ39 gσ39 => ?_)
            have h := h σ39 eσ39 gσ39
            refine v_aload_n 1 DX0_like_88W rfl rfl <| w_getR (ci := 0) (kf := 60) (kz := 60) DX0_like_89W (s_0 ((((hL.sf gσ2).sf gσ26).sf gσ35).sf gσ39)) rfl (by decide) rfl (Or.inl q1106) (fun _ _ => rfl) (r_0_60 ((((hL.sf gσ2).sf gσ26).sf gσ35).sf gσ39)) <| w_getR (ci := 5) (kf := 1) (kz := 1) DX0_like_92W (s_87 ((((hL.sf gσ2).sf gσ26).sf gσ35).sf gσ39)) rfl (by decide) rfl (Or.inr ⟨_, q888⟩) (fun _ _ => rfl) (r_87_1 ((((hL.sf gσ2).sf gσ26).sf gσ35).sf gσ39)) <| ?_
            obtain ⟨k40, h⟩ := h
            obtain ⟨k41, k42, k43, k44, k45, k46, h⟩ := h
            refine v_invV (ci := 6) (as := []) (st := []) DX0_like_95W rfl okX6_count (Or.inl q2039) q1755 (s_102 ((((hL.sf gσ2).sf gσ26).sf gσ35).sf gσ39)) rfl q1756 npX6_count (sp_X6_count (σ := σ39) (o0 := 102) k40 ((((hL.sf gσ2).sf gσ26).sf gσ35).sf gσ39) (lat_102 ((((hL.sf gσ2).sf gσ26).sf gσ35).sf gσ39)) k41 k42 k43 k44 k45 k46) (Nat.le_of_ble_eq_true rfl) (Nat.le_refl _) (Nat.le_of_ble_eq_true rfl) (RV_ret (fun σ47 gσ47 eσ47 => ?_)) RV_thr
            have h := h σ47 gσ47 eσ47
            refine v_aload_n 1 DX0_like_98W rfl rfl <| v_iload_n 3 DX0_like_99W rfl rfl <| ?_
            obtain ⟨k48, h⟩ := h
            obtain ⟨k49, k50, k51, k52, k53, k54, k55, k56, k57, k58, k59, k60, k61, h⟩ := h
            refine v_invV (ci := 0) (as := [aI (x2)]) (st := []) DX0_like_100W rfl okX0_weighTerms (Or.inl q2040) q2042 (s_0 (((((hL.sf gσ2).sf gσ26).sf gσ35).sf gσ39).sf gσ47)) rfl qs94 npX0_weighTerms (sp_X0_weighTerms (σ := σ47) (x1 := x2) (K := K) (V := V) k48 (((((hL.sf gσ2).sf gσ26).sf gσ35).sf gσ39).sf gσ47) k49 k50 k51 k52 k53 k54 k55 k56 k57 k58 k59 k60 k61) (Nat.le_of_ble_eq_true rfl) (Nat.le_refl _) (Nat.le_of_ble_eq_true rfl) (RV_ret (fun σ62 gσ62 eσ62 => ?_)) RV_thr
            have h := h σ62 gσ62 eσ62
            refine v_iconst DX0_like_103W <| v_istore DX0_like_104W (by decide) rfl <| ?_
            exact v_pick [2, 4, 0] rfl h
          · have h := h.2 c37
            refine v_bipush DX0_like_74W ⟨by decide, by decide⟩ <| ?_
            exact v_iret DX0_like_76W rfl rfl h
        · have h := h.2 c30
          refine v_iconst DX0_like_65W <| ?_
          exact v_iret DX0_like_66W rfl rfl h
      · have h := h.2 c17
        refine v_if_ne (tg := 41) DX0_like_36W (by decide) ⟨by decide, by decide⟩ (fun c63 => absurd c63 (by decide)) (fun c63 => ?_)
        refine v_iconst DX0_like_39W <| ?_
        exact v_iret DX0_like_40W rfl rfl h
    · have h := h.2 c12
      refine v_if_eq (tg := 39) DX0_like_27W (by decide) ⟨by decide, by decide⟩ (fun c64 => ?_) (fun c64 => absurd c64 (by decide))
      refine v_iconst DX0_like_39W <| ?_
      exact v_iret DX0_like_40W rfl rfl h
  · have h := h.2 c6
    refine v_iconst DX0_like_14W <| ?_
    exact v_iret DX0_like_15W rfl rfl h
theorem ucX0_like_106W {E : XE} {d : Nat} {σ : Sto} {Q : Res → Sto → Prop} {K : Int} {V : Int} {x2 : Int} {x4 : Int} (hL : Lay σ)  (h : (inR (σ.I 0 39) → inR x4 ∧ ((σ.I 0 39) ≤ x4 → 5 ≤ d ∧ (-1 ≤ ((-1) : Int) ∧ ((-1) : Int) < 12) ∧ (0 ≤ (0 : Int) ∧ (0 : Int) ≤ 1) ∧ (0 ≤ (1 : Int) ∧ (1 : Int) ≤ 1) ∧ (0 ≤ σ.I 0 70 ∧ σ.I 0 70 ≤ 600) ∧ (OB σ 42 43) ∧ (∀ i, 0 ≤ i → i < σ.I 0 70 → 0 ≤ σ.I 189 i ∧ σ.I 189 i < 600) ∧ (∀ σ11 : Sto, SF σ σ11 → ((∃ p, PRM (σ.I 0 70) p ∧ RWH σ σ11 ((-1) : Int) (0 : Int) (σ.I 0 70) p ∧ ∀ a b, 0 ≤ a → a < b → b < (σ.I 0 70) → ¬ LX2 σ ((-1) : Int) (0 : Int) (1 : Int) (p b) (p a)) ∧ (KSo σ σ11)) → (inR (σ11.I 0 70) → Q (.inl (some (aI (σ11.I 0 70)))) σ11))) ∧ (x4 < (σ.I 0 39) → 0 ≤ x4 ∧ x4 < 601 ∧ (0 ≤ σ.I 103 x4 ∧ σ.I 103 x4 ≤ 1 → ((σ.I 103 x4) = 0 → VV E mX0_like (d + 1) 106 [(0, aO 0), (2, aI (x2)), (4, aI (x4 + 1))] [] σ Q) ∧ ((σ.I 103 x4) ≠ 0 → inR x2 ∧ (x4 ≠ x2 → VV E mX0_like (d + 1) 148 [(0, aO 0), (2, aI (x2)), (4, aI (x4)), (5, aL ((-1))), (7, aI (0))] [] σ Q) ∧ (x4 = x2 → VV E mX0_like (d + 1) 106 [(0, aO 0), (2, aI (x2)), (4, aI (x4 + 1))] [] σ Q)))))) : VV E mX0_like (d + 1) 106 [(0, aO 0), (2, aI (x2)), (4, aI (x4))] [] σ Q := by
  refine v_iload 2 DX0_like_106W rfl <| v_aload_n 0 DX0_like_108W rfl rfl <| ?_
  refine w_getI (ci := 0) (kf := 39) (kz := 39) DX0_like_109W (s_0 hL) rfl (by decide) rfl (Or.inl q1079) (fun _ _ => rfl) (fun f1 => ?_)
  have h := h f1
  obtain ⟨k2, h⟩ := h
  refine v_icmp_ge (tg := 271) DX0_like_112W (by decide) k2 f1 (fun c3 => ?_) (fun c3 => ?_)
  · have h := h.1 c3
    refine v_aload_n 0 DX0_like_271W rfl rfl <| v_iconst DX0_like_272W <| v_iconst DX0_like_273W <| v_iconst DX0_like_274W <| ?_
    obtain ⟨k4, h⟩ := h
    obtain ⟨k5, k6, k7, k8, k9, k10, h⟩ := h
    refine v_invV (ci := 0) (as := [aI ((-1)), aI (0), aI (1)]) (st := []) DX0_like_275W rfl okX0_sortHits (Or.inl q1903) q1905 (s_0 hL) rfl qs80 npX0_sortHits (sp_X0_sortHits (σ := σ) (x1 := ((-1) : Int)) (x2 := (0 : Int)) (x3 := (1 : Int)) k4 hL k5 k6 k7 k8 k9 k10) (Nat.le_of_ble_eq_true rfl) (Nat.le_refl _) (Nat.le_of_ble_eq_true rfl) (RV_ret (fun σ11 gσ11 eσ11 => ?_)) RV_thr
    have h := h σ11 gσ11 eσ11
    refine v_aload_n 0 DX0_like_278W rfl rfl <| ?_
    refine w_getI (ci := 0) (kf := 70) (kz := 70) DX0_like_279W (s_0 (hL.sf gσ11)) rfl (by decide) rfl (Or.inl q1116) (fun _ _ => rfl) (fun f12 => ?_)
    have h := h f12
    exact v_iret DX0_like_282W rfl rfl h
  · have h := h.2 c3
    refine v_aload_n 0 DX0_like_115W rfl rfl <| w_getR (ci := 0) (kf := 60) (kz := 60) DX0_like_116W (s_0 hL) rfl (by decide) rfl (Or.inl q1106) (fun _ _ => rfl) (r_0_60 hL) <| w_getR (ci := 5) (kf := 1) (kz := 1) DX0_like_119W (s_87 hL) rfl (by decide) rfl (Or.inr ⟨_, q888⟩) (fun _ _ => rfl) (r_87_1 hL) <| w_getR (ci := 6) (kf := 0) (kz := 0) DX0_like_122W (s_102 hL) rfl (by decide) rfl (Or.inr ⟨_, q844⟩) (fun _ _ => rfl) (r_102_0 hL) <| v_iload 2 DX0_like_125W rfl <| ?_
    obtain ⟨k13, k14, h⟩ := h
    refine v_zald DX0_like_127W (s_103 hL) k13 k14 (fun f15 => ?_)
    have h := h f15
    refine v_if_eq (tg := 265) DX0_like_128W (by decide) (inR_z f15) (fun c16 => ?_) (fun c16 => ?_)
    · have h := h.1 c16
      refine v_iinc 2 DX0_like_265W rfl (by decide) rfl <| v_goto (pc' := 106) DX0_like_268W.1 (by decide) <| ?_
      exact v_pick [1, 2, 0] rfl h
    · have h := h.2 c16
      refine v_iload 2 DX0_like_131W rfl <| v_iload_n 1 DX0_like_133W rfl rfl <| ?_
      obtain ⟨k17, h⟩ := h
      refine v_icmp_ne (tg := 140) DX0_like_134W (by decide) k2 k17 (fun c18 => ?_) (fun c18 => ?_)
      · have h := h.1 c18
        refine v_ldc2 (x := (-1)) DX0_like_140W q1898 rfl <| v_lstore DX0_like_143W (by decide) rfl <| v_iconst DX0_like_145W <| v_istore DX0_like_146W (by decide) rfl <| ?_
        exact v_pick [2, 3, 4, 1, 0] rfl h
      · have h := h.2 c18
        refine v_goto (pc' := 265) DX0_like_137W.1 (by decide) <| v_iinc 2 DX0_like_265W rfl (by decide) rfl <| v_goto (pc' := 106) DX0_like_268W.1 (by decide) <| ?_
        exact v_pick [1, 2, 0] rfl h
theorem ucX0_like_148W {E : XE} {d : Nat} {σ : Sto} {Q : Res → Sto → Prop} {K : Int} {V : Int} {x2 : Int} {x4 : Int} {y5 : Int} {x7 : Int} (hL : Lay σ)  (h : (inR (σ.I 0 92) → inR x7 ∧ ((σ.I 0 92) ≤ x7 → inL y5 ∧ (y5 < 0 → VV E mX0_like (d + 1) 106 [(0, aO 0), (2, aI (x2)), (4, aI (x4 + 1))] [] σ Q) ∧ (0 ≤ y5 → 1 ≤ d ∧ (0 ≤ σ.I 0 70 ∧ σ.I 0 70 < 600) ∧ (inR x4) ∧ (inL y5) ∧ (∀ σ10 : Sto, SF σ σ10 → (RD σ σ10 (fun c i => if at2 c i 189 (σ.I 0 70) then x4 else if at2 c i 190 (σ.I 0 70) then y5 else if at2 c i 0 70 then σ.I 0 70 + 1 else σ.I c i)) → VV E mX0_like (d + 1) 106 [(0, aO 0), (2, aI (x2)), (4, aI (x4 + 1))] [] σ10 Q))) ∧ (x7 < (σ.I 0 92) → 0 ≤ x7 ∧ x7 < 6 ∧ (inR (σ.I 207 x7) → 1 ≤ d ∧ (inR (σ.I 207 x7)) ∧ (0 ≤ x4 ∧ x4 < 601) ∧ (OB σ 42 43) ∧ (σ.I 42 x4 + σ.I 43 x4 ≤ σ.I 0 20 ∧ σ.I 0 20 ≤ 6000) ∧ (TKV σ) ∧ (∀ y20 : Int, y20 = (coX σ (σ.I 207 x7) x4 (σ.I 43 x4)) → inR y20 → 0 ≤ x7 ∧ x7 < 6 ∧ 0 ≤ (σ.I 207 x7) ∧ (σ.I 207 x7) < 36500 ∧ (-128 ≤ σ.I 20 (σ.I 207 x7) ∧ σ.I 20 (σ.I 207 x7) ≤ 127 → (y20 ≤ 0 → VV E mX0_like (d + 1) 148 [(0, aO 0), (2, aI (x2)), (4, aI (x4)), (5, aL (y5)), (7, aI (x7 + 1))] [] σ Q) ∧ (0 < y20 → inL y5 ∧ 0 ≤ x7 ∧ x7 < 6 ∧ 1 ≤ d ∧ (0 ≤ (σ.I 207 x7) ∧ (σ.I 207 x7) < σ.I 18 7 ∧ σ.I 18 7 < 36500) ∧ (0 ≤ σ.I 20 (σ.I 207 x7) ∧ σ.I 20 (σ.I 207 x7) < 12) ∧ (PT σ K) ∧ (PW σ V) ∧ (OBV σ K V) ∧ (∀ y38 : Int, y38 = (owX σ 102 (σ.I 207 x7) K V) → inR y38 → 2 ≤ d ∧ (0 ≤ (σ.I 20 (σ.I 207 x7)) ∧ (σ.I 20 (σ.I 207 x7)) < 12) ∧ (0 ≤ y38 ∧ y38 ≤ σ.I (87 + 17) (σ.I 20 (σ.I 207 x7)) ∧ σ.I (87 + 17) (σ.I 20 (σ.I 207 x7)) ≤ 601) ∧ (∀ y42 : Int, y42 = (lgR (2 * σ.I (87 + 17) (σ.I 20 (σ.I 207 x7)) + 2) (2 * y38 + 1)) → inR y42 → 2 ≤ d ∧ (0 ≤ x4 ∧ x4 < 601) ∧ (0 ≤ (σ.I 20 (σ.I 207 x7)) ∧ (σ.I 20 (σ.I 207 x7)) < 12) ∧ (0 ≤ y42 ∧ y42 ≤ 100000) ∧ (1 ≤ y20 ∧ y20 ≤ 12000) ∧ (1 ≤ (σ.I (87 + 18) (σ.I 20 (σ.I 207 x7))) ∧ (σ.I (87 + 18) (σ.I 20 (σ.I 207 x7))) ≤ 3700000) ∧ (0 ≤ (xTO σ (σ.I 20 (σ.I 207 x7)) x4) ∧ (xTO σ (σ.I 20 (σ.I 207 x7)) x4) ≤ 6000) ∧ (0 ≤ (σ.I (87 + 17) (σ.I 20 (σ.I 207 x7))) ∧ (σ.I (87 + 17) (σ.I 20 (σ.I 207 x7))) ≤ 601) ∧ (OB σ 42 43) ∧ (bd_0_250 σ 32 6000) ∧ (∀ y53 : Int, y53 = (wgh (σ.I 87 2) y42 y20 (σ.I (87 + 18) (σ.I 20 (σ.I 207 x7))) (xTO σ (σ.I 20 (σ.I 207 x7)) x4) (σ.I (87 + 17) (σ.I 20 (σ.I 207 x7)))) → inL y53 → VV E mX0_like (d + 1) 148 [(0, aO 0), (2, aI (x2)), (4, aI (x4)), (5, aL ((max y5 0) + y53)), (7, aI (x7 + 1))] [] σ Q)))))))))) : VV E mX0_like (d + 1) 148 [(0, aO 0), (2, aI (x2)), (4, aI (x4)), (5, aL (y5)), (7, aI (x7))] [] σ Q := by
  refine v_iload 4 DX0_like_148W rfl <| v_aload_n 0 DX0_like_150W rfl rfl <| ?_
  refine w_getI (ci := 0) (kf := 92) (kz := 92) DX0_like_151W (s_0 hL) rfl (by decide) rfl (Or.inl q1138) (fun _ _ => rfl) (fun f1 => ?_)
  have h := h f1
  obtain ⟨k2, h⟩ := h
  refine v_icmp_ge (tg := 250) DX0_like_154W (by decide) k2 f1 (fun c3 => ?_) (fun c3 => ?_)
  · have h := h.1 c3
    refine v_lload 3 DX0_like_250W rfl <| v_lconst DX0_like_252W <| ?_
    obtain ⟨k4, h⟩ := h
    refine v_lc_lt (tg := 265) DX0_like_253W DX0_like_254W (by decide) k4 ⟨by decide, by decide⟩ (fun c5 => ?_) (fun c5 => ?_)
    · have h := h.1 c5
      refine v_iinc 2 DX0_like_265W rfl (by decide) rfl <| v_goto (pc' := 106) DX0_like_268W.1 (by decide) <| ?_
      exact v_pick [1, 2, 0] rfl h
    · have h := h.2 c5
      refine v_aload_n 0 DX0_like_257W rfl rfl <| v_iload 2 DX0_like_258W rfl <| v_lload 3 DX0_like_260W rfl <| ?_
      obtain ⟨k6, h⟩ := h
      obtain ⟨k7, k8, k9, h⟩ := h
      refine v_invV (ci := 0) (as := [aI (x4), aL (y5)]) (st := []) DX0_like_262W rfl okX0_addHit (Or.inl q1899) q1901 (s_0 hL) rfl qs79 npX0_addHit (sp_X0_addHit (σ := σ) (x1 := x4) (y2 := y5) k6 hL k7 k8 k9) (Nat.le_of_ble_eq_true rfl) (Nat.le_refl _) (Nat.le_of_ble_eq_true rfl) (RV_ret (fun σ10 gσ10 eσ10 => ?_)) RV_thr
      have h := h σ10 gσ10 eσ10
      refine v_iinc 2 DX0_like_265W rfl (by decide) rfl <| v_goto (pc' := 106) DX0_like_268W.1 (by decide) <| ?_
      exact v_pick [1, 2, 0] rfl h
  · have h := h.2 c3
    refine v_aload_n 0 DX0_like_157W rfl rfl <| v_aload_n 0 DX0_like_158W rfl rfl <| w_getR (ci := 0) (kf := 90) (kz := 90) DX0_like_159W (s_0 hL) rfl (by decide) rfl (Or.inl q1136) (fun _ _ => rfl) (r_0_90 hL) <| v_iload 4 DX0_like_162W rfl <| ?_
    obtain ⟨k11, k12, h⟩ := h
    refine v_iald DX0_like_164W (s_207 hL) k11 k12 (fun f13 => ?_)
    have h := h f13
    refine v_iload 2 DX0_like_165W rfl <| ?_
    obtain ⟨k14, h⟩ := h
    obtain ⟨k15, k16, k17, k18, k19, h⟩ := h
    refine v_invV (ci := 0) (as := [aI (σ.I 207 x7), aI (x4)]) (st := []) DX0_like_167W rfl okX0_count (Or.inl q2053) q2055 (s_0 hL) rfl qs97 npX0_count (sp_X0_count (σ := σ) (x1 := σ.I 207 x7) (x2 := x4) k14 hL k15 k16 k17 k18 k19) (Nat.le_of_ble_eq_true rfl) (Nat.le_refl _) (Nat.le_of_ble_eq_true rfl) (RI_ret (fun y20 y20e y20f => ?_)) RI_thr
    have h := h y20 y20e y20f
    refine v_istore DX0_like_170W (by decide) rfl <| v_aload_n 1 DX0_like_172W rfl rfl <| w_getR (ci := 0) (kf := 10) (kz := 10) DX0_like_173W (s_0 hL) rfl (by decide) rfl (Or.inl q1013) (fun _ _ => rfl) (r_0_10 hL) <| w_getR (ci := 2) (kf := 1) (kz := 1) DX0_like_176W (s_18 hL) rfl (by decide) rfl (Or.inr ⟨_, q672⟩) (fun _ _ => rfl) (r_18_1 hL) <| v_aload_n 1 DX0_like_179W rfl rfl <| w_getR (ci := 0) (kf := 90) (kz := 90) DX0_like_180W (s_0 hL) rfl (by decide) rfl (Or.inl q1136) (fun _ _ => rfl) (r_0_90 hL) <| v_iload 5 DX0_like_183W rfl <| ?_
    obtain ⟨k21, k22, h⟩ := h
    refine v_iald DX0_like_185W (s_207 hL) k21 k22 (fun _ => ?_)
    obtain ⟨k24, k25, h⟩ := h
    refine v_bald DX0_like_186W (s_20 hL) k24 k25 (fun f26 => ?_)
    have h := h f26
    refine v_istore DX0_like_187W (by decide) rfl <| v_iload 1 DX0_like_189W rfl <| ?_
    refine v_if_le (tg := 244) DX0_like_191W (by decide) y20f (fun c27 => ?_) (fun c27 => ?_)
    · have h := h.1 c27
      refine v_iinc 6 DX0_like_244W rfl (by decide) rfl <| v_goto (pc' := 148) DX0_like_247W.1 (by decide) <| ?_
      exact v_pick [3, 4, 5, 6, 0] rfl h
    · have h := h.2 c27
      refine v_lload 5 DX0_like_194W rfl <| v_lconst DX0_like_196W <| ?_
      obtain ⟨k28, h⟩ := h
      refine v_lmax DX0_like_197W q2057 q1867 q274 q1868 k28 ⟨by decide, by decide⟩ (Nat.le_add_left 1 d) (Nat.le_of_ble_eq_true rfl) <| v_aload_n 2 DX0_like_200W rfl rfl <| w_getR (ci := 0) (kf := 60) (kz := 60) DX0_like_201W (s_0 hL) rfl (by decide) rfl (Or.inl q1106) (fun _ _ => rfl) (r_0_60 hL) <| v_aload_n 2 DX0_like_204W rfl rfl <| w_getR (ci := 0) (kf := 60) (kz := 60) DX0_like_205W (s_0 hL) rfl (by decide) rfl (Or.inl q1106) (fun _ _ => rfl) (r_0_60 hL) <| v_iload 0 DX0_like_208W rfl <| v_aload_n 2 DX0_like_210W rfl rfl <| w_getR (ci := 0) (kf := 60) (kz := 60) DX0_like_211W (s_0 hL) rfl (by decide) rfl (Or.inl q1106) (fun _ _ => rfl) (r_0_60 hL) <| w_getR (ci := 5) (kf := 1) (kz := 1) DX0_like_214W (s_87 hL) rfl (by decide) rfl (Or.inr ⟨_, q888⟩) (fun _ _ => rfl) (r_87_1 hL) <| v_aload_n 2 DX0_like_217W rfl rfl <| w_getR (ci := 0) (kf := 90) (kz := 90) DX0_like_218W (s_0 hL) rfl (by decide) rfl (Or.inl q1136) (fun _ _ => rfl) (r_0_90 hL) <| v_iload 6 DX0_like_221W rfl <| ?_
      obtain ⟨k29, k30, h⟩ := h
      refine v_iald DX0_like_223W (s_207 hL) k29 k30 (fun _ => ?_)
      obtain ⟨k32, h⟩ := h
      obtain ⟨k33, k34, k35, k36, k37, h⟩ := h
      refine v_invV (ci := 6) (as := [aI (σ.I 207 x7)]) (st := [aI (σ.I 20 (σ.I 207 x7)), aO 87, aO 87, aL (max y5 0)]) DX0_like_224W rfl okX6_objectsWith (Or.inl q2014) q1774 (s_102 hL) rfl q1775 npX6_objectsWith (sp_X6_objectsWith (σ := σ) (o0 := 102) (x1 := σ.I 207 x7) (K := K) (V := V) k32 hL (lat_102 hL) k33 k34 k35 k36 k37) (Nat.le_of_ble_eq_true rfl) (Nat.le_refl _) (Nat.le_of_ble_eq_true rfl) (RI_ret (fun y38 y38e y38f => ?_)) RI_thr
      have h := h y38 y38e y38f
      obtain ⟨k39, h⟩ := h
      obtain ⟨k40, k41, h⟩ := h
      refine v_invV (ci := 5) (as := [aI (σ.I 20 (σ.I 207 x7)), aI (y38)]) (st := [aO 87, aL (max y5 0)]) DX0_like_227W rfl okX5_idf (Or.inr ⟨_, q2044⟩) q1779 (s_87 hL) rfl qs62 npX5_idf (sp_X5_idf (σ := σ) (o0 := 87) (x1 := σ.I 20 (σ.I 207 x7)) (x2 := y38) k39 hL (lat_87 hL) k40 k41) (Nat.le_of_ble_eq_true rfl) (Nat.le_refl _) (Nat.le_of_ble_eq_true rfl) (RI_ret (fun y42 y42e y42f => ?_)) RI_thr
      have h := h y42 y42e y42f
      refine v_i2l DX0_like_230W y42f <| v_iload 1 DX0_like_231W rfl <| v_i2l DX0_like_233W y20f <| v_iload 4 DX0_like_234W rfl <| v_iload 0 DX0_like_236W rfl <| ?_
      obtain ⟨k43, h⟩ := h
      obtain ⟨k44, k45, k46, k47, k48, k49, k50, k51, k52, h⟩ := h
      refine v_invV (ci := 5) (as := [aL (y42), aL (y20), aI (x4), aI (σ.I 20 (σ.I 207 x7))]) (st := [aL (max y5 0)]) DX0_like_238W rfl okX5_weigh (Or.inl q2058) q1883 (s_87 hL) rfl q1884 npX5_weigh (sp_X5_weigh (σ := σ) (o0 := 87) (y1 := y42) (y3 := y20) (x5 := x4) (x6 := σ.I 20 (σ.I 207 x7)) k43 hL (lat_87 hL) k44 k45 k46 k47 k48 k49 k50 k51 k52) (Nat.le_of_ble_eq_true rfl) (Nat.le_refl _) (Nat.le_of_ble_eq_true rfl) (RL_ret (fun y53 y53e y53f => ?_)) RL_thr
      have h := h y53 y53e y53f
      refine v_ladd DX0_like_241W <| v_lstore DX0_like_242W (by decide) rfl <| v_iinc 6 DX0_like_244W rfl (by decide) rfl <| v_goto (pc' := 148) DX0_like_247W.1 (by decide) <| ?_
      exact v_pick [4, 5, 6, 1, 0] rfl h
theorem sp_X0_likeW {E : XE} {d : Nat} {σ : Sto} {K : Int} {V : Int} {x1 : Int} {x2 : Int} (hd : 529 ≤ d) (hL : Lay σ)  (p0 : inR x1) (p1 : 0 ≤ σ.I 0 46 ∧ σ.I 0 46 < 4) (p2 : BSX σ K V) (p3 : 0 < σ.I 0 46 → σ.I (ubX σ) 1 ≠ 0 → QLX σ (ubX σ)) (p4 : PBD σ 155) (p5 : inR x2) (p6 : OFZ σ) (p7 : (1 ≤ σ.I 0 96 ∧ σ.I 0 96 ≤ 8) ∧ (1 ≤ σ.I 0 95 ∧ σ.I 0 95 ≤ 8)) (p8 : bd_0_1000000 σ 211 8) (p9 : inR (if x1 = -1 then σ.I 0 40 else if 0 ≤ x1 ∧ x1 ≤ 3 then σ.I 48 x1 else -1)) (p10 : OX σ (σ.I 0 39)) (p11 : TUB σ) (p12 : bd_0_36499 σ 207 6) (p13 : TKV σ) (p14 : ∀ b, 0 ≤ b → b < σ.I 0 39 → TKO σ b) : CC E mX0_like d [aO 0, aI (x1), aI (x2)] σ (RVI (fun y τ => ((¬ (0 ≤ (if x1 = -1 then σ.I 0 40 else if 0 ≤ x1 ∧ x1 ≤ 3 then σ.I 48 x1 else -1) ∧ (0 ≤ x2 ∧ x2 < (σ.I 0 39)) ∧ inV (σ.I 47) (σ.I 45) (σ.I 46) (if x1 = -1 then σ.I 0 40 else if 0 ≤ x1 ∧ x1 ≤ 3 then σ.I 48 x1 else -1) x2) ∧ y = -1 ∧ RD σ τ (fun c i => if fgX c i then 0 else σ.I c i)) ∨ ((0 ≤ (if x1 = -1 then σ.I 0 40 else if 0 ≤ x1 ∧ x1 ≤ 3 then σ.I 48 x1 else -1) ∧ (0 ≤ x2 ∧ x2 < (σ.I 0 39)) ∧ inV (σ.I 47) (σ.I 45) (σ.I 46) (if x1 = -1 then σ.I 0 40 else if 0 ≤ x1 ∧ x1 ≤ 3 then σ.I 48 x1 else -1) x2) ∧ y = -1 ∧ τ.I 103 x2 = 0 ∧ ∃ ς, RZ0 σ ς ∧ WNX ς τ K V (if x1 = -1 then σ.I 0 40 else if 0 ≤ x1 ∧ x1 ≤ 3 then σ.I 48 x1 else -1)) ∨ ((0 ≤ (if x1 = -1 then σ.I 0 40 else if 0 ≤ x1 ∧ x1 ≤ 3 then σ.I 48 x1 else -1) ∧ (0 ≤ x2 ∧ x2 < (σ.I 0 39)) ∧ inV (σ.I 47) (σ.I 45) (σ.I 46) (if x1 = -1 then σ.I 0 40 else if 0 ≤ x1 ∧ x1 ≤ 3 then σ.I 48 x1 else -1) x2) ∧ y = -4 ∧ ¬ alN (fun s => 0 ≤ nOf (σ.I 210) (σ.I 0 96) s) (σ.I 0 95) ∧ τ.I 103 x2 ≠ 0 ∧ ∃ ς, RZ0 σ ς ∧ WNX ς τ K V (if x1 = -1 then σ.I 0 40 else if 0 ≤ x1 ∧ x1 ≤ 3 then σ.I 48 x1 else -1)) ∨ ((0 ≤ (if x1 = -1 then σ.I 0 40 else if 0 ≤ x1 ∧ x1 ≤ 3 then σ.I 48 x1 else -1) ∧ (0 ≤ x2 ∧ x2 < (σ.I 0 39)) ∧ inV (σ.I 47) (σ.I 45) (σ.I 46) (if x1 = -1 then σ.I 0 40 else if 0 ≤ x1 ∧ x1 ≤ 3 then σ.I 48 x1 else -1) x2) ∧ alN (fun s => 0 ≤ nOf (σ.I 210) (σ.I 0 96) s) (σ.I 0 95) ∧ y = τ.I 0 70 ∧ LKX σ τ K V (if x1 = -1 then σ.I 0 40 else if 0 ≤ x1 ∧ x1 ≤ 3 then σ.I 48 x1 else -1) x2)) ∧ (PBD τ 155) ∧ (OFZ τ))) := by
  obtain ⟨d, rfl⟩ : ∃ e, d = e + 1 := ⟨d - 1, by omega⟩
  have p0a := p0.1; have p0b := p0.2
  have p5a := p5.1; have p5b := p5.2
  have p9a := p9.1; have p9b := p9.2
  have hnx := p2.2.1
  have hfc := p2.1.1
  have key : ∀ wa wb wc : Nat, (∀ (x4 : Int) (τ : Sto), SF σ τ → ((LX7 σ τ K V (if x1 = -1 then σ.I 0 40 else if 0 ≤ x1 ∧ x1 ≤ 3 then σ.I 48 x1 else -1) x2 x4) ∧ (0 ≤ x4 ∧ x4 ≤ (σ.I 0 39)) ∧ ((0 ≤ (if x1 = -1 then σ.I 0 40 else if 0 ≤ x1 ∧ x1 ≤ 3 then σ.I 48 x1 else -1) ∧ (0 ≤ x2 ∧ x2 < (σ.I 0 39)) ∧ inV (σ.I 47) (σ.I 45) (σ.I 46) (if x1 = -1 then σ.I 0 40 else if 0 ≤ x1 ∧ x1 ≤ 3 then σ.I 48 x1 else -1) x2) ∧ alN (fun s => 0 ≤ nOf (σ.I 210) (σ.I 0 96) s) (σ.I 0 95)) ∧ (LKQ τ K V) ∧ (PBD τ 155) ∧ (OFZ τ) ∧ (τ.I 0 39 = (σ.I 0 39))) → wa = (601 - x4).toNat → wb = 10 → wc = 0 → VV E mX0_like (d + 1) 106 [(0, aO 0), (2, aI (x2)), (4, aI (x4))] [] τ (RVI (fun y τ => ((¬ (0 ≤ (if x1 = -1 then σ.I 0 40 else if 0 ≤ x1 ∧ x1 ≤ 3 then σ.I 48 x1 else -1) ∧ (0 ≤ x2 ∧ x2 < (σ.I 0 39)) ∧ inV (σ.I 47) (σ.I 45) (σ.I 46) (if x1 = -1 then σ.I 0 40 else if 0 ≤ x1 ∧ x1 ≤ 3 then σ.I 48 x1 else -1) x2) ∧ y = -1 ∧ RD σ τ (fun c i => if fgX c i then 0 else σ.I c i)) ∨ ((0 ≤ (if x1 = -1 then σ.I 0 40 else if 0 ≤ x1 ∧ x1 ≤ 3 then σ.I 48 x1 else -1) ∧ (0 ≤ x2 ∧ x2 < (σ.I 0 39)) ∧ inV (σ.I 47) (σ.I 45) (σ.I 46) (if x1 = -1 then σ.I 0 40 else if 0 ≤ x1 ∧ x1 ≤ 3 then σ.I 48 x1 else -1) x2) ∧ y = -1 ∧ τ.I 103 x2 = 0 ∧ ∃ ς, RZ0 σ ς ∧ WNX ς τ K V (if x1 = -1 then σ.I 0 40 else if 0 ≤ x1 ∧ x1 ≤ 3 then σ.I 48 x1 else -1)) ∨ ((0 ≤ (if x1 = -1 then σ.I 0 40 else if 0 ≤ x1 ∧ x1 ≤ 3 then σ.I 48 x1 else -1) ∧ (0 ≤ x2 ∧ x2 < (σ.I 0 39)) ∧ inV (σ.I 47) (σ.I 45) (σ.I 46) (if x1 = -1 then σ.I 0 40 else if 0 ≤ x1 ∧ x1 ≤ 3 then σ.I 48 x1 else -1) x2) ∧ y = -4 ∧ ¬ alN (fun s => 0 ≤ nOf (σ.I 210) (σ.I 0 96) s) (σ.I 0 95) ∧ τ.I 103 x2 ≠ 0 ∧ ∃ ς, RZ0 σ ς ∧ WNX ς τ K V (if x1 = -1 then σ.I 0 40 else if 0 ≤ x1 ∧ x1 ≤ 3 then σ.I 48 x1 else -1)) ∨ ((0 ≤ (if x1 = -1 then σ.I 0 40 else if 0 ≤ x1 ∧ x1 ≤ 3 then σ.I 48 x1 else -1) ∧ (0 ≤ x2 ∧ x2 < (σ.I 0 39)) ∧ inV (σ.I 47) (σ.I 45) (σ.I 46) (if x1 = -1 then σ.I 0 40 else if 0 ≤ x1 ∧ x1 ≤ 3 then σ.I 48 x1 else -1) x2) ∧ alN (fun s => 0 ≤ nOf (σ.I 210) (σ.I 0 96) s) (σ.I 0 95) ∧ y = τ.I 0 70 ∧ LKX σ τ K V (if x1 = -1 then σ.I 0 40 else if 0 ≤ x1 ∧ x1 ≤ 3 then σ.I 48 x1 else -1) x2)) ∧ (PBD τ 155) ∧ (OFZ τ)))) ∧ (∀ (x4 : Int) (y5 : Int) (x7 : Int) (τ : Sto), SF σ τ → ((LX7 σ τ K V (if x1 = -1 then σ.I 0 40 else if 0 ≤ x1 ∧ x1 ≤ 3 then σ.I 48 x1 else -1) x2 x4) ∧ (0 ≤ x4 ∧ x4 < (σ.I 0 39)) ∧ ((0 ≤ (if x1 = -1 then σ.I 0 40 else if 0 ≤ x1 ∧ x1 ≤ 3 then σ.I 48 x1 else -1) ∧ (0 ≤ x2 ∧ x2 < (σ.I 0 39)) ∧ inV (σ.I 47) (σ.I 45) (σ.I 46) (if x1 = -1 then σ.I 0 40 else if 0 ≤ x1 ∧ x1 ≤ 3 then σ.I 48 x1 else -1) x2) ∧ alN (fun s => 0 ≤ nOf (σ.I 210) (σ.I 0 96) s) (σ.I 0 95)) ∧ (LKQ τ K V) ∧ (PBD τ 155) ∧ (OFZ τ) ∧ (τ.I 0 39 = (σ.I 0 39)) ∧ (0 ≤ x7 ∧ x7 ≤ τ.I 0 92) ∧ (τ.I 103 x4 = 1 ∧ x4 ≠ x2) ∧ ((leX τ x4 x7 → y5 = lsX5 τ K V x4 x7 ∧ 0 ≤ y5) ∧ (¬ leX τ x4 x7 → y5 = -1 ∧ lsX5 τ K V x4 x7 = 0)) ∧ (-1 ≤ y5 ∧ y5 ≤ 140800000 * x7)) → wa = (601 - x4).toNat → wb = (6 - x7).toNat → wc = 0 → VV E mX0_like (d + 1) 148 [(0, aO 0), (2, aI (x2)), (4, aI (x4)), (5, aL (y5)), (7, aI (x7))] [] τ (RVI (fun y τ => ((¬ (0 ≤ (if x1 = -1 then σ.I 0 40 else if 0 ≤ x1 ∧ x1 ≤ 3 then σ.I 48 x1 else -1) ∧ (0 ≤ x2 ∧ x2 < (σ.I 0 39)) ∧ inV (σ.I 47) (σ.I 45) (σ.I 46) (if x1 = -1 then σ.I 0 40 else if 0 ≤ x1 ∧ x1 ≤ 3 then σ.I 48 x1 else -1) x2) ∧ y = -1 ∧ RD σ τ (fun c i => if fgX c i then 0 else σ.I c i)) ∨ ((0 ≤ (if x1 = -1 then σ.I 0 40 else if 0 ≤ x1 ∧ x1 ≤ 3 then σ.I 48 x1 else -1) ∧ (0 ≤ x2 ∧ x2 < (σ.I 0 39)) ∧ inV (σ.I 47) (σ.I 45) (σ.I 46) (if x1 = -1 then σ.I 0 40 else if 0 ≤ x1 ∧ x1 ≤ 3 then σ.I 48 x1 else -1) x2) ∧ y = -1 ∧ τ.I 103 x2 = 0 ∧ ∃ ς, RZ0 σ ς ∧ WNX ς τ K V (if x1 = -1 then σ.I 0 40 else if 0 ≤ x1 ∧ x1 ≤ 3 then σ.I 48 x1 else -1)) ∨ ((0 ≤ (if x1 = -1 then σ.I 0 40 else if 0 ≤ x1 ∧ x1 ≤ 3 then σ.I 48 x1 else -1) ∧ (0 ≤ x2 ∧ x2 < (σ.I 0 39)) ∧ inV (σ.I 47) (σ.I 45) (σ.I 46) (if x1 = -1 then σ.I 0 40 else if 0 ≤ x1 ∧ x1 ≤ 3 then σ.I 48 x1 else -1) x2) ∧ y = -4 ∧ ¬ alN (fun s => 0 ≤ nOf (σ.I 210) (σ.I 0 96) s) (σ.I 0 95) ∧ τ.I 103 x2 ≠ 0 ∧ ∃ ς, RZ0 σ ς ∧ WNX ς τ K V (if x1 = -1 then σ.I 0 40 else if 0 ≤ x1 ∧ x1 ≤ 3 then σ.I 48 x1 else -1)) ∨ ((0 ≤ (if x1 = -1 then σ.I 0 40 else if 0 ≤ x1 ∧ x1 ≤ 3 then σ.I 48 x1 else -1) ∧ (0 ≤ x2 ∧ x2 < (σ.I 0 39)) ∧ inV (σ.I 47) (σ.I 45) (σ.I 46) (if x1 = -1 then σ.I 0 40 else if 0 ≤ x1 ∧ x1 ≤ 3 then σ.I 48 x1 else -1) x2) ∧ alN (fun s => 0 ≤ nOf (σ.I 210) (σ.I 0 96) s) (σ.I 0 95) ∧ y = τ.I 0 70 ∧ LKX σ τ K V (if x1 = -1 then σ.I 0 40 else if 0 ≤ x1 ∧ x1 ≤ 3 then σ.I 48 x1 else -1) x2)) ∧ (PBD τ 155) ∧ (OFZ τ)))) := by
    refine lex3 (fun wa wb wc ih => ?_)
    have ih0 : ∀ (x4 : Int) (τ : Sto), SF σ τ → ((LX7 σ τ K V (if x1 = -1 then σ.I 0 40 else if 0 ≤ x1 ∧ x1 ≤ 3 then σ.I 48 x1 else -1) x2 x4) ∧ (0 ≤ x4 ∧ x4 ≤ (σ.I 0 39)) ∧ ((0 ≤ (if x1 = -1 then σ.I 0 40 else if 0 ≤ x1 ∧ x1 ≤ 3 then σ.I 48 x1 else -1) ∧ (0 ≤ x2 ∧ x2 < (σ.I 0 39)) ∧ inV (σ.I 47) (σ.I 45) (σ.I 46) (if x1 = -1 then σ.I 0 40 else if 0 ≤ x1 ∧ x1 ≤ 3 then σ.I 48 x1 else -1) x2) ∧ alN (fun s => 0 ≤ nOf (σ.I 210) (σ.I 0 96) s) (σ.I 0 95)) ∧ (LKQ τ K V) ∧ (PBD τ 155) ∧ (OFZ τ) ∧ (τ.I 0 39 = (σ.I 0 39))) → lt3 ((601 - x4).toNat) 10 0 wa wb wc → VV E mX0_like (d + 1) 106 [(0, aO 0), (2, aI (x2)), (4, aI (x4))] [] τ (RVI (fun y τ => ((¬ (0 ≤ (if x1 = -1 then σ.I 0 40 else if 0 ≤ x1 ∧ x1 ≤ 3 then σ.I 48 x1 else -1) ∧ (0 ≤ x2 ∧ x2 < (σ.I 0 39)) ∧ inV (σ.I 47) (σ.I 45) (σ.I 46) (if x1 = -1 then σ.I 0 40 else if 0 ≤ x1 ∧ x1 ≤ 3 then σ.I 48 x1 else -1) x2) ∧ y = -1 ∧ RD σ τ (fun c i => if fgX c i then 0 else σ.I c i)) ∨ ((0 ≤ (if x1 = -1 then σ.I 0 40 else if 0 ≤ x1 ∧ x1 ≤ 3 then σ.I 48 x1 else -1) ∧ (0 ≤ x2 ∧ x2 < (σ.I 0 39)) ∧ inV (σ.I 47) (σ.I 45) (σ.I 46) (if x1 = -1 then σ.I 0 40 else if 0 ≤ x1 ∧ x1 ≤ 3 then σ.I 48 x1 else -1) x2) ∧ y = -1 ∧ τ.I 103 x2 = 0 ∧ ∃ ς, RZ0 σ ς ∧ WNX ς τ K V (if x1 = -1 then σ.I 0 40 else if 0 ≤ x1 ∧ x1 ≤ 3 then σ.I 48 x1 else -1)) ∨ ((0 ≤ (if x1 = -1 then σ.I 0 40 else if 0 ≤ x1 ∧ x1 ≤ 3 then σ.I 48 x1 else -1) ∧ (0 ≤ x2 ∧ x2 < (σ.I 0 39)) ∧ inV (σ.I 47) (σ.I 45) (σ.I 46) (if x1 = -1 then σ.I 0 40 else if 0 ≤ x1 ∧ x1 ≤ 3 then σ.I 48 x1 else -1) x2) ∧ y = -4 ∧ ¬ alN (fun s => 0 ≤ nOf (σ.I 210) (σ.I 0 96) s) (σ.I 0 95) ∧ τ.I 103 x2 ≠ 0 ∧ ∃ ς, RZ0 σ ς ∧ WNX ς τ K V (if x1 = -1 then σ.I 0 40 else if 0 ≤ x1 ∧ x1 ≤ 3 then σ.I 48 x1 else -1)) ∨ ((0 ≤ (if x1 = -1 then σ.I 0 40 else if 0 ≤ x1 ∧ x1 ≤ 3 then σ.I 48 x1 else -1) ∧ (0 ≤ x2 ∧ x2 < (σ.I 0 39)) ∧ inV (σ.I 47) (σ.I 45) (σ.I 46) (if x1 = -1 then σ.I 0 40 else if 0 ≤ x1 ∧ x1 ≤ 3 then σ.I 48 x1 else -1) x2) ∧ alN (fun s => 0 ≤ nOf (σ.I 210) (σ.I 0 96) s) (σ.I 0 95) ∧ y = τ.I 0 70 ∧ LKX σ τ K V (if x1 = -1 then σ.I 0 40 else if 0 ≤ x1 ∧ x1 ≤ 3 then σ.I 48 x1 else -1) x2)) ∧ (PBD τ 155) ∧ (OFZ τ))) := fun z0 z1 h0 h1 hlt => (ih _ _ _ hlt).1 z0 z1 h0 h1 rfl rfl rfl
    have ih1 : ∀ (x4 : Int) (y5 : Int) (x7 : Int) (τ : Sto), SF σ τ → ((LX7 σ τ K V (if x1 = -1 then σ.I 0 40 else if 0 ≤ x1 ∧ x1 ≤ 3 then σ.I 48 x1 else -1) x2 x4) ∧ (0 ≤ x4 ∧ x4 < (σ.I 0 39)) ∧ ((0 ≤ (if x1 = -1 then σ.I 0 40 else if 0 ≤ x1 ∧ x1 ≤ 3 then σ.I 48 x1 else -1) ∧ (0 ≤ x2 ∧ x2 < (σ.I 0 39)) ∧ inV (σ.I 47) (σ.I 45) (σ.I 46) (if x1 = -1 then σ.I 0 40 else if 0 ≤ x1 ∧ x1 ≤ 3 then σ.I 48 x1 else -1) x2) ∧ alN (fun s => 0 ≤ nOf (σ.I 210) (σ.I 0 96) s) (σ.I 0 95)) ∧ (LKQ τ K V) ∧ (PBD τ 155) ∧ (OFZ τ) ∧ (τ.I 0 39 = (σ.I 0 39)) ∧ (0 ≤ x7 ∧ x7 ≤ τ.I 0 92) ∧ (τ.I 103 x4 = 1 ∧ x4 ≠ x2) ∧ ((leX τ x4 x7 → y5 = lsX5 τ K V x4 x7 ∧ 0 ≤ y5) ∧ (¬ leX τ x4 x7 → y5 = -1 ∧ lsX5 τ K V x4 x7 = 0)) ∧ (-1 ≤ y5 ∧ y5 ≤ 140800000 * x7)) → lt3 ((601 - x4).toNat) ((6 - x7).toNat) 0 wa wb wc → VV E mX0_like (d + 1) 148 [(0, aO 0), (2, aI (x2)), (4, aI (x4)), (5, aL (y5)), (7, aI (x7))] [] τ (RVI (fun y τ => ((¬ (0 ≤ (if x1 = -1 then σ.I 0 40 else if 0 ≤ x1 ∧ x1 ≤ 3 then σ.I 48 x1 else -1) ∧ (0 ≤ x2 ∧ x2 < (σ.I 0 39)) ∧ inV (σ.I 47) (σ.I 45) (σ.I 46) (if x1 = -1 then σ.I 0 40 else if 0 ≤ x1 ∧ x1 ≤ 3 then σ.I 48 x1 else -1) x2) ∧ y = -1 ∧ RD σ τ (fun c i => if fgX c i then 0 else σ.I c i)) ∨ ((0 ≤ (if x1 = -1 then σ.I 0 40 else if 0 ≤ x1 ∧ x1 ≤ 3 then σ.I 48 x1 else -1) ∧ (0 ≤ x2 ∧ x2 < (σ.I 0 39)) ∧ inV (σ.I 47) (σ.I 45) (σ.I 46) (if x1 = -1 then σ.I 0 40 else if 0 ≤ x1 ∧ x1 ≤ 3 then σ.I 48 x1 else -1) x2) ∧ y = -1 ∧ τ.I 103 x2 = 0 ∧ ∃ ς, RZ0 σ ς ∧ WNX ς τ K V (if x1 = -1 then σ.I 0 40 else if 0 ≤ x1 ∧ x1 ≤ 3 then σ.I 48 x1 else -1)) ∨ ((0 ≤ (if x1 = -1 then σ.I 0 40 else if 0 ≤ x1 ∧ x1 ≤ 3 then σ.I 48 x1 else -1) ∧ (0 ≤ x2 ∧ x2 < (σ.I 0 39)) ∧ inV (σ.I 47) (σ.I 45) (σ.I 46) (if x1 = -1 then σ.I 0 40 else if 0 ≤ x1 ∧ x1 ≤ 3 then σ.I 48 x1 else -1) x2) ∧ y = -4 ∧ ¬ alN (fun s => 0 ≤ nOf (σ.I 210) (σ.I 0 96) s) (σ.I 0 95) ∧ τ.I 103 x2 ≠ 0 ∧ ∃ ς, RZ0 σ ς ∧ WNX ς τ K V (if x1 = -1 then σ.I 0 40 else if 0 ≤ x1 ∧ x1 ≤ 3 then σ.I 48 x1 else -1)) ∨ ((0 ≤ (if x1 = -1 then σ.I 0 40 else if 0 ≤ x1 ∧ x1 ≤ 3 then σ.I 48 x1 else -1) ∧ (0 ≤ x2 ∧ x2 < (σ.I 0 39)) ∧ inV (σ.I 47) (σ.I 45) (σ.I 46) (if x1 = -1 then σ.I 0 40 else if 0 ≤ x1 ∧ x1 ≤ 3 then σ.I 48 x1 else -1) x2) ∧ alN (fun s => 0 ≤ nOf (σ.I 210) (σ.I 0 96) s) (σ.I 0 95) ∧ y = τ.I 0 70 ∧ LKX σ τ K V (if x1 = -1 then σ.I 0 40 else if 0 ≤ x1 ∧ x1 ≤ 3 then σ.I 48 x1 else -1) x2)) ∧ (PBD τ 155) ∧ (OFZ τ))) := fun z0 z1 z2 z3 h0 h1 hlt => (ih _ _ _ hlt).2 z0 z1 z2 z3 h0 h1 rfl rfl rfl
    clear ih
    refine ⟨?_, ?_⟩
    · rintro x4 τ gτ ⟨i0, i1, i2, i3, i4, i5, i6⟩ ha hb hc
      subst ha hb hc
      obtain ⟨hb1, hb2⟩ := LX7_b i0 i1.1
      have hb2 := hdI hb2
      have hok := i2.1
      have hnn := hok.2.1
      have hln := i3.2.2.2.2.2.2.2.1.1
      have h103 := hdI (fun (h : x4 < τ.I 0 39) => i3.2.2.2.2.2.2.1 x4 i1.1 h)
      have hOB : OB τ 42 43 := i3.1.1.2.1
      refine ucX0_like_106W (K := K) (V := V) (hL.sf gτ)  ?_
      rintro ⟨f1, f1q⟩
      refine ⟨?_, ?_⟩
      · (first | exact ⟨by omega, by omega⟩ | assumption)
      refine ⟨fun c2 => ?_, fun c3 => ?_⟩
      · refine ⟨?_, ?_⟩
        · omega
        refine ⟨?_, ?_⟩
        · (first | omega | exact ⟨by omega, by omega⟩ | assumption)
        refine ⟨?_, ?_⟩
        · (first | omega | exact ⟨by omega, by omega⟩ | assumption)
        refine ⟨?_, ?_⟩
        · (first | omega | exact ⟨by omega, by omega⟩ | assumption)
        refine ⟨?_, ?_⟩
        · (first | omega | exact ⟨by omega, by omega⟩ | assumption)
        refine ⟨?_, ?_⟩
        · (clear ih0 ih1; exact hOB)
        refine ⟨?_, ?_⟩
        · (clear ih0 ih1; (intro i a b; have z := (hdO hb2) i a b; omega))
        rintro σ11 gσ11 ⟨eσ11_0, eσ11_1⟩
        have hX : LKX σ σ11 K V (if x1 = -1 then σ.I 0 40 else if 0 ≤ x1 ∧ x1 ≤ 3 then σ.I 48 x1 else -1) x2 := ⟨τ, (by rw [show (σ.I 0 39) = x4 by omega]; exact i0), eσ11_0, eσ11_1⟩
        have k11 : ∀ c i, ¬ wsSo c i → σ11.I c i = τ.I c i := eσ11_1.2
        have hPe : PBD σ11 155 := PBD_e i4 (fun c i q => k11 c i (by unfold wsSo; omega))
        have hOe : OFZ σ11 := fun t a b => (k11 _ _ (by unfold wsSo; omega)).trans (i5 t a b)
        rintro ⟨f4, f4q⟩
        refine RVI_mk ?_ ?_
        · (first | exact ⟨by omega, by omega⟩ | assumption)
        · refine ⟨?_, ?_, ?_⟩
          · (clear ih0 ih1; exact Or.inr (Or.inr (Or.inr ⟨i2.1, i2.2, rfl, hX⟩)))
          · (clear ih0 ih1; first | exact hPe | exact i4)
          · (clear ih0 ih1; first | exact hOe | exact i5)
      · refine ⟨?_, ?_⟩
        · (first | omega | exact ⟨by omega, by omega⟩ | assumption)
        refine ⟨?_, ?_⟩
        · (first | omega | exact ⟨by omega, by omega⟩ | assumption)
        rintro ⟨f5, f5q⟩
        refine ⟨fun c6 => ?_, fun c7 => ?_⟩
        · refine ih0 _ _ gτ ⟨?_, ?_, ?_, ?_, ?_, ?_, ?_⟩ ?_
          · (clear ih0 ih1; first | exact i0 | exact LX7_n i0 i1.1 (fun z => by have z1 := z.1; omega) | exact LX7_n i0 i1.1 (fun z => absurd (by assumption) z.2.1))
          · (first | omega | exact ⟨by omega, by omega⟩ | assumption)
          · (clear ih0 ih1; exact i2)
          · (clear ih0 ih1; exact i3)
          · (clear ih0 ih1; first | exact hPe | exact i4)
          · (clear ih0 ih1; first | exact hOe | exact i5)
          · (first | omega | exact ⟨by omega, by omega⟩ | assumption)
          · (unfold lt3; omega)
        · refine ⟨?_, ?_⟩
          · (first | exact ⟨by omega, by omega⟩ | assumption)
          refine ⟨fun c8 => ?_, fun c9 => ?_⟩
          · refine ih1 _ _ _ _ gτ ⟨?_, ?_, ?_, ?_, ?_, ?_, ?_, ?_, ?_, ?_, ?_⟩ ?_
            · (clear ih0 ih1; first | exact i0 | exact LX7_n i0 i1.1 (fun z => by have z1 := z.1; omega) | exact LX7_n i0 i1.1 (fun z => absurd (by assumption) z.2.1))
            · (first | omega | exact ⟨by omega, by omega⟩ | assumption)
            · (clear ih0 ih1; exact i2)
            · (clear ih0 ih1; exact i3)
            · (clear ih0 ih1; first | exact hPe | exact i4)
            · (clear ih0 ih1; first | exact hOe | exact i5)
            · (first | omega | exact ⟨by omega, by omega⟩ | assumption)
            · (first | omega | exact ⟨by omega, by omega⟩ | assumption)
            · (clear ih0 ih1; (have z := (hdO h103) (by omega); exact ⟨by omega, by assumption⟩))
            · (clear ih0 ih1; exact ⟨fun ⟨k, a, b, c⟩ => by omega, fun _ => ⟨rfl, smP_0 _ _ _ (Int.le_refl _)⟩⟩)
            · (first | omega | exact ⟨by omega, by omega⟩ | assumption)
            · (unfold lt3; omega)
          · refine ih0 _ _ gτ ⟨?_, ?_, ?_, ?_, ?_, ?_, ?_⟩ ?_
            · (clear ih0 ih1; first | exact i0 | exact LX7_n i0 i1.1 (fun z => by have z1 := z.1; omega) | exact LX7_n i0 i1.1 (fun z => absurd (by assumption) z.2.1))
            · (first | omega | exact ⟨by omega, by omega⟩ | assumption)
            · (clear ih0 ih1; exact i2)
            · (clear ih0 ih1; exact i3)
            · (clear ih0 ih1; first | exact hPe | exact i4)
            · (clear ih0 ih1; first | exact hOe | exact i5)
            · (first | omega | exact ⟨by omega, by omega⟩ | assumption)
            · (unfold lt3; omega)
    · rintro x4 y5 x7 τ gτ ⟨i0, i1, i2, i3, i4, i5, i6, i7, i8, i9, i10⟩ ha hb hc
      subst ha hb hc
      obtain ⟨hb1, hb2⟩ := LX7_b i0 i1.1
      have hb2 := hdI hb2
      have hok := i2.1
      have hnn := hok.2.1
      have hOB : OB τ 42 43 := i3.1.1.2.1
      have h250 : bd_0_250 τ 32 6000 := i3.1.1.2.2.1
      have hOX := i3.2.1.1 x4 i1.1 (by omega)
      have hTV : TKV τ := i3.2.2.1
      have h6k : τ.I 0 20 ≤ 6000 := i3.2.1.2
      have hln := i3.2.2.2.2.2.2.2.1.1
      have h1 := hdI (fun (h : x7 < τ.I 0 92) => LKQ_1 i3 i1.1 (by omega) i8.1 i7.1 h)
      have hcnt := i3.1.1.2.2.2.2.1
      have h18 := hdI (fun (t : Int) (a : 0 ≤ t) (b : t < τ.I 18 7) => i3.2.2.2.2.1 t a b)
      have hst := smP_t (fun b => 0 < coL τ x4 b) (fun b => wgX5 τ K V x4 b) x7 (x7 + 1) i7.1 rfl
      have hsf := smP_f (fun b => 0 < coL τ x4 b) (fun b => wgX5 τ K V x4 b) x7 (x7 + 1) i7.1 rfl
      have hst := hdI hst
      have hsf := hdI hsf
      have i9a := hdI i9.1
      have i9b := hdI i9.2
      have i9c := i9.2
      clear i9
      have h1a := fun (h : x7 < τ.I 0 92) => ((hdO h1) h).1
      have h1b := fun (h : x7 < τ.I 0 92) => ((hdO h1) h).2.1
      refine ucX0_like_148W (K := K) (V := V) (hL.sf gτ)  ?_
      rintro ⟨f1, f1q⟩
      refine ⟨?_, ?_⟩
      · (first | exact ⟨by omega, by omega⟩ | assumption)
      refine ⟨fun c2 => ?_, fun c3 => ?_⟩
      · refine ⟨?_, ?_⟩
        · (first | exact ⟨by omega, by omega⟩ | assumption)
        refine ⟨fun c4 => ?_, fun c5 => ?_⟩
        · refine ih0 _ _ gτ ⟨?_, ?_, ?_, ?_, ?_, ?_, ?_⟩ ?_
          · (clear ih0 ih1; first | exact hyy.1 | exact i0 | exact LX7_n i0 i1.1 (fun z => by have w := ((hdO i9a) (by rw [show x7 = τ.I 0 92 by omega]; exact z.2.2)).2; omega))
          · (clear ih0 ih1; first | omega | (rw [g10]; omega))
          · (clear ih0 ih1; exact i2)
          · (clear ih0 ih1; first | exact hKV10 | exact i3)
          · (clear ih0 ih1; first | exact hP10 | exact i4)
          · (clear ih0 ih1; first | exact hO10 | exact i5)
          · (clear ih0 ih1; first | exact i6 | exact g10.trans i6)
          · (unfold lt3; omega)
        · refine ⟨?_, ?_⟩
          · omega
          refine ⟨?_, ?_⟩
          · (first | omega | exact ⟨by omega, by omega⟩ | assumption)
          refine ⟨?_, ?_⟩
          · (first | omega | exact ⟨by omega, by omega⟩ | assumption)
          refine ⟨?_, ?_⟩
          · (first | omega | exact ⟨by omega, by omega⟩ | assumption)
          rintro σ10 gσ10 ⟨⟨eσ10r, eσ10s, eσ10n⟩, eσ10⟩
          have hex : leX τ x4 (τ.I 0 92) ∧ y5 = lsX5 τ K V x4 (τ.I 0 92) := (by
            by_cases z : leX τ x4 x7
            · have w := (hdO i9a) z
              rw [show τ.I 0 92 = x7 by omega]; exact ⟨z, w.1⟩
            · have w := ((hdO i9b) z).1; omega)
          have hyy := LX7_y i0 i1.1 ⟨i8.1, i8.2, hex.1⟩ hex.2 eσ10 ⟨eσ10r, eσ10s, eσ10n⟩
          have k10 : ∀ c i, ¬ wsHx c i → σ10.I c i = τ.I c i := hyy.2.2
          have hKV10 : LKQ σ10 K V := LKQ_e i3 hyy.2
          have hP10 : PBD σ10 155 := PBD_e i4 (fun c i q => k10 c i (by unfold wsHx; omega))
          have hO10 : OFZ σ10 := fun t a b => (k10 _ _ (by unfold wsHx; omega)).trans (i5 t a b)
          have g10 : σ10.I 0 39 = τ.I 0 39 := k10 _ _ (by unfold wsHx; omega)
          refine ih0 _ _ (gτ.tr gσ10) ⟨?_, ?_, ?_, ?_, ?_, ?_, ?_⟩ ?_
          · (clear ih0 ih1; first | exact hyy.1 | exact i0 | exact LX7_n i0 i1.1 (fun z => by have w := ((hdO i9a) (by rw [show x7 = τ.I 0 92 by omega]; exact z.2.2)).2; omega))
          · (clear ih0 ih1; first | omega | (rw [g10]; omega))
          · (clear ih0 ih1; exact i2)
          · (clear ih0 ih1; first | exact hKV10 | exact i3)
          · (clear ih0 ih1; first | exact hP10 | exact i4)
          · (clear ih0 ih1; first | exact hO10 | exact i5)
          · (clear ih0 ih1; first | exact i6 | exact g10.trans i6)
          · (unfold lt3; omega)
      · refine ⟨?_, ?_⟩
        · (first | omega | exact ⟨by omega, by omega⟩ | assumption)
        refine ⟨?_, ?_⟩
        · (first | omega | exact ⟨by omega, by omega⟩ | assumption)
        rintro ⟨f6, f6q⟩
        refine ⟨?_, ?_⟩
        · omega
        refine ⟨?_, ?_⟩
        · (first | omega | exact ⟨by omega, by omega⟩ | assumption)
        refine ⟨?_, ?_⟩
        · (first | omega | exact ⟨by omega, by omega⟩ | assumption)
        refine ⟨?_, ?_⟩
        · (first | omega | exact ⟨by omega, by omega⟩ | assumption)
        refine ⟨?_, ?_⟩
        · (first | omega | exact ⟨by omega, by omega⟩ | assumption)
        refine ⟨?_, ?_⟩
        · (clear ih0 ih1; exact hTV)
        rintro y20 y20e ⟨y20f, y20fq⟩
        have hy20 : y20 = coL τ x4 x7 := y20e
        have hz1 := (hdO h1) (by omega)
        have hn20 : y20 ≤ 0 → smP (fun b => 0 < coL τ x4 b) (fun b => wgX5 τ K V x4 b) (x7 + 1) = smP (fun b => 0 < coL τ x4 b) (fun b => wgX5 τ K V x4 b) x7 ∧ (leX τ x4 (x7 + 1) ↔ leX τ x4 x7) := fun h => ⟨(hdO hsf) (by show ¬ 0 < coL τ x4 x7; omega), ⟨fun ⟨k, a, b, c⟩ => ⟨k, a, by rcases (show k < x7 ∨ k = x7 by omega) with z | z; (exact z); (exfalso; rw [z] at c; have c2 : 0 < coL τ x4 x7 := c; omega), c⟩, fun ⟨k, a, b, c⟩ => ⟨k, a, by omega, c⟩⟩⟩
        have hz18 : (0 ≤ τ.I 20 (τ.I 207 x7) ∧ τ.I 20 (τ.I 207 x7) < 12) ∧ 0 ≤ owX τ 102 (τ.I 207 x7) K V ∧ owX τ 102 (τ.I 207 x7) K V ≤ τ.I (87 + 17) (τ.I 20 (τ.I 207 x7)) ∧ τ.I (87 + 17) (τ.I 20 (τ.I 207 x7)) ≤ 601 := (hdO h18) (τ.I 207 x7) hz1.1.1 hz1.1.2
        have hz15 : xTO τ (τ.I 20 (τ.I 207 x7)) x4 ≤ τ.I (87 + 18) (τ.I 20 (τ.I 207 x7)) ∧ τ.I (87 + 18) (τ.I 20 (τ.I 207 x7)) ≤ 3700000 := hz1.2.2.2.2
        have hz13 := hz1.2.2.1
        have hz14 := hz1.2.2.2.1
        rw [← hy20] at hz13
        refine ⟨?_, ?_⟩
        · (first | omega | exact ⟨by omega, by omega⟩ | assumption)
        refine ⟨?_, ?_⟩
        · (first | omega | exact ⟨by omega, by omega⟩ | assumption)
        refine ⟨?_, ?_⟩
        · (first | omega | exact ⟨by omega, by omega⟩ | assumption)
        refine ⟨?_, ?_⟩
        · (first | omega | exact ⟨by omega, by omega⟩ | assumption)
        rintro ⟨f7, f7q⟩
        refine ⟨fun c8 => ?_, fun c9 => ?_⟩
        · refine ih1 _ _ _ _ gτ ⟨?_, ?_, ?_, ?_, ?_, ?_, ?_, ?_, ?_, ?_, ?_⟩ ?_
          · (clear ih0 ih1; first | exact hyy.1 | exact i0 | exact LX7_n i0 i1.1 (fun z => by have w := ((hdO i9a) (by rw [show x7 = τ.I 0 92 by omega]; exact z.2.2)).2; omega))
          · (clear ih0 ih1; first | omega | (rw [g10]; omega))
          · (clear ih0 ih1; exact i2)
          · (clear ih0 ih1; first | exact hKV10 | exact i3)
          · (clear ih0 ih1; first | exact hP10 | exact i4)
          · (clear ih0 ih1; first | exact hO10 | exact i5)
          · (clear ih0 ih1; first | exact i6 | exact g10.trans i6)
          · (first | omega | exact ⟨by omega, by omega⟩ | assumption)
          · (clear ih0 ih1; exact i8)
          · (clear ih0 ih1; first | exact ⟨fun z => by have w := (hdO i9a) ((hn20 (by omega)).2.mp z); exact ⟨by show y5 = smP _ _ _; rw [(hn20 (by omega)).1]; exact w.1, w.2⟩, fun z => by have w := (hdO i9b) (fun q => z ((hn20 (by omega)).2.mpr q)); exact ⟨w.1, by show smP _ _ _ = 0; rw [(hn20 (by omega)).1]; exact w.2⟩⟩ | exact ⟨fun _ => ⟨by show _ = smP _ _ _; rw [hyy, hmx.1]; rfl, by omega⟩, fun z => absurd hzz z⟩)
          · (first | omega | exact ⟨by omega, by omega⟩ | assumption)
          · (unfold lt3; omega)
        · refine ⟨?_, ?_⟩
          · (first | exact ⟨by omega, by omega⟩ | assumption)
          refine ⟨?_, ?_⟩
          · (first | omega | exact ⟨by omega, by omega⟩ | assumption)
          refine ⟨?_, ?_⟩
          · (first | omega | exact ⟨by omega, by omega⟩ | assumption)
          refine ⟨?_, ?_⟩
          · omega
          refine ⟨?_, ?_⟩
          · (first | omega | exact ⟨by omega, by omega⟩ | assumption)
          refine ⟨?_, ?_⟩
          · (first | omega | exact ⟨by omega, by omega⟩ | assumption)
          refine ⟨?_, ?_⟩
          · (clear ih0 ih1; exact i3.1.1.2.2.2.2.2.2.1)
          refine ⟨?_, ?_⟩
          · (clear ih0 ih1; exact i3.1.1.2.2.2.2.2.2.2.1)
          refine ⟨?_, ?_⟩
          · (clear ih0 ih1; exact i3.1.1.2.2.2.2.2.2.2.2.1)
          rintro y38 y38e ⟨y38f, y38fq⟩
          rw [← y38e] at hz18
          refine ⟨?_, ?_⟩
          · omega
          refine ⟨?_, ?_⟩
          · (first | omega | exact ⟨by omega, by omega⟩ | assumption)
          refine ⟨?_, ?_⟩
          · (first | omega | exact ⟨by omega, by omega⟩ | assumption)
          rintro y42 y42e ⟨y42f, y42fq⟩
          have hlg := lgR_in (2 * τ.I (87 + 17) (τ.I 20 (τ.I 207 x7)) + 2) (2 * y38 + 1)
          rw [← y42e] at hlg
          refine ⟨?_, ?_⟩
          · omega
          refine ⟨?_, ?_⟩
          · (first | omega | exact ⟨by omega, by omega⟩ | assumption)
          refine ⟨?_, ?_⟩
          · (first | omega | exact ⟨by omega, by omega⟩ | assumption)
          refine ⟨?_, ?_⟩
          · (first | omega | exact ⟨by omega, by omega⟩ | assumption)
          refine ⟨?_, ?_⟩
          · (first | omega | exact ⟨by omega, by omega⟩ | assumption)
          refine ⟨?_, ?_⟩
          · (first | omega | exact ⟨by omega, by omega⟩ | assumption)
          refine ⟨?_, ?_⟩
          · (first | omega | exact ⟨by omega, by omega⟩ | assumption)
          refine ⟨?_, ?_⟩
          · (first | omega | exact ⟨by omega, by omega⟩ | assumption)
          refine ⟨?_, ?_⟩
          · (first | omega | exact ⟨by omega, by omega⟩ | assumption)
          refine ⟨?_, ?_⟩
          · (clear ih0 ih1; exact h250)
          rintro y53 y53e ⟨y53f, y53fq⟩
          have hw : y53 = wgX5 τ K V x4 x7 := (by rw [y53e, y42e, y38e]; unfold wgX5; rw [← hy20])
          have hwb := wgh_bd (f := τ.I 87 2) (s := y42) (c := y20) (t := τ.I (87 + 18) (τ.I 20 (τ.I 207 x7))) (l := xTO τ (τ.I 20 (τ.I 207 x7)) x4) (n := τ.I (87 + 17) (τ.I 20 (τ.I 207 x7))) ⟨by omega, by omega⟩ ⟨by omega, by omega⟩ ⟨by omega, by omega⟩ ⟨by omega, by omega⟩ ⟨by omega, by omega⟩
          rw [← y53e] at hwb
          have hyy : smP (fun b => 0 < coL τ x4 b) (fun b => wgX5 τ K V x4 b) (x7 + 1) = smP (fun b => 0 < coL τ x4 b) (fun b => wgX5 τ K V x4 b) x7 + y53 := (by rw [hw]; exact (hdO hst) (by show 0 < coL τ x4 x7; omega))
          have hzz : leX τ x4 (x7 + 1) := ⟨x7, i7.1, by omega, by show 0 < coL τ x4 x7; omega⟩
          have hmx : (max y5 0) = lsX5 τ K V x4 x7 ∧ 0 ≤ max y5 0 ∧ max y5 0 ≤ 140800000 * x7 := (by
            by_cases z : leX τ x4 x7
            · have w := (hdO i9a) z
              rw [show max y5 0 = y5 by omega]; exact ⟨w.1, by omega, by omega⟩
            · have w := (hdO i9b) z
              rw [show max y5 0 = 0 by omega]; exact ⟨w.2.symm, by omega, by omega⟩)
          refine ih1 _ _ _ _ gτ ⟨?_, ?_, ?_, ?_, ?_, ?_, ?_, ?_, ?_, ?_, ?_⟩ ?_
          · (clear ih0 ih1; first | exact hyy.1 | exact i0 | exact LX7_n i0 i1.1 (fun z => by have w := ((hdO i9a) (by rw [show x7 = τ.I 0 92 by omega]; exact z.2.2)).2; omega))
          · (clear ih0 ih1; first | omega | (rw [g10]; omega))
          · (clear ih0 ih1; exact i2)
          · (clear ih0 ih1; first | exact hKV10 | exact i3)
          · (clear ih0 ih1; first | exact hP10 | exact i4)
          · (clear ih0 ih1; first | exact hO10 | exact i5)
          · (clear ih0 ih1; first | exact i6 | exact g10.trans i6)
          · (first | omega | exact ⟨by omega, by omega⟩ | assumption)
          · (clear ih0 ih1; exact i8)
          · (clear ih0 ih1; first | exact ⟨fun z => by have w := (hdO i9a) ((hn20 (by omega)).2.mp z); exact ⟨by show y5 = smP _ _ _; rw [(hn20 (by omega)).1]; exact w.1, w.2⟩, fun z => by have w := (hdO i9b) (fun q => z ((hn20 (by omega)).2.mpr q)); exact ⟨w.1, by show smP _ _ _ = 0; rw [(hn20 (by omega)).1]; exact w.2⟩⟩ | exact ⟨fun _ => ⟨by show _ = smP _ _ _; rw [hyy, hmx.1]; rfl, by omega⟩, fun z => absurd hzz z⟩)
          · (first | omega | exact ⟨by omega, by omega⟩ | assumption)
          · (unfold lt3; omega)
  have k0_ : ∀ (x4 : Int) (τ : Sto), SF σ τ → ((LX7 σ τ K V (if x1 = -1 then σ.I 0 40 else if 0 ≤ x1 ∧ x1 ≤ 3 then σ.I 48 x1 else -1) x2 x4) ∧ (0 ≤ x4 ∧ x4 ≤ (σ.I 0 39)) ∧ ((0 ≤ (if x1 = -1 then σ.I 0 40 else if 0 ≤ x1 ∧ x1 ≤ 3 then σ.I 48 x1 else -1) ∧ (0 ≤ x2 ∧ x2 < (σ.I 0 39)) ∧ inV (σ.I 47) (σ.I 45) (σ.I 46) (if x1 = -1 then σ.I 0 40 else if 0 ≤ x1 ∧ x1 ≤ 3 then σ.I 48 x1 else -1) x2) ∧ alN (fun s => 0 ≤ nOf (σ.I 210) (σ.I 0 96) s) (σ.I 0 95)) ∧ (LKQ τ K V) ∧ (PBD τ 155) ∧ (OFZ τ) ∧ (τ.I 0 39 = (σ.I 0 39))) → VV E mX0_like (d + 1) 106 [(0, aO 0), (2, aI (x2)), (4, aI (x4))] [] τ (RVI (fun y τ => ((¬ (0 ≤ (if x1 = -1 then σ.I 0 40 else if 0 ≤ x1 ∧ x1 ≤ 3 then σ.I 48 x1 else -1) ∧ (0 ≤ x2 ∧ x2 < (σ.I 0 39)) ∧ inV (σ.I 47) (σ.I 45) (σ.I 46) (if x1 = -1 then σ.I 0 40 else if 0 ≤ x1 ∧ x1 ≤ 3 then σ.I 48 x1 else -1) x2) ∧ y = -1 ∧ RD σ τ (fun c i => if fgX c i then 0 else σ.I c i)) ∨ ((0 ≤ (if x1 = -1 then σ.I 0 40 else if 0 ≤ x1 ∧ x1 ≤ 3 then σ.I 48 x1 else -1) ∧ (0 ≤ x2 ∧ x2 < (σ.I 0 39)) ∧ inV (σ.I 47) (σ.I 45) (σ.I 46) (if x1 = -1 then σ.I 0 40 else if 0 ≤ x1 ∧ x1 ≤ 3 then σ.I 48 x1 else -1) x2) ∧ y = -1 ∧ τ.I 103 x2 = 0 ∧ ∃ ς, RZ0 σ ς ∧ WNX ς τ K V (if x1 = -1 then σ.I 0 40 else if 0 ≤ x1 ∧ x1 ≤ 3 then σ.I 48 x1 else -1)) ∨ ((0 ≤ (if x1 = -1 then σ.I 0 40 else if 0 ≤ x1 ∧ x1 ≤ 3 then σ.I 48 x1 else -1) ∧ (0 ≤ x2 ∧ x2 < (σ.I 0 39)) ∧ inV (σ.I 47) (σ.I 45) (σ.I 46) (if x1 = -1 then σ.I 0 40 else if 0 ≤ x1 ∧ x1 ≤ 3 then σ.I 48 x1 else -1) x2) ∧ y = -4 ∧ ¬ alN (fun s => 0 ≤ nOf (σ.I 210) (σ.I 0 96) s) (σ.I 0 95) ∧ τ.I 103 x2 ≠ 0 ∧ ∃ ς, RZ0 σ ς ∧ WNX ς τ K V (if x1 = -1 then σ.I 0 40 else if 0 ≤ x1 ∧ x1 ≤ 3 then σ.I 48 x1 else -1)) ∨ ((0 ≤ (if x1 = -1 then σ.I 0 40 else if 0 ≤ x1 ∧ x1 ≤ 3 then σ.I 48 x1 else -1) ∧ (0 ≤ x2 ∧ x2 < (σ.I 0 39)) ∧ inV (σ.I 47) (σ.I 45) (σ.I 46) (if x1 = -1 then σ.I 0 40 else if 0 ≤ x1 ∧ x1 ≤ 3 then σ.I 48 x1 else -1) x2) ∧ alN (fun s => 0 ≤ nOf (σ.I 210) (σ.I 0 96) s) (σ.I 0 95) ∧ y = τ.I 0 70 ∧ LKX σ τ K V (if x1 = -1 then σ.I 0 40 else if 0 ≤ x1 ∧ x1 ≤ 3 then σ.I 48 x1 else -1) x2)) ∧ (PBD τ 155) ∧ (OFZ τ))) := fun z0 z1 h0 h1 => (key _ _ _).1 z0 z1 h0 h1 rfl rfl rfl
  have k1_ : ∀ (x4 : Int) (y5 : Int) (x7 : Int) (τ : Sto), SF σ τ → ((LX7 σ τ K V (if x1 = -1 then σ.I 0 40 else if 0 ≤ x1 ∧ x1 ≤ 3 then σ.I 48 x1 else -1) x2 x4) ∧ (0 ≤ x4 ∧ x4 < (σ.I 0 39)) ∧ ((0 ≤ (if x1 = -1 then σ.I 0 40 else if 0 ≤ x1 ∧ x1 ≤ 3 then σ.I 48 x1 else -1) ∧ (0 ≤ x2 ∧ x2 < (σ.I 0 39)) ∧ inV (σ.I 47) (σ.I 45) (σ.I 46) (if x1 = -1 then σ.I 0 40 else if 0 ≤ x1 ∧ x1 ≤ 3 then σ.I 48 x1 else -1) x2) ∧ alN (fun s => 0 ≤ nOf (σ.I 210) (σ.I 0 96) s) (σ.I 0 95)) ∧ (LKQ τ K V) ∧ (PBD τ 155) ∧ (OFZ τ) ∧ (τ.I 0 39 = (σ.I 0 39)) ∧ (0 ≤ x7 ∧ x7 ≤ τ.I 0 92) ∧ (τ.I 103 x4 = 1 ∧ x4 ≠ x2) ∧ ((leX τ x4 x7 → y5 = lsX5 τ K V x4 x7 ∧ 0 ≤ y5) ∧ (¬ leX τ x4 x7 → y5 = -1 ∧ lsX5 τ K V x4 x7 = 0)) ∧ (-1 ≤ y5 ∧ y5 ≤ 140800000 * x7)) → VV E mX0_like (d + 1) 148 [(0, aO 0), (2, aI (x2)), (4, aI (x4)), (5, aL (y5)), (7, aI (x7))] [] τ (RVI (fun y τ => ((¬ (0 ≤ (if x1 = -1 then σ.I 0 40 else if 0 ≤ x1 ∧ x1 ≤ 3 then σ.I 48 x1 else -1) ∧ (0 ≤ x2 ∧ x2 < (σ.I 0 39)) ∧ inV (σ.I 47) (σ.I 45) (σ.I 46) (if x1 = -1 then σ.I 0 40 else if 0 ≤ x1 ∧ x1 ≤ 3 then σ.I 48 x1 else -1) x2) ∧ y = -1 ∧ RD σ τ (fun c i => if fgX c i then 0 else σ.I c i)) ∨ ((0 ≤ (if x1 = -1 then σ.I 0 40 else if 0 ≤ x1 ∧ x1 ≤ 3 then σ.I 48 x1 else -1) ∧ (0 ≤ x2 ∧ x2 < (σ.I 0 39)) ∧ inV (σ.I 47) (σ.I 45) (σ.I 46) (if x1 = -1 then σ.I 0 40 else if 0 ≤ x1 ∧ x1 ≤ 3 then σ.I 48 x1 else -1) x2) ∧ y = -1 ∧ τ.I 103 x2 = 0 ∧ ∃ ς, RZ0 σ ς ∧ WNX ς τ K V (if x1 = -1 then σ.I 0 40 else if 0 ≤ x1 ∧ x1 ≤ 3 then σ.I 48 x1 else -1)) ∨ ((0 ≤ (if x1 = -1 then σ.I 0 40 else if 0 ≤ x1 ∧ x1 ≤ 3 then σ.I 48 x1 else -1) ∧ (0 ≤ x2 ∧ x2 < (σ.I 0 39)) ∧ inV (σ.I 47) (σ.I 45) (σ.I 46) (if x1 = -1 then σ.I 0 40 else if 0 ≤ x1 ∧ x1 ≤ 3 then σ.I 48 x1 else -1) x2) ∧ y = -4 ∧ ¬ alN (fun s => 0 ≤ nOf (σ.I 210) (σ.I 0 96) s) (σ.I 0 95) ∧ τ.I 103 x2 ≠ 0 ∧ ∃ ς, RZ0 σ ς ∧ WNX ς τ K V (if x1 = -1 then σ.I 0 40 else if 0 ≤ x1 ∧ x1 ≤ 3 then σ.I 48 x1 else -1)) ∨ ((0 ≤ (if x1 = -1 then σ.I 0 40 else if 0 ≤ x1 ∧ x1 ≤ 3 then σ.I 48 x1 else -1) ∧ (0 ≤ x2 ∧ x2 < (σ.I 0 39)) ∧ inV (σ.I 47) (σ.I 45) (σ.I 46) (if x1 = -1 then σ.I 0 40 else if 0 ≤ x1 ∧ x1 ≤ 3 then σ.I 48 x1 else -1) x2) ∧ alN (fun s => 0 ≤ nOf (σ.I 210) (σ.I 0 96) s) (σ.I 0 95) ∧ y = τ.I 0 70 ∧ LKX σ τ K V (if x1 = -1 then σ.I 0 40 else if 0 ≤ x1 ∧ x1 ≤ 3 then σ.I 48 x1 else -1) x2)) ∧ (PBD τ 155) ∧ (OFZ τ))) := fun z0 z1 z2 z3 h0 h1 => (key _ _ _).2 z0 z1 z2 z3 h0 h1 rfl rfl rfl
  clear key
  refine ucX0_like_0W (K := K) (V := V) hL  ?_
  refine ⟨?_, ?_⟩
  · omega
  rintro σ2 gσ2 ⟨⟨eσ2r, eσ2s, eσ2n⟩, eσ2⟩
  have h2 : ∀ c i, ¬ fgX c i → σ2.I c i = σ.I c i := fun c i q => (by rw [eσ2]; exact if_neg q)
  have h2c : ∀ c i, c ≠ 0 → σ2.I c i = σ.I c i := fun c i q => h2 c i (fun z => by unfold fgX at z; omega)
  have hR2 : RD σ σ2 (fun c i => if fgX c i then 0 else σ.I c i) := ⟨⟨eσ2r, eσ2s, eσ2n⟩, eσ2⟩
  have hX2 : RZ0 σ σ2 := ⟨⟨eσ2r, eσ2s, eσ2n⟩, eσ2⟩
  have hP2 : PBD σ2 155 := PBD_e p4 (fun c i q => h2c c i (by omega))
  have hO2 : OFZ σ2 := fun t a b => (h2c _ _ (by decide)).trans (p6 t a b)
  have gA2 : ∀ c, 16 ≤ c ∧ c < 80 → σ2.I c = σ.I c := fun c q => funext fun i => h2 c i (by unfold fgX; omega)
  have gF2 : ∀ i, i = 4 ∨ i = 9 ∨ i = 20 ∨ i = 31 ∨ i = 39 ∨ i = 46 ∨ i = 96 ∨ i = 95 → σ2.I 0 i = σ.I 0 i := fun i q => (by have c : Nat := 0; exact (h2 0 i (by unfold fgX; omega)))
  have gG2 : ∀ c, 675 ≤ c → σ2.I c = σ.I c := fun c q => funext fun i => h2 c i (by unfold fgX; omega)
  have gR2 : σ2.2 = σ.2 := Prod.ext eσ2r (Prod.ext eσ2s eσ2n)
  have hB2 : BSX σ2 K V := BSX_e p2 gA2 (fun i q => gF2 i (by omega)) (congrArg (·.1) gR2) (congrArg (·.2.1) gR2) (congrArg (·.2.2) gR2) gG2 (HOWA_e p2.2.2.2.2.2.2.2.2.2.2.2.2 gA2 (fun i q => gF2 i (by omega)))
  have hub : 215 ≤ (ubX σ) ∧ (ubX σ) ≤ 260 := (by unfold ubX; omega)
  have hub2 : ubX σ2 = (ubX σ) := (by unfold ubX; rw [gF2 46 (by omega)])
  have hQu : 0 < σ2.I 0 46 → σ2.I (ubX σ2) 1 ≠ 0 → QLX σ2 (ubX σ2) := (by rw [hub2, gF2 46 (by omega)]; intro a b; exact (CPR_q (CPR_id (fun c i x y => h2c c i (by omega))) (p3 a (by rw [← h2c _ _ (by omega)]; exact b)) gA2 ⟨gF2 9 (by omega), gF2 4 (by omega), gF2 20 (by omega)⟩ gR2 gG2 p2.2.2.2.1).1)
  have f39 : σ2.I 0 39 = σ.I 0 39 := gF2 39 (by omega)
  have f46 : σ2.I 0 46 = σ.I 0 46 := gF2 46 (by omega)
  refine ⟨?_, ?_⟩
  · omega
  refine ⟨?_, ?_⟩
  · (first | omega | exact ⟨by omega, by omega⟩ | assumption)
  rintro y5 y5e ⟨y5f, y5fq⟩
  have hy5 : y5 = (if x1 = -1 then σ.I 0 40 else if 0 ≤ x1 ∧ x1 ≤ 3 then σ.I 48 x1 else -1) := (by rw [y5e, h2 0 40 (by unfold fgX; omega), h2c 48 _ (by decide)])
  have hiv : inV (σ2.I 47) (σ2.I 45) (σ2.I 46) y5 x2 ↔ inV (σ.I 47) (σ.I 45) (σ.I 46) (if x1 = -1 then σ.I 0 40 else if 0 ≤ x1 ∧ x1 ≤ 3 then σ.I 48 x1 else -1) x2 := (by rw [hy5, gA2 47 (by omega), gA2 45 (by omega), gA2 46 (by omega)])
  refine ⟨fun c1 => ?_, fun c2 => ?_⟩
  · rintro ⟨f3, f3q⟩
    refine ⟨?_, ?_⟩
    · omega
    refine ⟨?_, ?_⟩
    · (first | omega | exact ⟨by omega, by omega⟩ | assumption)
    refine ⟨?_, ?_⟩
    · (first | omega | exact ⟨by omega, by omega⟩ | assumption)
    refine ⟨?_, ?_⟩
    · (first | omega | exact ⟨by omega, by omega⟩ | assumption)
    refine ⟨fun c4 => ?_, fun c5 => ?_⟩
    · refine ⟨?_, ?_⟩
      · omega
      refine ⟨?_, ?_⟩
      · (first | omega | exact ⟨by omega, by omega⟩ | assumption)
      refine ⟨?_, ?_⟩
      · (first | omega | exact ⟨by omega, by omega⟩ | assumption)
      refine ⟨fun c6 => ?_, fun c7 => ?_⟩
      · refine ⟨?_, ?_⟩
        · omega
        refine ⟨?_, ?_⟩
        · (first | omega | exact ⟨by omega, by omega⟩ | assumption)
        refine ⟨?_, ?_⟩
        · (first | omega | exact ⟨by omega, by omega⟩ | assumption)
        refine ⟨?_, ?_⟩
        · (first | omega | exact ⟨by omega, by omega⟩ | assumption)
        refine ⟨?_, ?_⟩
        · (clear k0_ k1_; exact hB2)
        refine ⟨?_, ?_⟩
        · (clear k0_ k1_; exact hQu)
        refine ⟨?_, ?_⟩
        · (clear k0_ k1_; exact hP2)
        rintro σ26 gσ26 ⟨eσ26_0, eσ26_1, eσ26_2, eσ26_3, eσ26_4⟩
        have n26 : ∀ c i, ¬ wsMw 87 c i → σ26.I c i = σ2.I c i := eσ26_4.2
        have hW : WNX σ2 σ26 K V (if x1 = -1 then σ.I 0 40 else if 0 ≤ x1 ∧ x1 ≤ 3 then σ.I 48 x1 else -1) := (by rw [← hy5]; exact ⟨eσ26_0, eσ26_2, eσ26_4⟩)
        have hok0 : (0 ≤ (if x1 = -1 then σ.I 0 40 else if 0 ≤ x1 ∧ x1 ≤ 3 then σ.I 48 x1 else -1) ∧ (0 ≤ x2 ∧ x2 < (σ.I 0 39)) ∧ inV (σ.I 47) (σ.I 45) (σ.I 46) (if x1 = -1 then σ.I 0 40 else if 0 ≤ x1 ∧ x1 ≤ 3 then σ.I 48 x1 else -1) x2) := ⟨by omega, by omega, hiv.mp (by assumption)⟩
        have n26a : σ26.I 0 96 = σ.I 0 96 ∧ σ26.I 0 95 = σ.I 0 95 := ⟨(n26 _ _ (by unfold wsMw; omega)).trans (gF2 _ (by omega)), (n26 _ _ (by unfold wsMw; omega)).trans (gF2 _ (by omega))⟩
        have n26b : σ26.I 210 = σ.I 210 := funext fun i => (n26 _ _ (by unfold wsMw; omega)).trans (h2c _ _ (by decide))
        have h9 : bd_0_1000000 σ26 211 8 := bd_0_1000000_eq p8 (funext fun i => (n26 _ _ (by unfold wsMw; omega)).trans (h2c _ _ (by decide)))
        have hO26 : OFZ σ26 := fun t a b => (n26 _ _ (by unfold wsMw; omega)).trans (hO2 t a b)
        refine ⟨?_, ?_⟩
        · (first | omega | exact ⟨by omega, by omega⟩ | assumption)
        refine ⟨?_, ?_⟩
        · (first | omega | exact ⟨by omega, by omega⟩ | assumption)
        rintro ⟨f8, f8q⟩
        refine ⟨fun c9 => ?_, fun c10 => ?_⟩
        · refine ⟨?_, ?_⟩
          · omega
          refine ⟨?_, ?_⟩
          · (first | omega | exact ⟨by omega, by omega⟩ | assumption)
          refine ⟨?_, ?_⟩
          · (first | omega | exact ⟨by omega, by omega⟩ | assumption)
          refine ⟨?_, ?_⟩
          · (clear k0_ k1_; exact h9)
          rintro y36 σ35 ⟨y36f, y36fq⟩ gσ35 ⟨eσ35_0, ⟨⟨eσ35_1r, eσ35_1s, eσ35_1n⟩, eσ35_1⟩⟩
          have hal : alN (fun s => 0 ≤ nOf (σ26.I 210) (σ26.I 0 96) s) (σ26.I 0 95) ↔ alN (fun s => 0 ≤ nOf (σ.I 210) (σ.I 0 96) s) (σ.I 0 95) := (by rw [n26a.1, n26a.2, n26b])
          have h35i := eσ35_1
          have e35 : ∀ c i, c ≠ 211 → σ35.I c i = σ26.I c i := fun c i q => (by rw [h35i]; exact if_neg (fun z => q z.2))
          have hSb : y36 = 0 → σ35 = σ26 := fun h => Prod.ext (show σ35.I = σ26.I by rw [h35i]; funext c i; rw [if_neg (fun z => by have z1 := z.1; omega)]) (Prod.ext eσ35_1r (Prod.ext eσ35_1s eσ35_1n))
          have hSa : y36 = 1 → AX1 σ26 σ35 := fun h => ⟨⟨eσ35_1r, eσ35_1s, eσ35_1n⟩, (by rw [h35i]; funext c i; by_cases z : c = 211; (rw [if_pos ⟨h, z⟩, if_pos z]); (rw [if_neg (fun w => z w.2), if_neg z]))⟩
          have hP35 : PBD σ35 155 := PBD_e eσ26_3 (fun c i q => e35 c i (by omega))
          have hO35 : OFZ σ35 := fun t a b => (e35 _ _ (by decide)).trans (hO26 t a b)
          refine ⟨fun c11 => ?_, fun c12 => ?_⟩
          · rintro ⟨f13, f13q⟩
            intro σ39 eσ39 gσ39
            have e39 : ∀ c i, ¬ (c = 87 ∧ i = 2) → σ39.I c i = σ35.I c i := fun c i q => (by rw [eσ39]; exact I_ot _ _ _ _ _ _ q)
            have q39 : ∀ c i, ¬ (c = 87 ∧ i = 2) → c ≠ 211 → ¬ wsMw 87 c i → ¬ fgX c i → σ39.I c i = σ.I c i := fun c i a b d f => (e39 c i a).trans ((e35 c i b).trans ((n26 c i d).trans (h2 c i f)))
            have gA39 : ∀ c, 16 ≤ c ∧ c < 80 → σ39.I c = σ.I c := fun c q => funext fun i => q39 c i (by omega) (by omega) (by unfold wsMw; omega) (by unfold fgX; omega)
            have gF39 : ∀ i, i = 4 ∨ i = 9 ∨ i = 20 ∨ i = 31 ∨ i = 39 ∨ i = 46 ∨ i = 96 ∨ i = 95 → σ39.I 0 i = σ.I 0 i := fun i q => (by have c : Nat := 0; exact (q39 0 i (by omega) (by omega) (by unfold wsMw; omega) (by unfold fgX; omega)))
            have gG39 : ∀ c, 675 ≤ c → σ39.I c = σ.I c := fun c q => funext fun i => q39 c i (by omega) (by omega) (by unfold wsMw; omega) (by unfold fgX; omega)
            have gR39 : σ39.2 = σ.2 := (by rw [eσ39]; exact Prod.ext (eσ35_1r.trans (eσ26_4.1.1.trans eσ2r)) (Prod.ext (eσ35_1s.trans (eσ26_4.1.2.1.trans eσ2s)) (eσ35_1n.trans (eσ26_4.1.2.2.trans eσ2n))))
            have hB39 : BSX σ39 K V := BSX_e p2 gA39 (fun i q => gF39 i (by omega)) (congrArg (·.1) gR39) (congrArg (·.2.1) gR39) (congrArg (·.2.2) gR39) gG39 (HOWA_e p2.2.2.2.2.2.2.2.2.2.2.2.2 gA39 (fun i q => gF39 i (by omega)))
            have w6 : σ39.I 102 6 = 0 ∧ σ39.I 102 7 = σ.I 0 39 ∧ σ39.I 102 8 = 0 := ⟨(e39 _ _ (by omega)).trans ((e35 _ _ (by decide)).trans eσ26_0.1.1), (e39 _ _ (by omega)).trans ((e35 _ _ (by decide)).trans (eσ26_0.1.2.1.trans f39)), (e39 _ _ (by omega)).trans ((e35 _ _ (by decide)).trans eσ26_0.1.2.2)⟩
            have hVF : VFX σ39 102 := fun k a b _ => (hB39.2.2.2.2.2.2.2.2.2.1 k a (by have z := w6.2.1; have w := gF39 39 (by omega); omega)).2
            have hHO := p2.2.2.2.2.2.2.2.2.2.2.2.2 σ39 87 (by decide) gA39 (fun i q => gF39 i (by omega)) w6.2.2 w6.1 w6.2.1
            refine ⟨?_, ?_⟩
            · omega
            refine ⟨?_, ?_⟩
            · (first | omega | exact ⟨by omega, by omega⟩ | assumption)
            refine ⟨?_, ?_⟩
            · (clear k0_ k1_; exact hB39.1.1)
            refine ⟨?_, ?_⟩
            · (clear k0_ k1_; (have hnx := p2.2.1; exact ⟨by omega, by omega, by omega⟩))
            refine ⟨?_, ?_⟩
            · (clear k0_ k1_; exact hB39.1.2.1)
            refine ⟨?_, ?_⟩
            · (clear k0_ k1_; exact hB39.1.2.2.1)
            refine ⟨?_, ?_⟩
            · (clear k0_ k1_; exact hVF)
            rintro σ47 gσ47 ⟨eσ47_0, eσ47_1⟩
            have k47 : ∀ c i, c ≠ 104 → c ≠ 105 → σ47.I c i = σ39.I c i := fun c i a b => eσ47_1.2 c i (fun z => by have z1 := z.1; omega)
            have q47 : ∀ c i, c ≠ 104 → c ≠ 105 → ¬ (c = 87 ∧ i = 2) → c ≠ 211 → ¬ wsMw 87 c i → ¬ fgX c i → σ47.I c i = σ.I c i := fun c i x y a b d f => (k47 c i x y).trans (q39 c i a b d f)
            have gA47 : ∀ c, 16 ≤ c ∧ c < 80 → σ47.I c = σ.I c := fun c q => funext fun i => q47 c i (by omega) (by omega) (by omega) (by omega) (by unfold wsMw; omega) (by unfold fgX; omega)
            have gF47 : ∀ i, i = 4 ∨ i = 9 ∨ i = 20 ∨ i = 31 ∨ i = 39 ∨ i = 46 ∨ i = 96 ∨ i = 95 → σ47.I 0 i = σ.I 0 i := fun i q => (by have c : Nat := 0; exact (q47 0 i (by omega) (by omega) (by omega) (by omega) (by unfold wsMw; omega) (by unfold fgX; omega)))
            have gG47 : ∀ c, 675 ≤ c → σ47.I c = σ.I c := fun c q => funext fun i => q47 c i (by omega) (by omega) (by omega) (by omega) (by unfold wsMw; omega) (by unfold fgX; omega)
            have gR47 : σ47.2 = σ.2 := (Prod.ext eσ47_1.1.1 (Prod.ext eσ47_1.1.2.1 eσ47_1.1.2.2)).trans gR39
            have hB47 : BSX σ47 K V := BSX_e p2 gA47 (fun i q => gF47 i (by omega)) (congrArg (·.1) gR47) (congrArg (·.2.1) gR47) (congrArg (·.2.2) gR47) gG47 (HOWA_e p2.2.2.2.2.2.2.2.2.2.2.2.2 gA47 (fun i q => gF47 i (by omega)))
            have ex47 : ∀ c, (16 ≤ c ∧ c < 80) ∨ c = 103 → σ47.I c = σ39.I c := fun c q => funext fun i => k47 c i (by omega) (by omega)
            have how47 : owX σ47 102 = owX σ39 102 := owX_s ex47
            have htk47 := tkX_s ex47 (k47 102 6 (by decide) (by decide))
            have hp8 : ∀ t, 0 ≤ t → t < σ47.I 18 7 → (0 ≤ σ47.I 20 t ∧ σ47.I 20 t < 12) ∧ 0 ≤ owX σ47 102 t K V ∧ owX σ47 102 t K V ≤ σ47.I 104 (σ47.I 20 t) ∧ σ47.I 104 (σ47.I 20 t) ≤ 601 := fun t a b => (by
              have z := hHO.1 t a (by rw [← gA47 18 (by omega)]; exact b)
              have tf := hB47.1.2.2.2.2.2.1 t a b
              have c := (eσ47_0 (σ47.I 20 t) tf.1 (by rw [gF39 9 (by omega), ← gF47 9 (by omega)]; exact tf.2)).1
              have c2 : σ47.I 104 (σ47.I 20 t) = hvX σ39 102 (σ47.I 20 t) (σ.I 0 39) := (by rw [← w6.2.1]; exact c)
              have ci := cn_in (fun k => swX σ39 102 k ∧ hxV σ39 (σ47.I 20 t) k) (σ.I 0 39)
              have ce : hvX σ39 102 (σ47.I 20 t) (σ.I 0 39) = cn (fun k => swX σ39 102 k ∧ hxV σ39 (σ47.I 20 t) k) (σ.I 0 39) := rfl
              have z2 : owX σ39 102 t K V ≤ hvX σ39 102 (σ.I 20 t) (σ.I 0 39) := z.2
              have z1 : 0 ≤ owX σ39 102 t K V := z.1
              rw [← show σ47.I 20 t = σ.I 20 t from congrFun (gA47 20 (by omega)) t] at z2
              have nx := p2.2.1
              rw [how47]
              exact ⟨⟨tf.1, by have := hB47.1.1; omega⟩, z1, by omega, by omega⟩)
            have hTU47 : TUB σ47 := TUB_e p11 (fun c i x y => congrFun (gA47 c (by omega)) i)
            have hb47 : bd_0_36499 σ47 207 6 := bd_0_36499_eq p12 (funext fun i => q47 _ _ (by decide) (by decide) (by omega) (by decide) (by unfold wsMw; omega) (by unfold fgX; omega))
            have hO47 : OFZ σ47 := fun t a b => ((k47 _ _ (by decide) (by decide)).trans (e39 _ _ (by omega))).trans (hO35 t a b)
            have hTK47 : TKO σ47 x2 := TKO_e (p14 x2 (by omega) (by omega)) gA47
            have hLB : LXB σ σ47 K V (if x1 = -1 then σ.I 0 40 else if 0 ≤ x1 ∧ x1 ≤ 3 then σ.I 48 x1 else -1) := ⟨σ2, σ26, σ35, hX2, hW, hSa (by omega), (by rw [← eσ39]; exact eσ47_0), (by rw [← eσ39]; exact eσ47_1)⟩
            refine ⟨?_, ?_⟩
            · omega
            refine ⟨?_, ?_⟩
            · (first | omega | exact ⟨by omega, by omega⟩ | assumption)
            refine ⟨?_, ?_⟩
            · (clear k0_ k1_; exact hB47.1.2.1)
            refine ⟨?_, ?_⟩
            · (clear k0_ k1_; exact hTK47)
            refine ⟨?_, ?_⟩
            · (clear k0_ k1_; exact hO47)
            refine ⟨?_, ?_⟩
            · (clear k0_ k1_; exact hB47.1.2.2.2.2.1)
            refine ⟨?_, ?_⟩
            · (clear k0_ k1_; exact hB47.1.2.2.2.2.2.2.1)
            refine ⟨?_, ?_⟩
            · (clear k0_ k1_; exact hB47.1.2.2.2.2.2.2.2.1)
            refine ⟨?_, ?_⟩
            · (clear k0_ k1_; exact hB47.1.2.2.2.2.2.2.2.2.1)
            refine ⟨?_, ?_⟩
            · (clear k0_ k1_; exact hp8)
            refine ⟨?_, ?_⟩
            · (clear k0_ k1_; exact hTU47)
            refine ⟨?_, ?_⟩
            · (clear k0_ k1_; exact hB47.2.2.1)
            refine ⟨?_, ?_⟩
            · (clear k0_ k1_; exact hb47)
            refine ⟨?_, ?_⟩
            · (clear k0_ k1_; exact hB47.1.2.2.1)
            rintro σ62 gσ62 eσ62
            have k62 : ∀ c i, ¬ wsWt c i → σ62.I c i = σ47.I c i := eσ62.1.2
            have gA62 : ∀ c, 16 ≤ c ∧ c < 80 → σ62.I c = σ.I c := fun c q => funext fun i => (k62 c i (by unfold wsWt; omega)).trans (q47 c i (by omega) (by omega) (by omega) (by omega) (by unfold wsMw; omega) (by unfold fgX; omega))
            have gF62 : ∀ i, i = 4 ∨ i = 9 ∨ i = 20 ∨ i = 31 ∨ i = 39 ∨ i = 46 ∨ i = 96 ∨ i = 95 → σ62.I 0 i = σ.I 0 i := fun i q => (by have c : Nat := 0; exact ((k62 0 i (by unfold wsWt; omega)).trans (q47 0 i (by omega) (by omega) (by omega) (by omega) (by unfold wsMw; omega) (by unfold fgX; omega))))
            have gG62 : ∀ c, 675 ≤ c → σ62.I c = σ.I c := fun c q => funext fun i => (k62 c i (by unfold wsWt; omega)).trans (q47 c i (by omega) (by omega) (by omega) (by omega) (by unfold wsMw; omega) (by unfold fgX; omega))
            have gR62 : σ62.2 = σ.2 := (Prod.ext eσ62.1.1.1 (Prod.ext eσ62.1.1.2.1 eσ62.1.1.2.2)).trans gR47
            have hB62 : BSX σ62 K V := BSX_e p2 gA62 (fun i q => gF62 i (by omega)) (congrArg (·.1) gR62) (congrArg (·.2.1) gR62) (congrArg (·.2.2) gR62) gG62 (HOWA_e p2.2.2.2.2.2.2.2.2.2.2.2.2 gA62 (fun i q => gF62 i (by omega)))
            have ex62 : ∀ c, (16 ≤ c ∧ c < 80) ∨ c = 103 → σ62.I c = σ47.I c := fun c q => funext fun i => k62 c i (by unfold wsWt; omega)
            have how62 : owX σ62 102 = owX σ47 102 := owX_s ex62
            have htk62 := tkX_s ex62 (k62 102 6 (by unfold wsWt; omega))
            have h103 : ∀ k, 0 ≤ k → k < σ.I 0 39 → σ26.I 103 k = 0 ∨ σ26.I 103 k = 1 := fun k a b => (by
              have s := eσ26_2
              by_cases u : σ2.I 0 46 ≤ 0 ∨ σ2.I (ubX σ2) 1 = 0
              · have q := s.1 u k a (by rw [f39]; exact b)
                have z := zb_cs (inV (σ2.I 47) (σ2.I 45) (σ2.I 46) y5 k)
                have q' : σ26.I 103 k = _ := q
                rw [q']; omega
              · obtain ⟨α', ρ', _, q⟩ := s.2 (by omega) (fun w => u (Or.inr w))
                have q := q k a (by rw [f39]; exact b)
                have z := zb_cs (inV (σ2.I 47) (σ2.I 45) (σ2.I 46) y5 k ∧ ¬ hdX ρ' k)
                have q' : σ26.I 103 k = _ := q
                rw [q']; omega)
            have hKV : LKQ σ62 K V := ⟨hB62, ⟨(by unfold OX; rw [gF62 39 (by omega), gF62 20 (by omega), gA62 42 (by omega), gA62 43 (by omega)]; exact p10), (by rw [gF62 20 (by omega)]; exact p2.1.2.2.2.2.2.2.2.2.2.2.1.2.2)⟩, (by unfold TKV; rw [gF62 20 (by omega), gA62 31 (by omega), gA62 32 (by omega)]; exact p13), fun b x y => TKO_e (p14 b x (by rw [← gF62 39 (by omega)]; exact y)) gA62, (by rw [show σ62.I 18 = σ47.I 18 from ex62 _ (by omega), show σ62.I 20 = σ47.I 20 from ex62 _ (by omega), how62, show σ62.I 104 = σ47.I 104 from funext fun i => k62 _ _ (by unfold wsWt; omega)]; exact hp8),
              fun f a b => (by rw [htk62.1, htk47.1, gF62 39 (by omega), k62 _ _ (by unfold wsWt; omega), ← w6.2.1]; exact (eσ47_0 f a (by rw [gF39 9 (by omega), ← gF62 9 (by omega)]; exact b)).2),
              fun k a b => (by rw [k62 _ _ (by unfold wsWt; omega), k47 _ _ (by decide) (by decide), e39 _ _ (by omega), e35 _ _ (by decide)]; exact h103 k a (by rw [← gF62 39 (by omega)]; exact b)),
              ⟨eσ62.2.2.1.1, fun i a b => (by have z := eσ62.2.2.1.2.1 i a b; have y := of_pr (β := σ47) (o := x2) (t := σ62.I 207 i) (σ47.I 43 x2).toNat; have ob := hB47.1.2.1 x2 (by omega) (by omega); rw [show (((σ47.I 43 x2).toNat : Nat) : Int) = σ47.I 43 x2 by omega] at y; have w := prX_in hTK47 (Int.le_refl _) (fun q => by omega) (fun _ => Int.le_refl _) (by omega) (y z); rw [show σ62.I 18 7 = σ47.I 18 7 from k62 _ _ (by unfold wsWt; omega)]; exact w)⟩,
              (by rw [k62 _ _ (by unfold wsWt; omega), k47 _ _ (by decide) (by decide)]; exact w6.1)⟩
            have c70 : σ62.I 0 70 = 0 := (k62 _ _ (by unfold wsWt; omega)).trans ((k47 _ _ (by decide) (by decide)).trans ((e39 _ _ (by omega)).trans ((e35 _ _ (by decide)).trans ((n26 _ _ (by unfold wsMw; omega)).trans (by rw [eσ2]; exact if_pos (by unfold fgX; omega))))))
            have hL0 : LX7 σ σ62 K V (if x1 = -1 then σ.I 0 40 else if 0 ≤ x1 ∧ x1 ≤ 3 then σ.I 48 x1 else -1) x2 0 := LX7_0 hLB eσ62 c70
            have hP62 : PBD σ62 155 := PBD_e hP35 (fun c i q => (k62 c i (by unfold wsWt; omega)).trans ((k47 c i (by omega) (by omega)).trans (e39 c i (by omega))))
            have hok : (0 ≤ (if x1 = -1 then σ.I 0 40 else if 0 ≤ x1 ∧ x1 ≤ 3 then σ.I 48 x1 else -1) ∧ (0 ≤ x2 ∧ x2 < (σ.I 0 39)) ∧ inV (σ.I 47) (σ.I 45) (σ.I 46) (if x1 = -1 then σ.I 0 40 else if 0 ≤ x1 ∧ x1 ≤ 3 then σ.I 48 x1 else -1) x2) ∧ alN (fun s => 0 ≤ nOf (σ.I 210) (σ.I 0 96) s) (σ.I 0 95) := ⟨hok0, hal.mp (eσ35_0.mp (by omega))⟩
            have g39 : σ62.I 0 39 = σ.I 0 39 := gF62 39 (by omega)
            refine k0_ _ _ (((((gσ2.tr gσ26).tr gσ35).tr gσ39).tr gσ47).tr gσ62) ⟨?_, ?_, ?_, ?_, ?_, ?_, ?_⟩
            · (clear k0_ k1_; exact hL0)
            · (first | omega | exact ⟨by omega, by omega⟩ | assumption)
            · (clear k0_ k1_; exact hok)
            · (clear k0_ k1_; exact hKV)
            · (clear k0_ k1_; first | exact hP62 | exact hP35 | exact eσ26_3 | exact hP2)
            · (clear k0_ k1_; first | exact eσ62.2.1 | exact hO35 | exact hO26 | exact hO2)
            · (first | omega | exact ⟨by omega, by omega⟩ | assumption)
          · refine RVI_mk ?_ ?_
            · (first | exact ⟨by omega, by omega⟩ | assumption)
            · refine ⟨?_, ?_, ?_⟩
              · (clear k0_ k1_; first | exact Or.inl ⟨fun z => by have z1 := z.1; omega, rfl, hR2⟩ | exact Or.inl ⟨fun z => by have z1 := z.2.1; omega, rfl, hR2⟩ | exact Or.inl ⟨fun z => absurd (hiv.mpr z.2.2) (by assumption), rfl, hR2⟩ | exact Or.inr (Or.inl ⟨hok0, rfl, by assumption, σ2, hX2, hW⟩) | exact Or.inr (Or.inr (Or.inl ⟨hok0, rfl, fun z => absurd (eσ35_0.mpr (hal.mpr z)) (by omega), by rw [hSb (by omega)]; assumption, σ2, hX2, by rw [hSb (by omega)]; exact hW⟩)))
              · (clear k0_ k1_; first | exact hP62 | exact hP35 | exact eσ26_3 | exact hP2)
              · (clear k0_ k1_; first | exact eσ62.2.1 | exact hO35 | exact hO26 | exact hO2)
        · refine RVI_mk ?_ ?_
          · (first | exact ⟨by omega, by omega⟩ | assumption)
          · refine ⟨?_, ?_, ?_⟩
            · (clear k0_ k1_; first | exact Or.inl ⟨fun z => by have z1 := z.1; omega, rfl, hR2⟩ | exact Or.inl ⟨fun z => by have z1 := z.2.1; omega, rfl, hR2⟩ | exact Or.inl ⟨fun z => absurd (hiv.mpr z.2.2) (by assumption), rfl, hR2⟩ | exact Or.inr (Or.inl ⟨hok0, rfl, by assumption, σ2, hX2, hW⟩) | exact Or.inr (Or.inr (Or.inl ⟨hok0, rfl, fun z => absurd (eσ35_0.mpr (hal.mpr z)) (by omega), by rw [hSb (by omega)]; assumption, σ2, hX2, by rw [hSb (by omega)]; exact hW⟩)))
            · (clear k0_ k1_; first | exact hP62 | exact hP35 | exact eσ26_3 | exact hP2)
            · (clear k0_ k1_; first | exact eσ62.2.1 | exact hO35 | exact hO26 | exact hO2)
      · refine RVI_mk ?_ ?_
        · (first | exact ⟨by omega, by omega⟩ | assumption)
        · refine ⟨?_, ?_, ?_⟩
          · (clear k0_ k1_; first | exact Or.inl ⟨fun z => by have z1 := z.1; omega, rfl, hR2⟩ | exact Or.inl ⟨fun z => by have z1 := z.2.1; omega, rfl, hR2⟩ | exact Or.inl ⟨fun z => absurd (hiv.mpr z.2.2) (by assumption), rfl, hR2⟩ | exact Or.inr (Or.inl ⟨hok0, rfl, by assumption, σ2, hX2, hW⟩) | exact Or.inr (Or.inr (Or.inl ⟨hok0, rfl, fun z => absurd (eσ35_0.mpr (hal.mpr z)) (by omega), by rw [hSb (by omega)]; assumption, σ2, hX2, by rw [hSb (by omega)]; exact hW⟩)))
          · (clear k0_ k1_; first | exact hP62 | exact hP35 | exact eσ26_3 | exact hP2)
          · (clear k0_ k1_; first | exact eσ62.2.1 | exact hO35 | exact hO26 | exact hO2)
    · refine RVI_mk ?_ ?_
      · (first | exact ⟨by omega, by omega⟩ | assumption)
      · refine ⟨?_, ?_, ?_⟩
        · (clear k0_ k1_; first | exact Or.inl ⟨fun z => by have z1 := z.1; omega, rfl, hR2⟩ | exact Or.inl ⟨fun z => by have z1 := z.2.1; omega, rfl, hR2⟩ | exact Or.inl ⟨fun z => absurd (hiv.mpr z.2.2) (by assumption), rfl, hR2⟩ | exact Or.inr (Or.inl ⟨hok0, rfl, by assumption, σ2, hX2, hW⟩) | exact Or.inr (Or.inr (Or.inl ⟨hok0, rfl, fun z => absurd (eσ35_0.mpr (hal.mpr z)) (by omega), by rw [hSb (by omega)]; assumption, σ2, hX2, by rw [hSb (by omega)]; exact hW⟩)))
        · (clear k0_ k1_; first | exact hP62 | exact hP35 | exact eσ26_3 | exact hP2)
        · (clear k0_ k1_; first | exact eσ62.2.1 | exact hO35 | exact hO26 | exact hO2)
  · refine RVI_mk ?_ ?_
    · (first | exact ⟨by omega, by omega⟩ | assumption)
    · refine ⟨?_, ?_, ?_⟩
      · (clear k0_ k1_; first | exact Or.inl ⟨fun z => by have z1 := z.1; omega, rfl, hR2⟩ | exact Or.inl ⟨fun z => by have z1 := z.2.1; omega, rfl, hR2⟩ | exact Or.inl ⟨fun z => absurd (hiv.mpr z.2.2) (by assumption), rfl, hR2⟩ | exact Or.inr (Or.inl ⟨hok0, rfl, by assumption, σ2, hX2, hW⟩) | exact Or.inr (Or.inr (Or.inl ⟨hok0, rfl, fun z => absurd (eσ35_0.mpr (hal.mpr z)) (by omega), by rw [hSb (by omega)]; assumption, σ2, hX2, by rw [hSb (by omega)]; exact hW⟩)))
      · (clear k0_ k1_; first | exact hP62 | exact hP35 | exact eσ26_3 | exact hP2)
      · (clear k0_ k1_; first | exact eσ62.2.1 | exact hO35 | exact hO26 | exact hO2)
