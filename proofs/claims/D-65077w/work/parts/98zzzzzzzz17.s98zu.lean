set_option maxRecDepth 100000
set_option maxHeartbeats 1200000
theorem DX0_tellTerms_0W : DD cX0_tellTerms 0 1 1 (.aload_n 0) := ⟨by decide +kernel, rfl⟩
theorem DX0_tellTerms_1W : DD cX0_tellTerms 1 3 4 (.invokevirtual 67) := ⟨by decide +kernel, rfl⟩
theorem DX0_tellTerms_4W : DD cX0_tellTerms 4 2 6 (.istore 4) := ⟨by decide +kernel, rfl⟩
theorem DX0_tellTerms_6W : DD cX0_tellTerms 6 1 7 (.aload_n 0) := ⟨by decide +kernel, rfl⟩
theorem DX0_tellTerms_7W : DD cX0_tellTerms 7 1 8 (.iconst 0) := ⟨by decide +kernel, rfl⟩
theorem DX0_tellTerms_8W : DD cX0_tellTerms 8 3 11 (.putfield 668) := ⟨by decide +kernel, rfl⟩
theorem DX0_tellTerms_11W : DD cX0_tellTerms 11 1 12 (.aload_n 0) := ⟨by decide +kernel, rfl⟩
theorem DX0_tellTerms_12W : DD cX0_tellTerms 12 1 13 (.iload_n 1) := ⟨by decide +kernel, rfl⟩
theorem DX0_tellTerms_13W : DD cX0_tellTerms 13 3 16 (.invokevirtual 598) := ⟨by decide +kernel, rfl⟩
theorem DX0_tellTerms_16W : DD cX0_tellTerms 16 2 18 (.istore 5) := ⟨by decide +kernel, rfl⟩
theorem DX0_tellTerms_18W : DD cX0_tellTerms 18 2 20 (.iload 5) := ⟨by decide +kernel, rfl⟩
theorem DX0_tellTerms_20W : DD cX0_tellTerms 20 3 23 (.ifCond .lt 21) := ⟨by decide +kernel, rfl⟩
theorem DX0_tellTerms_23W : DD cX0_tellTerms 23 1 24 (.aload_n 0) := ⟨by decide +kernel, rfl⟩
theorem DX0_tellTerms_24W : DD cX0_tellTerms 24 1 25 (.iload_n 2) := ⟨by decide +kernel, rfl⟩
theorem DX0_tellTerms_25W : DD cX0_tellTerms 25 1 26 (.iconst 0) := ⟨by decide +kernel, rfl⟩
theorem DX0_tellTerms_26W : DD cX0_tellTerms 26 3 29 (.invokevirtual 388) := ⟨by decide +kernel, rfl⟩
theorem DX0_tellTerms_29W : DD cX0_tellTerms 29 3 32 (.ifCond .ne 14) := ⟨by decide +kernel, rfl⟩
theorem DX0_tellTerms_32W : DD cX0_tellTerms 32 1 33 (.aload_n 0) := ⟨by decide +kernel, rfl⟩
theorem DX0_tellTerms_33W : DD cX0_tellTerms 33 1 34 (.iload_n 2) := ⟨by decide +kernel, rfl⟩
theorem DX0_tellTerms_34W : DD cX0_tellTerms 34 1 35 (.iconst 1) := ⟨by decide +kernel, rfl⟩
theorem DX0_tellTerms_35W : DD cX0_tellTerms 35 3 38 (.invokevirtual 388) := ⟨by decide +kernel, rfl⟩
theorem DX0_tellTerms_38W : DD cX0_tellTerms 38 3 41 (.ifCond .ne 5) := ⟨by decide +kernel, rfl⟩
theorem DX0_tellTerms_41W : DD cX0_tellTerms 41 1 42 (.iconst (-1)) := ⟨by decide +kernel, rfl⟩
theorem DX0_tellTerms_42W : DD cX0_tellTerms 42 1 43 (.ireturn) := ⟨by decide +kernel, rfl⟩
theorem DX0_tellTerms_43W : DD cX0_tellTerms 43 1 44 (.aload_n 0) := ⟨by decide +kernel, rfl⟩
theorem DX0_tellTerms_44W : DD cX0_tellTerms 44 3 47 (.invokevirtual 601) := ⟨by decide +kernel, rfl⟩
theorem DX0_tellTerms_47W : DD cX0_tellTerms 47 3 50 (.ifCond .ne 6) := ⟨by decide +kernel, rfl⟩
theorem DX0_tellTerms_50W : DD cX0_tellTerms 50 2 52 (.bipush (-4)) := ⟨by decide +kernel, rfl⟩
theorem DX0_tellTerms_52W : DD cX0_tellTerms 52 1 53 (.ireturn) := ⟨by decide +kernel, rfl⟩
theorem DX0_tellTerms_53W : DD cX0_tellTerms 53 1 54 (.aload_n 0) := ⟨by decide +kernel, rfl⟩
theorem DX0_tellTerms_54W : DD cX0_tellTerms 54 1 55 (.aload_n 0) := ⟨by decide +kernel, rfl⟩
theorem DX0_tellTerms_55W : DD cX0_tellTerms 55 3 58 (.getfield 272) := ⟨by decide +kernel, rfl⟩
theorem DX0_tellTerms_58W : DD cX0_tellTerms 58 2 60 (.iload 5) := ⟨by decide +kernel, rfl⟩
theorem DX0_tellTerms_60W : DD cX0_tellTerms 60 3 63 (.invokevirtual 605) := ⟨by decide +kernel, rfl⟩
theorem DX0_tellTerms_63W : DD cX0_tellTerms 63 1 64 (.aload_n 0) := ⟨by decide +kernel, rfl⟩
theorem DX0_tellTerms_64W : DD cX0_tellTerms 64 3 67 (.getfield 272) := ⟨by decide +kernel, rfl⟩
theorem DX0_tellTerms_67W : DD cX0_tellTerms 67 3 70 (.getfield 568) := ⟨by decide +kernel, rfl⟩
theorem DX0_tellTerms_70W : DD cX0_tellTerms 70 1 71 (.iload_n 2) := ⟨by decide +kernel, rfl⟩
theorem DX0_tellTerms_71W : DD cX0_tellTerms 71 3 74 (.invokevirtual 619) := ⟨by decide +kernel, rfl⟩
theorem DX0_tellTerms_74W : DD cX0_tellTerms 74 3 77 (.ifCond .ne 5) := ⟨by decide +kernel, rfl⟩
theorem DX0_tellTerms_77W : DD cX0_tellTerms 77 1 78 (.iconst 0) := ⟨by decide +kernel, rfl⟩
theorem DX0_tellTerms_78W : DD cX0_tellTerms 78 1 79 (.ireturn) := ⟨by decide +kernel, rfl⟩
theorem DX0_tellTerms_79W : DD cX0_tellTerms 79 1 80 (.iload_n 3) := ⟨by decide +kernel, rfl⟩
theorem DX0_tellTerms_80W : DD cX0_tellTerms 80 3 83 (.ifCond .eq 13) := ⟨by decide +kernel, rfl⟩
theorem DX0_tellTerms_83W : DD cX0_tellTerms 83 2 85 (.iload 4) := ⟨by decide +kernel, rfl⟩
theorem DX0_tellTerms_85W : DD cX0_tellTerms 85 2 87 (.bipush 20) := ⟨by decide +kernel, rfl⟩
theorem DX0_tellTerms_87W : DD cX0_tellTerms 87 3 90 (.invokestatic 541) := ⟨by decide +kernel, rfl⟩
theorem DX0_tellTerms_90W : DD cX0_tellTerms 90 3 93 (.goto 5) := ⟨by decide +kernel, rfl⟩
theorem DX0_tellTerms_93W : DD cX0_tellTerms 93 2 95 (.iload 4) := ⟨by decide +kernel, rfl⟩
theorem DX0_tellTerms_95W : DD cX0_tellTerms 95 2 97 (.istore 6) := ⟨by decide +kernel, rfl⟩
theorem DX0_tellTerms_97W : DD cX0_tellTerms 97 1 98 (.iconst 0) := ⟨by decide +kernel, rfl⟩
theorem DX0_tellTerms_98W : DD cX0_tellTerms 98 2 100 (.istore 7) := ⟨by decide +kernel, rfl⟩
theorem DX0_tellTerms_100W : DD cX0_tellTerms 100 2 102 (.iload 7) := ⟨by decide +kernel, rfl⟩
theorem DX0_tellTerms_102W : DD cX0_tellTerms 102 1 103 (.aload_n 0) := ⟨by decide +kernel, rfl⟩
theorem DX0_tellTerms_103W : DD cX0_tellTerms 103 3 106 (.getfield 139) := ⟨by decide +kernel, rfl⟩
theorem DX0_tellTerms_106W : DD cX0_tellTerms 106 3 109 (.getfield 454) := ⟨by decide +kernel, rfl⟩
theorem DX0_tellTerms_109W : DD cX0_tellTerms 109 3 112 (.if_icmp .ge 104) := ⟨by decide +kernel, rfl⟩
theorem DX0_tellTerms_112W : DD cX0_tellTerms 112 1 113 (.aload_n 0) := ⟨by decide +kernel, rfl⟩
theorem DX0_tellTerms_113W : DD cX0_tellTerms 113 3 116 (.getfield 139) := ⟨by decide +kernel, rfl⟩
theorem DX0_tellTerms_116W : DD cX0_tellTerms 116 3 119 (.getfield 491) := ⟨by decide +kernel, rfl⟩
theorem DX0_tellTerms_119W : DD cX0_tellTerms 119 2 121 (.iload 7) := ⟨by decide +kernel, rfl⟩
theorem DX0_tellTerms_121W : DD cX0_tellTerms 121 1 122 (.baload) := ⟨by decide +kernel, rfl⟩
theorem DX0_tellTerms_122W : DD cX0_tellTerms 122 1 123 (.iload_n 2) := ⟨by decide +kernel, rfl⟩
theorem DX0_tellTerms_123W : DD cX0_tellTerms 123 3 126 (.if_icmp .eq 6) := ⟨by decide +kernel, rfl⟩
theorem DX0_tellTerms_126W : DD cX0_tellTerms 126 3 129 (.goto 81) := ⟨by decide +kernel, rfl⟩
theorem DX0_tellTerms_129W : DD cX0_tellTerms 129 1 130 (.iload_n 3) := ⟨by decide +kernel, rfl⟩
theorem DX0_tellTerms_130W : DD cX0_tellTerms 130 3 133 (.ifCond .eq 20) := ⟨by decide +kernel, rfl⟩
theorem DX0_tellTerms_133W : DD cX0_tellTerms 133 1 134 (.aload_n 0) := ⟨by decide +kernel, rfl⟩
theorem DX0_tellTerms_134W : DD cX0_tellTerms 134 1 135 (.aload_n 0) := ⟨by decide +kernel, rfl⟩
theorem DX0_tellTerms_135W : DD cX0_tellTerms 135 3 138 (.getfield 1) := ⟨by decide +kernel, rfl⟩
theorem DX0_tellTerms_138W : DD cX0_tellTerms 138 1 139 (.iconst 0) := ⟨by decide +kernel, rfl⟩
theorem DX0_tellTerms_139W : DD cX0_tellTerms 139 2 141 (.iload 6) := ⟨by decide +kernel, rfl⟩
theorem DX0_tellTerms_141W : DD cX0_tellTerms 141 2 143 (.iload 7) := ⟨by decide +kernel, rfl⟩
theorem DX0_tellTerms_143W : DD cX0_tellTerms 143 1 144 (.iconst 2) := ⟨by decide +kernel, rfl⟩
theorem DX0_tellTerms_144W : DD cX0_tellTerms 144 3 147 (.invokevirtual 671) := ⟨by decide +kernel, rfl⟩
theorem DX0_tellTerms_147W : DD cX0_tellTerms 147 3 150 (.goto 19) := ⟨by decide +kernel, rfl⟩
theorem DX0_tellTerms_150W : DD cX0_tellTerms 150 1 151 (.aload_n 0) := ⟨by decide +kernel, rfl⟩
theorem DX0_tellTerms_151W : DD cX0_tellTerms 151 2 153 (.iload 7) := ⟨by decide +kernel, rfl⟩
theorem DX0_tellTerms_153W : DD cX0_tellTerms 153 2 155 (.iload 6) := ⟨by decide +kernel, rfl⟩
theorem DX0_tellTerms_155W : DD cX0_tellTerms 155 3 158 (.invokevirtual 675) := ⟨by decide +kernel, rfl⟩
theorem DX0_tellTerms_158W : DD cX0_tellTerms 158 3 161 (.ifCond .eq 7) := ⟨by decide +kernel, rfl⟩
theorem DX0_tellTerms_161W : DD cX0_tellTerms 161 1 162 (.iconst 0) := ⟨by decide +kernel, rfl⟩
theorem DX0_tellTerms_162W : DD cX0_tellTerms 162 3 165 (.goto 4) := ⟨by decide +kernel, rfl⟩
theorem DX0_tellTerms_165W : DD cX0_tellTerms 165 1 166 (.iconst 3) := ⟨by decide +kernel, rfl⟩
theorem DX0_tellTerms_166W : DD cX0_tellTerms 166 2 168 (.istore 8) := ⟨by decide +kernel, rfl⟩
theorem DX0_tellTerms_168W : DD cX0_tellTerms 168 2 170 (.iload 8) := ⟨by decide +kernel, rfl⟩
theorem DX0_tellTerms_170W : DD cX0_tellTerms 170 1 171 (.iconst 2) := ⟨by decide +kernel, rfl⟩
theorem DX0_tellTerms_171W : DD cX0_tellTerms 171 3 174 (.if_icmp .le 7) := ⟨by decide +kernel, rfl⟩
theorem DX0_tellTerms_174W : DD cX0_tellTerms 174 1 175 (.iconst 0) := ⟨by decide +kernel, rfl⟩
theorem DX0_tellTerms_175W : DD cX0_tellTerms 175 3 178 (.goto 15) := ⟨by decide +kernel, rfl⟩
theorem DX0_tellTerms_178W : DD cX0_tellTerms 178 1 179 (.aload_n 0) := ⟨by decide +kernel, rfl⟩
theorem DX0_tellTerms_179W : DD cX0_tellTerms 179 3 182 (.getfield 272) := ⟨by decide +kernel, rfl⟩
theorem DX0_tellTerms_182W : DD cX0_tellTerms 182 3 185 (.getfield 568) := ⟨by decide +kernel, rfl⟩
theorem DX0_tellTerms_185W : DD cX0_tellTerms 185 2 187 (.iload 7) := ⟨by decide +kernel, rfl⟩
theorem DX0_tellTerms_187W : DD cX0_tellTerms 187 3 190 (.invokevirtual 678) := ⟨by decide +kernel, rfl⟩
theorem DX0_tellTerms_190W : DD cX0_tellTerms 190 2 192 (.istore 9) := ⟨by decide +kernel, rfl⟩
theorem DX0_tellTerms_192W : DD cX0_tellTerms 192 2 194 (.iload 9) := ⟨by decide +kernel, rfl⟩
theorem DX0_tellTerms_194W : DD cX0_tellTerms 194 3 197 (.ifCond .le 13) := ⟨by decide +kernel, rfl⟩
theorem DX0_tellTerms_197W : DD cX0_tellTerms 197 1 198 (.aload_n 0) := ⟨by decide +kernel, rfl⟩
theorem DX0_tellTerms_198W : DD cX0_tellTerms 198 2 200 (.iload 7) := ⟨by decide +kernel, rfl⟩
theorem DX0_tellTerms_200W : DD cX0_tellTerms 200 2 202 (.iload 9) := ⟨by decide +kernel, rfl⟩
theorem DX0_tellTerms_202W : DD cX0_tellTerms 202 2 204 (.iload 8) := ⟨by decide +kernel, rfl⟩
theorem DX0_tellTerms_204W : DD cX0_tellTerms 204 3 207 (.invokevirtual 681) := ⟨by decide +kernel, rfl⟩
theorem DX0_tellTerms_207W : DD cX0_tellTerms 207 3 210 (.iinc 7 1) := ⟨by decide +kernel, rfl⟩
theorem DX0_tellTerms_210W : DD cX0_tellTerms 210 3 213 (.goto (-110)) := ⟨by decide +kernel, rfl⟩
theorem DX0_tellTerms_213W : DD cX0_tellTerms 213 1 214 (.iconst 0) := ⟨by decide +kernel, rfl⟩
theorem DX0_tellTerms_214W : DD cX0_tellTerms 214 2 216 (.istore 7) := ⟨by decide +kernel, rfl⟩
theorem DX0_tellTerms_216W : DD cX0_tellTerms 216 2 218 (.iload 7) := ⟨by decide +kernel, rfl⟩
theorem DX0_tellTerms_218W : DD cX0_tellTerms 218 1 219 (.aload_n 0) := ⟨by decide +kernel, rfl⟩
theorem DX0_tellTerms_219W : DD cX0_tellTerms 219 3 222 (.getfield 668) := ⟨by decide +kernel, rfl⟩
theorem DX0_tellTerms_222W : DD cX0_tellTerms 222 3 225 (.if_icmp .ge 67) := ⟨by decide +kernel, rfl⟩
theorem DX0_tellTerms_225W : DD cX0_tellTerms 225 1 226 (.aload_n 0) := ⟨by decide +kernel, rfl⟩
theorem DX0_tellTerms_226W : DD cX0_tellTerms 226 3 229 (.getfield 329) := ⟨by decide +kernel, rfl⟩
theorem DX0_tellTerms_229W : DD cX0_tellTerms 229 2 231 (.iload 7) := ⟨by decide +kernel, rfl⟩
theorem DX0_tellTerms_231W : DD cX0_tellTerms 231 1 232 (.aload_n 0) := ⟨by decide +kernel, rfl⟩
theorem DX0_tellTerms_232W : DD cX0_tellTerms 232 3 235 (.getfield 139) := ⟨by decide +kernel, rfl⟩
theorem DX0_tellTerms_235W : DD cX0_tellTerms 235 3 238 (.getfield 495) := ⟨by decide +kernel, rfl⟩
theorem DX0_tellTerms_238W : DD cX0_tellTerms 238 1 239 (.aload_n 0) := ⟨by decide +kernel, rfl⟩
theorem DX0_tellTerms_239W : DD cX0_tellTerms 239 3 242 (.getfield 317) := ⟨by decide +kernel, rfl⟩
theorem DX0_tellTerms_242W : DD cX0_tellTerms 242 2 244 (.iload 7) := ⟨by decide +kernel, rfl⟩
theorem DX0_tellTerms_244W : DD cX0_tellTerms 244 1 245 (.iaload) := ⟨by decide +kernel, rfl⟩
theorem DX0_tellTerms_245W : DD cX0_tellTerms 245 1 246 (.baload) := ⟨by decide +kernel, rfl⟩
theorem DX0_tellTerms_246W : DD cX0_tellTerms 246 1 247 (.iastore) := ⟨by decide +kernel, rfl⟩
theorem DX0_tellTerms_247W : DD cX0_tellTerms 247 1 248 (.aload_n 0) := ⟨by decide +kernel, rfl⟩
theorem DX0_tellTerms_248W : DD cX0_tellTerms 248 3 251 (.getfield 139) := ⟨by decide +kernel, rfl⟩
theorem DX0_tellTerms_251W : DD cX0_tellTerms 251 3 254 (.getfield 494) := ⟨by decide +kernel, rfl⟩
theorem DX0_tellTerms_254W : DD cX0_tellTerms 254 2 256 (.bipush 20) := ⟨by decide +kernel, rfl⟩
theorem DX0_tellTerms_256W : DD cX0_tellTerms 256 1 257 (.aload_n 0) := ⟨by decide +kernel, rfl⟩
theorem DX0_tellTerms_257W : DD cX0_tellTerms 257 3 260 (.getfield 317) := ⟨by decide +kernel, rfl⟩
theorem DX0_tellTerms_260W : DD cX0_tellTerms 260 2 262 (.iload 7) := ⟨by decide +kernel, rfl⟩
theorem DX0_tellTerms_262W : DD cX0_tellTerms 262 1 263 (.iaload) := ⟨by decide +kernel, rfl⟩
theorem DX0_tellTerms_263W : DD cX0_tellTerms 263 1 264 (.imul) := ⟨by decide +kernel, rfl⟩
theorem DX0_tellTerms_264W : DD cX0_tellTerms 264 1 265 (.aload_n 0) := ⟨by decide +kernel, rfl⟩
theorem DX0_tellTerms_265W : DD cX0_tellTerms 265 3 268 (.getfield 326) := ⟨by decide +kernel, rfl⟩
theorem DX0_tellTerms_268W : DD cX0_tellTerms 268 2 270 (.bipush 20) := ⟨by decide +kernel, rfl⟩
theorem DX0_tellTerms_270W : DD cX0_tellTerms 270 2 272 (.iload 7) := ⟨by decide +kernel, rfl⟩
theorem DX0_tellTerms_272W : DD cX0_tellTerms 272 1 273 (.imul) := ⟨by decide +kernel, rfl⟩
theorem DX0_tellTerms_273W : DD cX0_tellTerms 273 1 274 (.aload_n 0) := ⟨by decide +kernel, rfl⟩
theorem DX0_tellTerms_274W : DD cX0_tellTerms 274 3 277 (.getfield 329) := ⟨by decide +kernel, rfl⟩
theorem DX0_tellTerms_277W : DD cX0_tellTerms 277 2 279 (.iload 7) := ⟨by decide +kernel, rfl⟩
theorem DX0_tellTerms_279W : DD cX0_tellTerms 279 1 280 (.iaload) := ⟨by decide +kernel, rfl⟩
theorem DX0_tellTerms_280W : DD cX0_tellTerms 280 3 283 (.invokestatic 401) := ⟨by decide +kernel, rfl⟩
theorem DX0_tellTerms_283W : DD cX0_tellTerms 283 3 286 (.iinc 7 1) := ⟨by decide +kernel, rfl⟩
theorem DX0_tellTerms_286W : DD cX0_tellTerms 286 3 289 (.goto (-70)) := ⟨by decide +kernel, rfl⟩
theorem DX0_tellTerms_289W : DD cX0_tellTerms 289 1 290 (.aload_n 0) := ⟨by decide +kernel, rfl⟩
theorem DX0_tellTerms_290W : DD cX0_tellTerms 290 3 293 (.getfield 668) := ⟨by decide +kernel, rfl⟩
theorem DX0_tellTerms_293W : DD cX0_tellTerms 293 1 294 (.ireturn) := ⟨by decide +kernel, rfl⟩
theorem ucX0_tellTerms_0W {E : XE} {d : Nat} {σ : Sto} {Q : Res → Sto → Prop} {K : Int} {V : Int} {x1 : Int} {x2 : Int} {x3 : Int} (hL : Lay σ)  (h : 1 ≤ d ∧ (∀ (y3 : Int) (σ2 : Sto), inR y3 → SF σ σ2 → ((y3 = σ.I 0 1) ∧ (Ch (fun c i => at2 c i 0 1) σ σ2) ∧ (σ2.I 0 1 = 0)) → (∀ σ4 : Sto, σ4 = σ2.wI 0 88 0 → SF σ2 σ4 → 2 ≤ d ∧ (inR x1) ∧ (∀ y7 : Int, y7 = (if x1 = -1 then σ4.I 0 40 else if 0 ≤ x1 ∧ x1 ≤ 3 then σ4.I 48 x1 else -1) → inR y7 → (y7 < 0 → Q (.inl (some (aI (-1)))) σ4) ∧ (0 ≤ y7 → 3 ≤ d ∧ (inR x2) ∧ (inR (0 : Int)) ∧ (0 ≤ σ4.I 0 9 ∧ σ4.I 0 9 ≤ 12) ∧ (((0 ≤ x2 ∧ x2 < σ4.I 0 9) ∧ σ4.I 16 x2 = (0 : Int)) → 2 ≤ d ∧ (1 ≤ σ4.I 0 96 ∧ σ4.I 0 96 ≤ 8) ∧ (1 ≤ σ4.I 0 95 ∧ σ4.I 0 95 ≤ 8) ∧ (bd_0_1000000 σ4 211 8) ∧ (∀ (y20 : Int) (σ19 : Sto), 0 ≤ y20 ∧ y20 ≤ 1 → SF σ4 σ19 → ((y20 = 1 ↔ alN (fun s => 0 ≤ nOf (σ4.I 210) (σ4.I 0 96) s) (σ4.I 0 95)) ∧ (RD σ4 σ19 (fun c i => if y20 = 1 ∧ c = 211 then σ4.I c i + cn (fun s => nOf (σ4.I 210) (σ4.I 0 96) s = i) (σ4.I 0 95) else σ4.I c i))) → (y20 ≠ 0 → 527 ≤ d ∧ (121 = 87 ∨ 121 = 121) ∧ (inR y7) ∧ (0 ≤ σ19.I 0 46 ∧ σ19.I 0 46 < 4) ∧ (BSX σ19 K V) ∧ (0 < σ19.I 0 46 → σ19.I (ubX σ19) 1 ≠ 0 → QLX σ19 (ubX σ19)) ∧ (PBD σ19 155) ∧ (∀ σ29 : Sto, SF σ19 σ29 → (((σ29.I (121 + 15) 6 = 0 ∧ σ29.I (121 + 15) 7 = (σ19.I 0 39) ∧ σ29.I (121 + 15) 8 = 0) ∧ σ29.I (121 + 15) 1 = (if 0 < σ19.I 0 46 then σ19.I (ubX σ19) 2 else 0)) ∧ (CHN σ29 (121 + 15)) ∧ (SEX σ19 σ29 121 K V y7) ∧ (PBD σ29 155) ∧ (KMw 121 σ19 σ29)) → 1 ≤ d ∧ (0 ≤ x2 ∧ x2 < 12) ∧ ((¬ bt32 (σ29.I 136 1) x2) → inR x3 ∧ (x3 = 0 → VV E mX0_tellTerms (d + 1) 100 [(0, aO 0), (2, aI (x2)), (3, aI (x3)), (6, aI (y3)), (7, aI (0))] [] σ29 Q) ∧ (x3 ≠ 0 → VV E mX0_tellTerms (d + 1) 100 [(0, aO 0), (2, aI (x2)), (3, aI (x3)), (6, aI (min y3 20)), (7, aI (0))] [] σ29 Q)) ∧ (¬ (¬ bt32 (σ29.I 136 1) x2) → Q (.inl (some (aI 0))) σ29))) ∧ (y20 = 0 → Q (.inl (some (aI (-4)))) σ19))) ∧ (¬ ((0 ≤ x2 ∧ x2 < σ4.I 0 9) ∧ σ4.I 16 x2 = (0 : Int)) → 3 ≤ d ∧ (inR x2) ∧ (inR (1 : Int)) ∧ (0 ≤ σ4.I 0 9 ∧ σ4.I 0 9 ≤ 12) ∧ (((0 ≤ x2 ∧ x2 < σ4.I 0 9) ∧ σ4.I 16 x2 = (1 : Int)) → 2 ≤ d ∧ (1 ≤ σ4.I 0 96 ∧ σ4.I 0 96 ≤ 8) ∧ (1 ≤ σ4.I 0 95 ∧ σ4.I 0 95 ≤ 8) ∧ (bd_0_1000000 σ4 211 8) ∧ (∀ (y49 : Int) (σ48 : Sto), 0 ≤ y49 ∧ y49 ≤ 1 → SF σ4 σ48 → ((y49 = 1 ↔ alN (fun s => 0 ≤ nOf (σ4.I 210) (σ4.I 0 96) s) (σ4.I 0 95)) ∧ (RD σ4 σ48 (fun c i => if y49 = 1 ∧ c = 211 then σ4.I c i + cn (fun s => nOf (σ4.I 210) (σ4.I 0 96) s = i) (σ4.I 0 95) else σ4.I c i))) → (y49 ≠ 0 → 527 ≤ d ∧ (121 = 87 ∨ 121 = 121) ∧ (inR y7) ∧ (0 ≤ σ48.I 0 46 ∧ σ48.I 0 46 < 4) ∧ (BSX σ48 K V) ∧ (0 < σ48.I 0 46 → σ48.I (ubX σ48) 1 ≠ 0 → QLX σ48 (ubX σ48)) ∧ (PBD σ48 155) ∧ (∀ σ58 : Sto, SF σ48 σ58 → (((σ58.I (121 + 15) 6 = 0 ∧ σ58.I (121 + 15) 7 = (σ48.I 0 39) ∧ σ58.I (121 + 15) 8 = 0) ∧ σ58.I (121 + 15) 1 = (if 0 < σ48.I 0 46 then σ48.I (ubX σ48) 2 else 0)) ∧ (CHN σ58 (121 + 15)) ∧ (SEX σ48 σ58 121 K V y7) ∧ (PBD σ58 155) ∧ (KMw 121 σ48 σ58)) → 1 ≤ d ∧ (0 ≤ x2 ∧ x2 < 12) ∧ ((¬ bt32 (σ58.I 136 1) x2) → inR x3 ∧ (x3 = 0 → VV E mX0_tellTerms (d + 1) 100 [(0, aO 0), (2, aI (x2)), (3, aI (x3)), (6, aI (y3)), (7, aI (0))] [] σ58 Q) ∧ (x3 ≠ 0 → VV E mX0_tellTerms (d + 1) 100 [(0, aO 0), (2, aI (x2)), (3, aI (x3)), (6, aI (min y3 20)), (7, aI (0))] [] σ58 Q)) ∧ (¬ (¬ bt32 (σ58.I 136 1) x2) → Q (.inl (some (aI 0))) σ58))) ∧ (y49 = 0 → Q (.inl (some (aI (-4)))) σ48))) ∧ (¬ ((0 ≤ x2 ∧ x2 < σ4.I 0 9) ∧ σ4.I 16 x2 = (1 : Int)) → Q (.inl (some (aI (-1)))) σ4))))))) : VV E mX0_tellTerms (d + 1) 0 [(0, aO 0), (1, aI (x1)), (2, aI (x2)), (3, aI (x3))] [] σ Q := by
  refine v_aload_n 0 DX0_tellTerms_0W rfl rfl <| ?_
  obtain ⟨k1, h⟩ := h
  refine v_invV (ci := 0) (as := []) (st := []) DX0_tellTerms_1W rfl okX0_take (Or.inl q373) q375 (s_0 hL) rfl qs1 npX0_take (sp_X0_take (σ := σ)  k1 hL ) (Nat.le_of_ble_eq_true rfl) (Nat.le_refl _) (Nat.le_of_ble_eq_true rfl) (RVI_ret (fun y3 σ2 y3f gσ2 eσ2 => ?_)) RVI_thr
  have h := h y3 σ2 y3f gσ2 eσ2
  refine v_istore DX0_tellTerms_4W (by decide) rfl <| v_aload_n 1 DX0_tellTerms_6W rfl rfl <| v_iconst DX0_tellTerms_7W <| ?_
  refine w_putI (ci := 0) (kf := 88) (kz := 88) DX0_tellTerms_8W (s_0 (hL.sf gσ2)) rfl (by decide) rfl (Or.inl ⟨rfl, q1134⟩) (fun _ _ => rfl) ⟨by decide, by decide⟩ rfl rfl (fun σ4 eσ4 gσ4 => ?_)
  have h := h σ4 eσ4 gσ4
  refine v_aload_n 1 DX0_tellTerms_11W rfl rfl <| v_iload_n 2 DX0_tellTerms_12W rfl rfl <| ?_
  obtain ⟨k5, h⟩ := h
  obtain ⟨k6, h⟩ := h
  refine v_invV (ci := 0) (as := [aI (x1)]) (st := []) DX0_tellTerms_13W rfl okX0_versionOf (Or.inl q1725) q1727 (s_0 ((hL.sf gσ2).sf gσ4)) rfl qs55 npX0_versionOf (sp_X0_versionOf (σ := σ4) (x1 := x1) k5 ((hL.sf gσ2).sf gσ4) k6) (Nat.le_of_ble_eq_true rfl) (Nat.le_refl _) (Nat.le_of_ble_eq_true rfl) (RI_ret (fun y7 y7e y7f => ?_)) RI_thr
  have h := h y7 y7e y7f
  refine v_istore DX0_tellTerms_16W (by decide) rfl <| v_iload 0 DX0_tellTerms_18W rfl <| ?_
  refine v_if_lt (tg := 41) DX0_tellTerms_20W (by decide) y7f (fun c8 => ?_) (fun c8 => ?_)
  · have h := h.1 c8
    refine v_iconst DX0_tellTerms_41W <| ?_
    exact v_iret DX0_tellTerms_42W rfl rfl h
  · have h := h.2 c8
    refine v_aload_n 2 DX0_tellTerms_23W rfl rfl <| v_iload_n 4 DX0_tellTerms_24W rfl rfl <| v_iconst DX0_tellTerms_25W <| ?_
    obtain ⟨k9, h⟩ := h
    obtain ⟨k10, k11, k12, h⟩ := h
    refine v_invV (ci := 0) (as := [aI (x2), aI (0)]) (st := []) DX0_tellTerms_26W rfl okX0_isKind (Or.inl q1363) q1365 (s_0 ((hL.sf gσ2).sf gσ4)) rfl qs16 npX0_isKind (sp_X0_isKind (σ := σ4) (x1 := x2) (x2 := (0 : Int)) k9 ((hL.sf gσ2).sf gσ4) k10 k11 k12) (Nat.le_of_ble_eq_true rfl) (Nat.le_refl _) (Nat.le_of_ble_eq_true rfl) (RZ_ret (fun c13 => ?_) (fun c13 => ?_)) RZ_thr
    · have h := h.1 c13
      refine v_if_ne (tg := 43) DX0_tellTerms_29W (by decide) ⟨by decide, by decide⟩ (fun c14 => ?_) (fun c14 => absurd c14 (by decide))
      refine v_aload_n 2 DX0_tellTerms_43W rfl rfl <| ?_
      obtain ⟨k15, h⟩ := h
      obtain ⟨k16, k17, k18, h⟩ := h
      refine v_invV (ci := 0) (as := []) (st := []) DX0_tellTerms_44W rfl okX0_askShards (Or.inl q1729) q1731 (s_0 ((hL.sf gσ2).sf gσ4)) rfl qs56 npX0_askShards (sp_X0_askShards (σ := σ4)  k15 ((hL.sf gσ2).sf gσ4) k16 k17 k18) (Nat.le_of_ble_eq_true rfl) (Nat.le_refl _) (Nat.le_of_ble_eq_true rfl) (RVZ_ret (fun y20 σ19 y20f gσ19 eσ19 => ?_)) RVZ_thr
      have h := h y20 σ19 y20f gσ19 eσ19
      refine v_if_ne (tg := 53) DX0_tellTerms_47W (by decide) (inR_z y20f) (fun c21 => ?_) (fun c21 => ?_)
      · have h := h.1 c21
        refine v_aload_n 2 DX0_tellTerms_53W rfl rfl <| v_aload_n 2 DX0_tellTerms_54W rfl rfl <| w_getR (ci := 0) (kf := 61) (kz := 61) DX0_tellTerms_55W (s_0 (((hL.sf gσ2).sf gσ4).sf gσ19)) rfl (by decide) rfl (Or.inl q1107) (fun _ _ => rfl) (r_0_61 (((hL.sf gσ2).sf gσ4).sf gσ19)) <| v_iload 0 DX0_tellTerms_58W rfl <| ?_
        obtain ⟨k22, h⟩ := h
        obtain ⟨k23, k24, k25, k26, k27, k28, h⟩ := h
        refine v_invV (ci := 0) (as := [aO 121, aI (y7)]) (st := []) DX0_tellTerms_60W rfl okX0_makeWorld (Or.inl q1737) q1739 (s_0 (((hL.sf gσ2).sf gσ4).sf gσ19)) rfl qs58 npX0_makeWorld (sp_X0_makeWorld (σ := σ19) (o1 := 121) (x2 := y7) (K := K) (V := V) k22 (((hL.sf gσ2).sf gσ4).sf gσ19) (lat_121 (((hL.sf gσ2).sf gσ4).sf gσ19)) k23 k24 k25 k26 k27 k28) (Nat.le_of_ble_eq_true rfl) (Nat.le_refl _) (Nat.le_of_ble_eq_true rfl) (RV_ret (fun σ29 gσ29 eσ29 => ?_)) RV_thr
        have h := h σ29 gσ29 eσ29
        refine v_aload_n 2 DX0_tellTerms_63W rfl rfl <| w_getR (ci := 0) (kf := 61) (kz := 61) DX0_tellTerms_64W (s_0 ((((hL.sf gσ2).sf gσ4).sf gσ19).sf gσ29)) rfl (by decide) rfl (Or.inl q1107) (fun _ _ => rfl) (r_0_61 ((((hL.sf gσ2).sf gσ4).sf gσ19).sf gσ29)) <| w_getR (ci := 5) (kf := 1) (kz := 1) DX0_tellTerms_67W (s_121 ((((hL.sf gσ2).sf gσ4).sf gσ19).sf gσ29)) rfl (by decide) rfl (Or.inr ⟨_, q888⟩) (fun _ _ => rfl) (r_121_1 ((((hL.sf gσ2).sf gσ4).sf gσ19).sf gσ29)) <| v_iload_n 4 DX0_tellTerms_70W rfl rfl <| ?_
        obtain ⟨k30, h⟩ := h
        obtain ⟨k31, h⟩ := h
        refine v_invV (ci := 6) (as := [aI (x2)]) (st := []) DX0_tellTerms_71W rfl okX6_shows (Or.inl q1907) q1764 (s_136 ((((hL.sf gσ2).sf gσ4).sf gσ19).sf gσ29)) rfl q1765 npX6_shows (sp_X6_shows (σ := σ29) (o0 := 136) (x1 := x2) k30 ((((hL.sf gσ2).sf gσ4).sf gσ19).sf gσ29) (lat_136 ((((hL.sf gσ2).sf gσ4).sf gσ19).sf gσ29)) k31) (Nat.le_of_ble_eq_true rfl) (Nat.le_refl _) (Nat.le_of_ble_eq_true rfl) (RZ_ret (fun c32 => ?_) (fun c32 => ?_)) RZ_thr
        · have h := h.1 c32
          refine v_if_ne (tg := 79) DX0_tellTerms_74W (by decide) ⟨by decide, by decide⟩ (fun c33 => ?_) (fun c33 => absurd c33 (by decide))
          refine v_iload_n 5 DX0_tellTerms_79W rfl rfl <| ?_
          obtain ⟨k34, h⟩ := h
          refine v_if_eq (tg := 93) DX0_tellTerms_80W (by decide) k34 (fun c35 => ?_) (fun c35 => ?_)
          · have h := h.1 c35
            refine v_iload 1 DX0_tellTerms_93W rfl <| v_istore DX0_tellTerms_95W (by decide) rfl <| v_iconst DX0_tellTerms_97W <| v_istore DX0_tellTerms_98W (by decide) rfl <| ?_
            exact v_pick [4, 6, 7, 1, 0] rfl h
          · have h := h.2 c35
            refine v_iload 1 DX0_tellTerms_83W rfl <| v_bipush DX0_tellTerms_85W ⟨by decide, by decide⟩ <| v_imin DX0_tellTerms_87W q1851 q554 q274 q555 y3f ⟨by decide, by decide⟩ (Nat.le_add_left 1 d) (Nat.le_of_ble_eq_true rfl) <| v_goto (pc' := 95) DX0_tellTerms_90W.1 (by decide) <| v_istore DX0_tellTerms_95W (by decide) rfl <| v_iconst DX0_tellTerms_97W <| v_istore DX0_tellTerms_98W (by decide) rfl <| ?_
            exact v_pick [4, 6, 7, 1, 0] rfl h
        · have h := h.2 c32
          refine v_if_ne (tg := 79) DX0_tellTerms_74W (by decide) ⟨by decide, by decide⟩ (fun c36 => absurd c36 (by decide)) (fun c36 => ?_)
          refine v_iconst DX0_tellTerms_77W <| ?_
          exact v_iret DX0_tellTerms_78W rfl rfl h
      · have h := h.2 c21
        refine v_bipush DX0_tellTerms_50W ⟨by decide, by decide⟩ <| ?_
        exact v_iret DX0_tellTerms_52W rfl rfl h
    · have h := h.2 c13
      refine v_if_ne (tg := 43) DX0_tellTerms_29W (by decide) ⟨by decide, by decide⟩ (fun c37 => absurd c37 (by decide)) (fun c37 => ?_)
      refine v_aload_n 2 DX0_tellTerms_32W rfl rfl <| v_iload_n 4 DX0_tellTerms_33W rfl rfl <| v_iconst DX0_tellTerms_34W <| ?_
      obtain ⟨k38, h⟩ := h
      obtain ⟨k39, k40, k41, h⟩ := h
      refine v_invV (ci := 0) (as := [aI (x2), aI (1)]) (st := []) DX0_tellTerms_35W rfl okX0_isKind (Or.inl q1363) q1365 (s_0 ((hL.sf gσ2).sf gσ4)) rfl qs16 npX0_isKind (sp_X0_isKind (σ := σ4) (x1 := x2) (x2 := (1 : Int)) k38 ((hL.sf gσ2).sf gσ4) k39 k40 k41) (Nat.le_of_ble_eq_true rfl) (Nat.le_refl _) (Nat.le_of_ble_eq_true rfl) (RZ_ret (fun c42 => ?_) (fun c42 => ?_)) RZ_thr
      · have h := h.1 c42
        refine v_if_ne (tg := 43) DX0_tellTerms_38W (by decide) ⟨by decide, by decide⟩ (fun c43 => ?_) (fun c43 => absurd c43 (by decide))
        refine v_aload_n 2 DX0_tellTerms_43W rfl rfl <| ?_
        obtain ⟨k44, h⟩ := h
        obtain ⟨k45, k46, k47, h⟩ := h
        refine v_invV (ci := 0) (as := []) (st := []) DX0_tellTerms_44W rfl okX0_askShards (Or.inl q1729) q1731 (s_0 ((hL.sf gσ2).sf gσ4)) rfl qs56 npX0_askShards (sp_X0_askShards (σ := σ4)  k44 ((hL.sf gσ2).sf gσ4) k45 k46 k47) (Nat.le_of_ble_eq_true rfl) (Nat.le_refl _) (Nat.le_of_ble_eq_true rfl) (RVZ_ret (fun y49 σ48 y49f gσ48 eσ48 => ?_)) RVZ_thr
        have h := h y49 σ48 y49f gσ48 eσ48
        refine v_if_ne (tg := 53) DX0_tellTerms_47W (by decide) (inR_z y49f) (fun c50 => ?_) (fun c50 => ?_)
        · have h := h.1 c50
          refine v_aload_n 2 DX0_tellTerms_53W rfl rfl <| v_aload_n 2 DX0_tellTerms_54W rfl rfl <| w_getR (ci := 0) (kf := 61) (kz := 61) DX0_tellTerms_55W (s_0 (((hL.sf gσ2).sf gσ4).sf gσ48)) rfl (by decide) rfl (Or.inl q1107) (fun _ _ => rfl) (r_0_61 (((hL.sf gσ2).sf gσ4).sf gσ48)) <| v_iload 0 DX0_tellTerms_58W rfl <| ?_
          obtain ⟨k51, h⟩ := h
          obtain ⟨k52, k53, k54, k55, k56, k57, h⟩ := h
          refine v_invV (ci := 0) (as := [aO 121, aI (y7)]) (st := []) DX0_tellTerms_60W rfl okX0_makeWorld (Or.inl q1737) q1739 (s_0 (((hL.sf gσ2).sf gσ4).sf gσ48)) rfl qs58 npX0_makeWorld (sp_X0_makeWorld (σ := σ48) (o1 := 121) (x2 := y7) (K := K) (V := V) k51 (((hL.sf gσ2).sf gσ4).sf gσ48) (lat_121 (((hL.sf gσ2).sf gσ4).sf gσ48)) k52 k53 k54 k55 k56 k57) (Nat.le_of_ble_eq_true rfl) (Nat.le_refl _) (Nat.le_of_ble_eq_true rfl) (RV_ret (fun σ58 gσ58 eσ58 => ?_)) RV_thr
          have h := h σ58 gσ58 eσ58
          refine v_aload_n 2 DX0_tellTerms_63W rfl rfl <| w_getR (ci := 0) (kf := 61) (kz := 61) DX0_tellTerms_64W (s_0 ((((hL.sf gσ2).sf gσ4).sf gσ48).sf gσ58)) rfl (by decide) rfl (Or.inl q1107) (fun _ _ => rfl) (r_0_61 ((((hL.sf gσ2).sf gσ4).sf gσ48).sf gσ58)) <| w_getR (ci := 5) (kf := 1) (kz := 1) DX0_tellTerms_67W (s_121 ((((hL.sf gσ2).sf gσ4).sf gσ48).sf gσ58)) rfl (by decide) rfl (Or.inr ⟨_, q888⟩) (fun _ _ => rfl) (r_121_1 ((((hL.sf gσ2).sf gσ4).sf gσ48).sf gσ58)) <| v_iload_n 4 DX0_tellTerms_70W rfl rfl <| ?_
          obtain ⟨k59, h⟩ := h
          obtain ⟨k60, h⟩ := h
          refine v_invV (ci := 6) (as := [aI (x2)]) (st := []) DX0_tellTerms_71W rfl okX6_shows (Or.inl q1907) q1764 (s_136 ((((hL.sf gσ2).sf gσ4).sf gσ48).sf gσ58)) rfl q1765 npX6_shows (sp_X6_shows (σ := σ58) (o0 := 136) (x1 := x2) k59 ((((hL.sf gσ2).sf gσ4).sf gσ48).sf gσ58) (lat_136 ((((hL.sf gσ2).sf gσ4).sf gσ48).sf gσ58)) k60) (Nat.le_of_ble_eq_true rfl) (Nat.le_refl _) (Nat.le_of_ble_eq_true rfl) (RZ_ret (fun c61 => ?_) (fun c61 => ?_)) RZ_thr
          · have h := h.1 c61
            refine v_if_ne (tg := 79) DX0_tellTerms_74W (by decide) ⟨by decide, by decide⟩ (fun c62 => ?_) (fun c62 => absurd c62 (by decide))
            refine v_iload_n 5 DX0_tellTerms_79W rfl rfl <| ?_
            obtain ⟨k63, h⟩ := h
            refine v_if_eq (tg := 93) DX0_tellTerms_80W (by decide) k63 (fun c64 => ?_) (fun c64 => ?_)
            · have h := h.1 c64
              refine v_iload 1 DX0_tellTerms_93W rfl <| v_istore DX0_tellTerms_95W (by decide) rfl <| v_iconst DX0_tellTerms_97W <| v_istore DX0_tellTerms_98W (by decide) rfl <| ?_
              exact v_pick [4, 6, 7, 1, 0] rfl h
            · have h := h.2 c64
              refine v_iload 1 DX0_tellTerms_83W rfl <| v_bipush DX0_tellTerms_85W ⟨by decide, by decide⟩ <| v_imin DX0_tellTerms_87W q1851 q554 q274 q555 y3f ⟨by decide, by decide⟩ (Nat.le_add_left 1 d) (Nat.le_of_ble_eq_true rfl) <| v_goto (pc' := 95) DX0_tellTerms_90W.1 (by decide) <| v_istore DX0_tellTerms_95W (by decide) rfl <| v_iconst DX0_tellTerms_97W <| v_istore DX0_tellTerms_98W (by decide) rfl <| ?_
              exact v_pick [4, 6, 7, 1, 0] rfl h
          · have h := h.2 c61
            refine v_if_ne (tg := 79) DX0_tellTerms_74W (by decide) ⟨by decide, by decide⟩ (fun c65 => absurd c65 (by decide)) (fun c65 => ?_)
            refine v_iconst DX0_tellTerms_77W <| ?_
            exact v_iret DX0_tellTerms_78W rfl rfl h
        · have h := h.2 c50
          refine v_bipush DX0_tellTerms_50W ⟨by decide, by decide⟩ <| ?_
          exact v_iret DX0_tellTerms_52W rfl rfl h
      · have h := h.2 c42
        refine v_if_ne (tg := 43) DX0_tellTerms_38W (by decide) ⟨by decide, by decide⟩ (fun c66 => absurd c66 (by decide)) (fun c66 => ?_)
        refine v_iconst DX0_tellTerms_41W <| ?_
        exact v_iret DX0_tellTerms_42W rfl rfl h
theorem ucX0_tellTerms_100W {E : XE} {d : Nat} {σ : Sto} {Q : Res → Sto → Prop} {K : Int} {V : Int} {x2 : Int} {x3 : Int} {x6 : Int} {x7 : Int} (hL : Lay σ)  (h : (inR (σ.I 18 7) → inR x7 ∧ ((σ.I 18 7) ≤ x7 → VV E mX0_tellTerms (d + 1) 216 [(0, aO 0), (7, aI (0))] [] σ Q) ∧ (x7 < (σ.I 18 7) → 0 ≤ x7 ∧ x7 < 36500 ∧ (-128 ≤ σ.I 20 x7 ∧ σ.I 20 x7 ≤ 127 → inR x2 ∧ ((σ.I 20 x7) = x2 → inR x3 ∧ (x3 = 0 → 1 ≤ d ∧ (0 ≤ x7 ∧ x7 < 36500) ∧ (0 ≤ x6 ∧ x6 ≤ 30000) ∧ (bd_0_20 σ 21 36500) ∧ ((x6 ≤ σ.I 21 x7 ∧ eqA (σ.I 19) (σ.I 1) (20 * x7) 0 x6) → 1 ≤ d ∧ (0 ≤ x7 ∧ x7 < σ.I 18 7 ∧ σ.I 18 7 < 36500) ∧ (0 ≤ σ.I 20 x7 ∧ σ.I 20 x7 < 12) ∧ (PT σ K) ∧ (PW σ V) ∧ (OBV σ K V) ∧ (∀ y24 : Int, y24 = (owX σ 136 x7 K V) → inR y24 → (y24 ≤ 0 → VV E mX0_tellTerms (d + 1) 100 [(0, aO 0), (2, aI (x2)), (3, aI (x3)), (6, aI (x6)), (7, aI (x7 + 1))] [] σ Q) ∧ (0 < y24 → 5 ≤ d ∧ (0 ≤ σ.I 0 88 ∧ σ.I 0 88 ≤ 10) ∧ (0 ≤ x7 ∧ x7 < 36500) ∧ (inR y24) ∧ (inR (0 : Int)) ∧ (bd_0_20 σ 21 36500) ∧ (bd_0_36499 σ 201 11) ∧ (∀ σ33 : Sto, SF σ σ33 → (RD σ σ33 (fun c i => if rg c i 201 (ip (fun j => tbX σ x7 y24 (0 : Int) j) (σ.I 0 88) + 1) ((σ.I 0 88) + 1) ∨ rg c i 202 (ip (fun j => tbX σ x7 y24 (0 : Int) j) (σ.I 0 88) + 1) ((σ.I 0 88) + 1) ∨ rg c i 203 (ip (fun j => tbX σ x7 y24 (0 : Int) j) (σ.I 0 88) + 1) ((σ.I 0 88) + 1) then σ.I c (i - 1) else if at2 c i 201 (ip (fun j => tbX σ x7 y24 (0 : Int) j) (σ.I 0 88)) then x7 else if at2 c i 202 (ip (fun j => tbX σ x7 y24 (0 : Int) j) (σ.I 0 88)) then y24 else if at2 c i 203 (ip (fun j => tbX σ x7 y24 (0 : Int) j) (σ.I 0 88)) then (0 : Int) else if at2 c i 0 88 then min (σ.I 0 88 + 1) 10 else σ.I c i)) → VV E mX0_tellTerms (d + 1) 100 [(0, aO 0), (2, aI (x2)), (3, aI (x3)), (6, aI (x6)), (7, aI (x7 + 1))] [] σ33 Q)))) ∧ (¬ (x6 ≤ σ.I 21 x7 ∧ eqA (σ.I 19) (σ.I 1) (20 * x7) 0 x6) → VV E mX0_tellTerms (d + 1) 100 [(0, aO 0), (2, aI (x2)), (3, aI (x3)), (6, aI (x6)), (7, aI (x7 + 1))] [] σ Q)) ∧ (x3 ≠ 0 → 2 ≤ d ∧ (0 ≤ (0 : Int) ∧ 0 ≤ x6 ∧ x6 ≤ 20 ∧ (0 : Int) + x6 ≤ 30000 ∧ (30000 : Int) ≤ 1000000) ∧ (0 ≤ x7 ∧ x7 < 36500) ∧ (bd_0_20 σ 21 36500) ∧ (0 ≤ (2 : Int) ∧ (2 : Int) ≤ 9) ∧ (1 ≠ 81 ∧ 1 ≠ 19) ∧ (∀ (y44 : Int) (σ43 : Sto), inR y44 → SF σ σ43 → ((y44 = min (ed (σ.I 1) (0 : Int) (σ.I 19) (20 * x7) x6 (σ.I 21 x7)) ((2 : Int) + 1)) ∧ (KC σ σ43)) → (y44 ≤ 2 → 1 ≤ d ∧ (0 ≤ x7 ∧ x7 < σ43.I 18 7 ∧ σ43.I 18 7 < 36500) ∧ (0 ≤ σ43.I 20 x7 ∧ σ43.I 20 x7 < 12) ∧ (PT σ43 K) ∧ (PW σ43 V) ∧ (OBV σ43 K V) ∧ (∀ y52 : Int, y52 = (owX σ43 136 x7 K V) → inR y52 → (y52 ≤ 0 → VV E mX0_tellTerms (d + 1) 100 [(0, aO 0), (2, aI (x2)), (3, aI (x3)), (6, aI (x6)), (7, aI (x7 + 1))] [] σ43 Q) ∧ (0 < y52 → 5 ≤ d ∧ (0 ≤ σ43.I 0 88 ∧ σ43.I 0 88 ≤ 10) ∧ (0 ≤ x7 ∧ x7 < 36500) ∧ (inR y52) ∧ (inR y44) ∧ (bd_0_20 σ43 21 36500) ∧ (bd_0_36499 σ43 201 11) ∧ (∀ σ61 : Sto, SF σ43 σ61 → (RD σ43 σ61 (fun c i => if rg c i 201 (ip (fun j => tbX σ43 x7 y52 y44 j) (σ43.I 0 88) + 1) ((σ43.I 0 88) + 1) ∨ rg c i 202 (ip (fun j => tbX σ43 x7 y52 y44 j) (σ43.I 0 88) + 1) ((σ43.I 0 88) + 1) ∨ rg c i 203 (ip (fun j => tbX σ43 x7 y52 y44 j) (σ43.I 0 88) + 1) ((σ43.I 0 88) + 1) then σ43.I c (i - 1) else if at2 c i 201 (ip (fun j => tbX σ43 x7 y52 y44 j) (σ43.I 0 88)) then x7 else if at2 c i 202 (ip (fun j => tbX σ43 x7 y52 y44 j) (σ43.I 0 88)) then y52 else if at2 c i 203 (ip (fun j => tbX σ43 x7 y52 y44 j) (σ43.I 0 88)) then y44 else if at2 c i 0 88 then min (σ43.I 0 88 + 1) 10 else σ43.I c i)) → VV E mX0_tellTerms (d + 1) 100 [(0, aO 0), (2, aI (x2)), (3, aI (x3)), (6, aI (x6)), (7, aI (x7 + 1))] [] σ61 Q)))) ∧ (2 < y44 → VV E mX0_tellTerms (d + 1) 100 [(0, aO 0), (2, aI (x2)), (3, aI (x3)), (6, aI (x6)), (7, aI (x7 + 1))] [] σ43 Q)))) ∧ ((σ.I 20 x7) ≠ x2 → VV E mX0_tellTerms (d + 1) 100 [(0, aO 0), (2, aI (x2)), (3, aI (x3)), (6, aI (x6)), (7, aI (x7 + 1))] [] σ Q))))) : VV E mX0_tellTerms (d + 1) 100 [(0, aO 0), (2, aI (x2)), (3, aI (x3)), (6, aI (x6)), (7, aI (x7))] [] σ Q := by
  refine v_iload 4 DX0_tellTerms_100W rfl <| v_aload_n 0 DX0_tellTerms_102W rfl rfl <| w_getR (ci := 0) (kf := 10) (kz := 10) DX0_tellTerms_103W (s_0 hL) rfl (by decide) rfl (Or.inl q1013) (fun _ _ => rfl) (r_0_10 hL) <| ?_
  refine w_getI (ci := 2) (kf := 7) (kz := 7) DX0_tellTerms_106W (s_18 hL) rfl (by decide) rfl (Or.inr ⟨_, q687⟩) (fun _ _ => rfl) (fun f1 => ?_)
  have h := h f1
  obtain ⟨k2, h⟩ := h
  refine v_icmp_ge (tg := 213) DX0_tellTerms_109W (by decide) k2 f1 (fun c3 => ?_) (fun c3 => ?_)
  · have h := h.1 c3
    refine v_iconst DX0_tellTerms_213W <| v_istore DX0_tellTerms_214W (by decide) rfl <| ?_
    exact v_pick [1, 0] rfl h
  · have h := h.2 c3
    refine v_aload_n 0 DX0_tellTerms_112W rfl rfl <| w_getR (ci := 0) (kf := 10) (kz := 10) DX0_tellTerms_113W (s_0 hL) rfl (by decide) rfl (Or.inl q1013) (fun _ _ => rfl) (r_0_10 hL) <| w_getR (ci := 2) (kf := 1) (kz := 1) DX0_tellTerms_116W (s_18 hL) rfl (by decide) rfl (Or.inr ⟨_, q672⟩) (fun _ _ => rfl) (r_18_1 hL) <| v_iload 4 DX0_tellTerms_119W rfl <| ?_
    obtain ⟨k4, k5, h⟩ := h
    refine v_bald DX0_tellTerms_121W (s_20 hL) k4 k5 (fun f6 => ?_)
    have h := h f6
    refine v_iload_n 1 DX0_tellTerms_122W rfl rfl <| ?_
    obtain ⟨k7, h⟩ := h
    refine v_icmp_eq (tg := 129) DX0_tellTerms_123W (by decide) (inR_b f6) k7 (fun c8 => ?_) (fun c8 => ?_)
    · have h := h.1 c8
      refine v_iload_n 2 DX0_tellTerms_129W rfl rfl <| ?_
      obtain ⟨k9, h⟩ := h
      refine v_if_eq (tg := 150) DX0_tellTerms_130W (by decide) k9 (fun c10 => ?_) (fun c10 => ?_)
      · have h := h.1 c10
        refine v_aload_n 0 DX0_tellTerms_150W rfl rfl <| v_iload 4 DX0_tellTerms_151W rfl <| v_iload 3 DX0_tellTerms_153W rfl <| ?_
        obtain ⟨k11, h⟩ := h
        obtain ⟨k12, k13, k14, h⟩ := h
        refine v_invV (ci := 0) (as := [aI (x7), aI (x6)]) (st := []) DX0_tellTerms_155W rfl okX0_begins (Or.inl q2010) q2012 (s_0 hL) rfl qs91 npX0_begins (sp_X0_begins (σ := σ) (x1 := x7) (x2 := x6) k11 hL k12 k13 k14) (Nat.le_of_ble_eq_true rfl) (Nat.le_refl _) (Nat.le_of_ble_eq_true rfl) (RZ_ret (fun c15 => ?_) (fun c15 => ?_)) RZ_thr
        · have h := h.1 c15
          refine v_if_eq (tg := 165) DX0_tellTerms_158W (by decide) ⟨by decide, by decide⟩ (fun c16 => absurd c16 (by decide)) (fun c16 => ?_)
          refine v_iconst DX0_tellTerms_161W <| v_goto (pc' := 166) DX0_tellTerms_162W.1 (by decide) <| v_istore DX0_tellTerms_166W (by decide) rfl <| v_iload 0 DX0_tellTerms_168W rfl <| v_iconst DX0_tellTerms_170W <| ?_
          refine v_icmp_le (tg := 178) DX0_tellTerms_171W (by decide) ⟨by decide, by decide⟩ ⟨by decide, by decide⟩ (fun c17 => ?_) (fun c17 => absurd c17 (by decide))
          refine v_aload_n 1 DX0_tellTerms_178W rfl rfl <| w_getR (ci := 0) (kf := 61) (kz := 61) DX0_tellTerms_179W (s_0 hL) rfl (by decide) rfl (Or.inl q1107) (fun _ _ => rfl) (r_0_61 hL) <| w_getR (ci := 5) (kf := 1) (kz := 1) DX0_tellTerms_182W (s_121 hL) rfl (by decide) rfl (Or.inr ⟨_, q888⟩) (fun _ _ => rfl) (r_121_1 hL) <| v_iload 5 DX0_tellTerms_185W rfl <| ?_
          obtain ⟨k18, h⟩ := h
          obtain ⟨k19, k20, k21, k22, k23, h⟩ := h
          refine v_invV (ci := 6) (as := [aI (x7)]) (st := []) DX0_tellTerms_187W rfl okX6_objectsWith (Or.inl q2014) q1774 (s_136 hL) rfl q1775 npX6_objectsWith (sp_X6_objectsWith (σ := σ) (o0 := 136) (x1 := x7) (K := K) (V := V) k18 hL (lat_136 hL) k19 k20 k21 k22 k23) (Nat.le_of_ble_eq_true rfl) (Nat.le_refl _) (Nat.le_of_ble_eq_true rfl) (RI_ret (fun y24 y24e y24f => ?_)) RI_thr
          have h := h y24 y24e y24f
          refine v_istore DX0_tellTerms_190W (by decide) rfl <| v_iload 0 DX0_tellTerms_192W rfl <| ?_
          refine v_if_le (tg := 207) DX0_tellTerms_194W (by decide) y24f (fun c25 => ?_) (fun c25 => ?_)
          · have h := h.1 c25
            refine v_iinc 6 DX0_tellTerms_207W rfl (by decide) rfl <| v_goto (pc' := 100) DX0_tellTerms_210W.1 (by decide) <| ?_
            exact v_pick [3, 4, 5, 6, 0] rfl h
          · have h := h.2 c25
            refine v_aload_n 2 DX0_tellTerms_197W rfl rfl <| v_iload 6 DX0_tellTerms_198W rfl <| v_iload 0 DX0_tellTerms_200W rfl <| v_iload 1 DX0_tellTerms_202W rfl <| ?_
            obtain ⟨k26, h⟩ := h
            obtain ⟨k27, k28, k29, k30, k31, k32, h⟩ := h
            refine v_invV (ci := 0) (as := [aI (x7), aI (y24), aI (0)]) (st := []) DX0_tellTerms_204W rfl okX0_tellTerm (Or.inl q2015) q2017 (s_0 hL) rfl qs92 npX0_tellTerm (sp_X0_tellTerm (σ := σ) (x1 := x7) (x2 := y24) (x3 := (0 : Int)) k26 hL k27 k28 k29 k30 k31 k32) (Nat.le_of_ble_eq_true rfl) (Nat.le_refl _) (Nat.le_of_ble_eq_true rfl) (RV_ret (fun σ33 gσ33 eσ33 => ?_)) RV_thr
            have h := h σ33 gσ33 eσ33
            refine v_iinc 6 DX0_tellTerms_207W rfl (by decide) rfl <| v_goto (pc' := 100) DX0_tellTerms_210W.1 (by decide) <| ?_
            exact v_pick [3, 4, 5, 6, 0] rfl h
        · have h := h.2 c15
          refine v_if_eq (tg := 165) DX0_tellTerms_158W (by decide) ⟨by decide, by decide⟩ (fun c34 => ?_) (fun c34 => absurd c34 (by decide))
          refine v_iconst DX0_tellTerms_165W <| v_istore DX0_tellTerms_166W (by decide) rfl <| v_iload 0 DX0_tellTerms_168W rfl <| v_iconst DX0_tellTerms_170W <| ?_
          refine v_icmp_le (tg := 178) DX0_tellTerms_171W (by decide) ⟨by decide, by decide⟩ ⟨by decide, by decide⟩ (fun c35 => absurd c35 (by decide)) (fun c35 => ?_)
          refine v_iconst DX0_tellTerms_174W <| v_goto (pc' := 190) DX0_tellTerms_175W.1 (by decide) <| v_istore DX0_tellTerms_190W (by decide) rfl <| v_iload 0 DX0_tellTerms_192W rfl <| ?_
          refine v_if_le (tg := 207) DX0_tellTerms_194W (by decide) ⟨by decide, by decide⟩ (fun c36 => ?_) (fun c36 => absurd c36 (by decide))
          refine v_iinc 6 DX0_tellTerms_207W rfl (by decide) rfl <| v_goto (pc' := 100) DX0_tellTerms_210W.1 (by decide) <| ?_
          exact v_pick [3, 4, 5, 6, 0] rfl h
      · have h := h.2 c10
        refine v_aload_n 0 DX0_tellTerms_133W rfl rfl <| v_aload_n 0 DX0_tellTerms_134W rfl rfl <| w_getR (ci := 0) (kf := 0) (kz := 0) DX0_tellTerms_135W (s_0 hL) rfl (by decide) rfl (Or.inl q990) (fun _ _ => rfl) (r_0_0 hL) <| v_iconst DX0_tellTerms_138W <| v_iload 3 DX0_tellTerms_139W rfl <| v_iload 4 DX0_tellTerms_141W rfl <| v_iconst DX0_tellTerms_143W <| ?_
        obtain ⟨k37, h⟩ := h
        obtain ⟨k38, k39, k40, k41, k42, h⟩ := h
        refine v_invV (ci := 0) (as := [aO 1, aI (0), aI (x6), aI (x7), aI (2)]) (st := []) DX0_tellTerms_144W rfl okX0_changes (Or.inl q2009) q1849 (s_0 hL) rfl qs74 npX0_changes (sp_X0_changes (σ := σ) (o1 := 1) (n1 := 30000) (x2 := (0 : Int)) (x3 := x6) (x4 := x7) (x5 := (2 : Int)) k37 hL (s_1 hL) k38 k39 k40 k41 k42) (Nat.le_of_ble_eq_true rfl) (Nat.le_refl _) (Nat.le_of_ble_eq_true rfl) (RVI_ret (fun y44 σ43 y44f gσ43 eσ43 => ?_)) RVI_thr
        have h := h y44 σ43 y44f gσ43 eσ43
        refine v_goto (pc' := 166) DX0_tellTerms_147W.1 (by decide) <| v_istore DX0_tellTerms_166W (by decide) rfl <| v_iload 0 DX0_tellTerms_168W rfl <| v_iconst DX0_tellTerms_170W <| ?_
        refine v_icmp_le (tg := 178) DX0_tellTerms_171W (by decide) y44f ⟨by decide, by decide⟩ (fun c45 => ?_) (fun c45 => ?_)
        · have h := h.1 c45
          refine v_aload_n 1 DX0_tellTerms_178W rfl rfl <| w_getR (ci := 0) (kf := 61) (kz := 61) DX0_tellTerms_179W (s_0 (hL.sf gσ43)) rfl (by decide) rfl (Or.inl q1107) (fun _ _ => rfl) (r_0_61 (hL.sf gσ43)) <| w_getR (ci := 5) (kf := 1) (kz := 1) DX0_tellTerms_182W (s_121 (hL.sf gσ43)) rfl (by decide) rfl (Or.inr ⟨_, q888⟩) (fun _ _ => rfl) (r_121_1 (hL.sf gσ43)) <| v_iload 5 DX0_tellTerms_185W rfl <| ?_
          obtain ⟨k46, h⟩ := h
          obtain ⟨k47, k48, k49, k50, k51, h⟩ := h
          refine v_invV (ci := 6) (as := [aI (x7)]) (st := []) DX0_tellTerms_187W rfl okX6_objectsWith (Or.inl q2014) q1774 (s_136 (hL.sf gσ43)) rfl q1775 npX6_objectsWith (sp_X6_objectsWith (σ := σ43) (o0 := 136) (x1 := x7) (K := K) (V := V) k46 (hL.sf gσ43) (lat_136 (hL.sf gσ43)) k47 k48 k49 k50 k51) (Nat.le_of_ble_eq_true rfl) (Nat.le_refl _) (Nat.le_of_ble_eq_true rfl) (RI_ret (fun y52 y52e y52f => ?_)) RI_thr
          have h := h y52 y52e y52f
          refine v_istore DX0_tellTerms_190W (by decide) rfl <| v_iload 0 DX0_tellTerms_192W rfl <| ?_
          refine v_if_le (tg := 207) DX0_tellTerms_194W (by decide) y52f (fun c53 => ?_) (fun c53 => ?_)
          · have h := h.1 c53
            refine v_iinc 6 DX0_tellTerms_207W rfl (by decide) rfl <| v_goto (pc' := 100) DX0_tellTerms_210W.1 (by decide) <| ?_
            exact v_pick [3, 4, 5, 6, 0] rfl h
          · have h := h.2 c53
            refine v_aload_n 2 DX0_tellTerms_197W rfl rfl <| v_iload 6 DX0_tellTerms_198W rfl <| v_iload 0 DX0_tellTerms_200W rfl <| v_iload 1 DX0_tellTerms_202W rfl <| ?_
            obtain ⟨k54, h⟩ := h
            obtain ⟨k55, k56, k57, k58, k59, k60, h⟩ := h
            refine v_invV (ci := 0) (as := [aI (x7), aI (y52), aI (y44)]) (st := []) DX0_tellTerms_204W rfl okX0_tellTerm (Or.inl q2015) q2017 (s_0 (hL.sf gσ43)) rfl qs92 npX0_tellTerm (sp_X0_tellTerm (σ := σ43) (x1 := x7) (x2 := y52) (x3 := y44) k54 (hL.sf gσ43) k55 k56 k57 k58 k59 k60) (Nat.le_of_ble_eq_true rfl) (Nat.le_refl _) (Nat.le_of_ble_eq_true rfl) (RV_ret (fun σ61 gσ61 eσ61 => ?_)) RV_thr
            have h := h σ61 gσ61 eσ61
            refine v_iinc 6 DX0_tellTerms_207W rfl (by decide) rfl <| v_goto (pc' := 100) DX0_tellTerms_210W.1 (by decide) <| ?_
            exact v_pick [3, 4, 5, 6, 0] rfl h
        · have h := h.2 c45
          refine v_iconst DX0_tellTerms_174W <| v_goto (pc' := 190) DX0_tellTerms_175W.1 (by decide) <| v_istore DX0_tellTerms_190W (by decide) rfl <| v_iload 0 DX0_tellTerms_192W rfl <| ?_
          refine v_if_le (tg := 207) DX0_tellTerms_194W (by decide) ⟨by decide, by decide⟩ (fun c62 => ?_) (fun c62 => absurd c62 (by decide))
          refine v_iinc 6 DX0_tellTerms_207W rfl (by decide) rfl <| v_goto (pc' := 100) DX0_tellTerms_210W.1 (by decide) <| ?_
          exact v_pick [3, 4, 5, 6, 0] rfl h
    · have h := h.2 c8
      refine v_goto (pc' := 207) DX0_tellTerms_126W.1 (by decide) <| v_iinc 4 DX0_tellTerms_207W rfl (by decide) rfl <| v_goto (pc' := 100) DX0_tellTerms_210W.1 (by decide) <| ?_
      exact v_pick [1, 2, 3, 4, 0] rfl h
theorem ucX0_tellTerms_216W {E : XE} {d : Nat} {σ : Sto} {Q : Res → Sto → Prop} {K : Int} {V : Int} {x7 : Int} (hL : Lay σ)  (h : (inR (σ.I 0 88) → inR x7 ∧ ((σ.I 0 88) ≤ x7 → Q (.inl (some (aI (σ.I 0 88)))) σ) ∧ (x7 < (σ.I 0 88) → 0 ≤ x7 ∧ x7 < 11 ∧ (inR (σ.I 201 x7) → 0 ≤ (σ.I 201 x7) ∧ (σ.I 201 x7) < 36500 ∧ (-128 ≤ σ.I 21 (σ.I 201 x7) ∧ σ.I 21 (σ.I 201 x7) ≤ 127 → 0 ≤ x7 ∧ x7 < 10 ∧ (∀ σ12 : Sto, σ12 = σ.wI 205 x7 (σ.I 21 (σ.I 201 x7)) → SF σ σ12 → 0 ≤ x7 ∧ x7 < 11 ∧ (inR (σ12.I 201 x7) → 0 ≤ x7 ∧ x7 < 10 ∧ (inR (σ12.I 205 x7) → 0 ≤ (20 * (σ12.I 201 x7)) ∧ 0 ≤ (20 * x7) ∧ 0 ≤ (σ12.I 205 x7) ∧ (20 * (σ12.I 201 x7)) + (σ12.I 205 x7) ≤ 730000 ∧ (20 * x7) + (σ12.I 205 x7) ≤ 200 ∧ (∀ σ24 : Sto, σ24 = σ12.cp 19 (20 * (σ12.I 201 x7)) 204 (20 * x7) (σ12.I 205 x7) → SF σ12 σ24 → VV E mX0_tellTerms (d + 1) 216 [(0, aO 0), (7, aI (x7 + 1))] [] σ24 Q))))))))) : VV E mX0_tellTerms (d + 1) 216 [(0, aO 0), (7, aI (x7))] [] σ Q := by
  refine v_iload 1 DX0_tellTerms_216W rfl <| v_aload_n 0 DX0_tellTerms_218W rfl rfl <| ?_
  refine w_getI (ci := 0) (kf := 88) (kz := 88) DX0_tellTerms_219W (s_0 hL) rfl (by decide) rfl (Or.inl q1134) (fun _ _ => rfl) (fun f1 => ?_)
  have h := h f1
  obtain ⟨k2, h⟩ := h
  refine v_icmp_ge (tg := 289) DX0_tellTerms_222W (by decide) k2 f1 (fun c3 => ?_) (fun c3 => ?_)
  · have h := h.1 c3
    refine v_aload_n 0 DX0_tellTerms_289W rfl rfl <| ?_
    refine w_getI (ci := 0) (kf := 88) (kz := 88) DX0_tellTerms_290W (s_0 hL) rfl (by decide) rfl (Or.inl q1134) (fun _ _ => rfl) (fun _ => ?_)
    exact v_iret DX0_tellTerms_293W rfl rfl h
  · have h := h.2 c3
    refine v_aload_n 0 DX0_tellTerms_225W rfl rfl <| w_getR (ci := 0) (kf := 87) (kz := 87) DX0_tellTerms_226W (s_0 hL) rfl (by decide) rfl (Or.inl q1133) (fun _ _ => rfl) (r_0_87 hL) <| v_iload 1 DX0_tellTerms_229W rfl <| v_aload_n 0 DX0_tellTerms_231W rfl rfl <| w_getR (ci := 0) (kf := 10) (kz := 10) DX0_tellTerms_232W (s_0 hL) rfl (by decide) rfl (Or.inl q1013) (fun _ _ => rfl) (r_0_10 hL) <| w_getR (ci := 2) (kf := 2) (kz := 2) DX0_tellTerms_235W (s_18 hL) rfl (by decide) rfl (Or.inr ⟨_, q675⟩) (fun _ _ => rfl) (r_18_2 hL) <| v_aload_n 0 DX0_tellTerms_238W rfl rfl <| w_getR (ci := 0) (kf := 83) (kz := 83) DX0_tellTerms_239W (s_0 hL) rfl (by decide) rfl (Or.inl q1129) (fun _ _ => rfl) (r_0_83 hL) <| v_iload 1 DX0_tellTerms_242W rfl <| ?_
    obtain ⟨k4, k5, h⟩ := h
    refine v_iald DX0_tellTerms_244W (s_201 hL) k4 k5 (fun f6 => ?_)
    have h := h f6
    obtain ⟨k7, k8, h⟩ := h
    refine v_bald DX0_tellTerms_245W (s_21 hL) k7 k8 (fun f9 => ?_)
    have h := h f9
    obtain ⟨k10, k11, h⟩ := h
    refine w_iast DX0_tellTerms_246W (s_205 hL) k10 k11 (inR_b f9) (fun σ12 eσ12 gσ12 => ?_)
    have h := h σ12 eσ12 gσ12
    refine v_aload_n 0 DX0_tellTerms_247W rfl rfl <| w_getR (ci := 0) (kf := 10) (kz := 10) DX0_tellTerms_248W (s_0 (hL.sf gσ12)) rfl (by decide) rfl (Or.inl q1013) (fun _ _ => rfl) (r_0_10 (hL.sf gσ12)) <| w_getR (ci := 2) (kf := 0) (kz := 0) DX0_tellTerms_251W (s_18 (hL.sf gσ12)) rfl (by decide) rfl (Or.inr ⟨_, q668⟩) (fun _ _ => rfl) (r_18_0 (hL.sf gσ12)) <| v_bipush DX0_tellTerms_254W ⟨by decide, by decide⟩ <| v_aload_n 0 DX0_tellTerms_256W rfl rfl <| w_getR (ci := 0) (kf := 83) (kz := 83) DX0_tellTerms_257W (s_0 (hL.sf gσ12)) rfl (by decide) rfl (Or.inl q1129) (fun _ _ => rfl) (r_0_83 (hL.sf gσ12)) <| v_iload 1 DX0_tellTerms_260W rfl <| ?_
    obtain ⟨k13, k14, h⟩ := h
    refine v_iald DX0_tellTerms_262W (s_201 (hL.sf gσ12)) k13 k14 (fun f15 => ?_)
    have h := h f15
    refine v_imul DX0_tellTerms_263W <| v_aload_n 0 DX0_tellTerms_264W rfl rfl <| w_getR (ci := 0) (kf := 86) (kz := 86) DX0_tellTerms_265W (s_0 (hL.sf gσ12)) rfl (by decide) rfl (Or.inl q1132) (fun _ _ => rfl) (r_0_86 (hL.sf gσ12)) <| v_bipush DX0_tellTerms_268W ⟨by decide, by decide⟩ <| v_iload 1 DX0_tellTerms_270W rfl <| v_imul DX0_tellTerms_272W <| v_aload_n 0 DX0_tellTerms_273W rfl rfl <| w_getR (ci := 0) (kf := 87) (kz := 87) DX0_tellTerms_274W (s_0 (hL.sf gσ12)) rfl (by decide) rfl (Or.inl q1133) (fun _ _ => rfl) (r_0_87 (hL.sf gσ12)) <| v_iload 1 DX0_tellTerms_277W rfl <| ?_
    obtain ⟨k16, k17, h⟩ := h
    refine v_iald DX0_tellTerms_279W (s_205 (hL.sf gσ12)) k16 k17 (fun f18 => ?_)
    have h := h f18
    obtain ⟨k19, k20, k21, k22, k23, h⟩ := h
    refine w_copy DX0_tellTerms_280W q1379 q406 q405 q269 (s_19 (hL.sf gσ12)) (s_204 (hL.sf gσ12)) (by decide) k19 k20 k21 k22 k23 (Nat.le_add_left 1 d) (Nat.le_of_ble_eq_true rfl) (fun σ24 eσ24 gσ24 => ?_)
    have h := h σ24 eσ24 gσ24
    refine v_iinc 1 DX0_tellTerms_283W rfl (by decide) rfl <| v_goto (pc' := 216) DX0_tellTerms_286W.1 (by decide) <| ?_
    exact v_pick [1, 0] rfl h
theorem sp_X0_tellTermsW {E : XE} {d : Nat} {σ : Sto} {K : Int} {V : Int} {x1 : Int} {x2 : Int} {x3 : Int} (hd : 528 ≤ d) (hL : Lay σ)  (p0 : inR x1) (p1 : 0 ≤ σ.I 0 46 ∧ σ.I 0 46 < 4) (p2 : BSX σ K V) (p3 : 0 < σ.I 0 46 → σ.I (ubX σ) 1 ≠ 0 → QLX σ (ubX σ)) (p4 : PBD σ 155) (p5 : inR x2) (p6 : 0 ≤ x3 ∧ x3 ≤ 1) (p7 : (1 ≤ σ.I 0 96 ∧ σ.I 0 96 ≤ 8) ∧ (1 ≤ σ.I 0 95 ∧ σ.I 0 95 ≤ 8)) (p8 : bd_0_1000000 σ 211 8) (p9 : inR (if x1 = -1 then σ.I 0 40 else if 0 ≤ x1 ∧ x1 ≤ 3 then σ.I 48 x1 else -1)) (p10 : 0 ≤ σ.I 0 1 ∧ σ.I 0 1 ≤ 30000) (p11 : TUB σ) (p12 : bd_0_36499 σ 201 11) : CC E mX0_tellTerms d [aO 0, aI (x1), aI (x2), aI (x3)] σ (RVI (fun y τ => ((¬ (0 ≤ (if x1 = -1 then σ.I 0 40 else if 0 ≤ x1 ∧ x1 ≤ 3 then σ.I 48 x1 else -1) ∧ (0 ≤ x2 ∧ x2 < σ.I 0 9) ∧ (σ.I 16 x2 = 0 ∨ σ.I 16 x2 = 1)) ∧ y = -1 ∧ RD σ τ (fun c i => if c = 0 ∧ (i = 1 ∨ i = 88) then 0 else σ.I c i)) ∨ ((0 ≤ (if x1 = -1 then σ.I 0 40 else if 0 ≤ x1 ∧ x1 ≤ 3 then σ.I 48 x1 else -1) ∧ (0 ≤ x2 ∧ x2 < σ.I 0 9) ∧ (σ.I 16 x2 = 0 ∨ σ.I 16 x2 = 1)) ∧ ¬ alN (fun s => 0 ≤ nOf (σ.I 210) (σ.I 0 96) s) (σ.I 0 95) ∧ y = -4 ∧ RD σ τ (fun c i => if c = 0 ∧ (i = 1 ∨ i = 88) then 0 else σ.I c i)) ∨ ((0 ≤ (if x1 = -1 then σ.I 0 40 else if 0 ≤ x1 ∧ x1 ≤ 3 then σ.I 48 x1 else -1) ∧ (0 ≤ x2 ∧ x2 < σ.I 0 9) ∧ (σ.I 16 x2 = 0 ∨ σ.I 16 x2 = 1)) ∧ alN (fun s => 0 ≤ nOf (σ.I 210) (σ.I 0 96) s) (σ.I 0 95) ∧ y = 0 ∧ ∃ ς, TY0 σ ς ∧ WNY ς τ K V (if x1 = -1 then σ.I 0 40 else if 0 ≤ x1 ∧ x1 ≤ 3 then σ.I 48 x1 else -1) ∧ bt32 (τ.I 136 1) x2) ∨ ((0 ≤ (if x1 = -1 then σ.I 0 40 else if 0 ≤ x1 ∧ x1 ≤ 3 then σ.I 48 x1 else -1) ∧ (0 ≤ x2 ∧ x2 < σ.I 0 9) ∧ (σ.I 16 x2 = 0 ∨ σ.I 16 x2 = 1)) ∧ alN (fun s => 0 ≤ nOf (σ.I 210) (σ.I 0 96) s) (σ.I 0 95) ∧ y = τ.I 0 88 ∧ TT2 σ τ K V (if x1 = -1 then σ.I 0 40 else if 0 ≤ x1 ∧ x1 ≤ 3 then σ.I 48 x1 else -1) x2 (if x3 ≠ 0 then min (σ.I 0 1) 20 else σ.I 0 1) x3 (τ.I 0 88))) ∧ (PBD τ 155))) := by
  obtain ⟨d, rfl⟩ : ∃ e, d = e + 1 := ⟨d - 1, by omega⟩
  have p0a := p0.1; have p0b := p0.2
  have p5a := p5.1; have p5b := p5.2
  have p9a := p9.1; have p9b := p9.2
  have hnx := p2.2.1
  have hfc := p2.1.1
  have key : ∀ wa wb wc : Nat, (∀ (x6 : Int) (x7 : Int) (τ : Sto), SF σ τ → ((TT1 σ τ K V (if x1 = -1 then σ.I 0 40 else if 0 ≤ x1 ∧ x1 ≤ 3 then σ.I 48 x1 else -1) x2 (if x3 ≠ 0 then min (σ.I 0 1) 20 else σ.I 0 1) x3 x7) ∧ (0 ≤ x7 ∧ x7 ≤ τ.I 18 7 ∧ τ.I 18 7 < 36500) ∧ ((0 ≤ (if x1 = -1 then σ.I 0 40 else if 0 ≤ x1 ∧ x1 ≤ 3 then σ.I 48 x1 else -1) ∧ (0 ≤ x2 ∧ x2 < σ.I 0 9) ∧ (σ.I 16 x2 = 0 ∨ σ.I 16 x2 = 1)) ∧ alN (fun s => 0 ≤ nOf (σ.I 210) (σ.I 0 96) s) (σ.I 0 95)) ∧ (BSX τ K V) ∧ (TUB τ) ∧ (PBD τ 155) ∧ (x6 = (if x3 ≠ 0 then min (σ.I 0 1) 20 else σ.I 0 1))) → wa = 1 → wb = (36500 - x7).toNat → wc = 0 → VV E mX0_tellTerms (d + 1) 100 [(0, aO 0), (2, aI (x2)), (3, aI (x3)), (6, aI (x6)), (7, aI (x7))] [] τ (RVI (fun y τ => ((¬ (0 ≤ (if x1 = -1 then σ.I 0 40 else if 0 ≤ x1 ∧ x1 ≤ 3 then σ.I 48 x1 else -1) ∧ (0 ≤ x2 ∧ x2 < σ.I 0 9) ∧ (σ.I 16 x2 = 0 ∨ σ.I 16 x2 = 1)) ∧ y = -1 ∧ RD σ τ (fun c i => if c = 0 ∧ (i = 1 ∨ i = 88) then 0 else σ.I c i)) ∨ ((0 ≤ (if x1 = -1 then σ.I 0 40 else if 0 ≤ x1 ∧ x1 ≤ 3 then σ.I 48 x1 else -1) ∧ (0 ≤ x2 ∧ x2 < σ.I 0 9) ∧ (σ.I 16 x2 = 0 ∨ σ.I 16 x2 = 1)) ∧ ¬ alN (fun s => 0 ≤ nOf (σ.I 210) (σ.I 0 96) s) (σ.I 0 95) ∧ y = -4 ∧ RD σ τ (fun c i => if c = 0 ∧ (i = 1 ∨ i = 88) then 0 else σ.I c i)) ∨ ((0 ≤ (if x1 = -1 then σ.I 0 40 else if 0 ≤ x1 ∧ x1 ≤ 3 then σ.I 48 x1 else -1) ∧ (0 ≤ x2 ∧ x2 < σ.I 0 9) ∧ (σ.I 16 x2 = 0 ∨ σ.I 16 x2 = 1)) ∧ alN (fun s => 0 ≤ nOf (σ.I 210) (σ.I 0 96) s) (σ.I 0 95) ∧ y = 0 ∧ ∃ ς, TY0 σ ς ∧ WNY ς τ K V (if x1 = -1 then σ.I 0 40 else if 0 ≤ x1 ∧ x1 ≤ 3 then σ.I 48 x1 else -1) ∧ bt32 (τ.I 136 1) x2) ∨ ((0 ≤ (if x1 = -1 then σ.I 0 40 else if 0 ≤ x1 ∧ x1 ≤ 3 then σ.I 48 x1 else -1) ∧ (0 ≤ x2 ∧ x2 < σ.I 0 9) ∧ (σ.I 16 x2 = 0 ∨ σ.I 16 x2 = 1)) ∧ alN (fun s => 0 ≤ nOf (σ.I 210) (σ.I 0 96) s) (σ.I 0 95) ∧ y = τ.I 0 88 ∧ TT2 σ τ K V (if x1 = -1 then σ.I 0 40 else if 0 ≤ x1 ∧ x1 ≤ 3 then σ.I 48 x1 else -1) x2 (if x3 ≠ 0 then min (σ.I 0 1) 20 else σ.I 0 1) x3 (τ.I 0 88))) ∧ (PBD τ 155)))) ∧ (∀ (x7 : Int) (τ : Sto), SF σ τ → ((TT2 σ τ K V (if x1 = -1 then σ.I 0 40 else if 0 ≤ x1 ∧ x1 ≤ 3 then σ.I 48 x1 else -1) x2 (if x3 ≠ 0 then min (σ.I 0 1) 20 else σ.I 0 1) x3 x7) ∧ (0 ≤ x7 ∧ x7 ≤ τ.I 0 88) ∧ ((0 ≤ (if x1 = -1 then σ.I 0 40 else if 0 ≤ x1 ∧ x1 ≤ 3 then σ.I 48 x1 else -1) ∧ (0 ≤ x2 ∧ x2 < σ.I 0 9) ∧ (σ.I 16 x2 = 0 ∨ σ.I 16 x2 = 1)) ∧ alN (fun s => 0 ≤ nOf (σ.I 210) (σ.I 0 96) s) (σ.I 0 95)) ∧ (bd_0_20 τ 21 36500) ∧ (τ.I 18 7 ≤ 36500) ∧ (PBD τ 155)) → wa = 0 → wb = (11 - x7).toNat → wc = 0 → VV E mX0_tellTerms (d + 1) 216 [(0, aO 0), (7, aI (x7))] [] τ (RVI (fun y τ => ((¬ (0 ≤ (if x1 = -1 then σ.I 0 40 else if 0 ≤ x1 ∧ x1 ≤ 3 then σ.I 48 x1 else -1) ∧ (0 ≤ x2 ∧ x2 < σ.I 0 9) ∧ (σ.I 16 x2 = 0 ∨ σ.I 16 x2 = 1)) ∧ y = -1 ∧ RD σ τ (fun c i => if c = 0 ∧ (i = 1 ∨ i = 88) then 0 else σ.I c i)) ∨ ((0 ≤ (if x1 = -1 then σ.I 0 40 else if 0 ≤ x1 ∧ x1 ≤ 3 then σ.I 48 x1 else -1) ∧ (0 ≤ x2 ∧ x2 < σ.I 0 9) ∧ (σ.I 16 x2 = 0 ∨ σ.I 16 x2 = 1)) ∧ ¬ alN (fun s => 0 ≤ nOf (σ.I 210) (σ.I 0 96) s) (σ.I 0 95) ∧ y = -4 ∧ RD σ τ (fun c i => if c = 0 ∧ (i = 1 ∨ i = 88) then 0 else σ.I c i)) ∨ ((0 ≤ (if x1 = -1 then σ.I 0 40 else if 0 ≤ x1 ∧ x1 ≤ 3 then σ.I 48 x1 else -1) ∧ (0 ≤ x2 ∧ x2 < σ.I 0 9) ∧ (σ.I 16 x2 = 0 ∨ σ.I 16 x2 = 1)) ∧ alN (fun s => 0 ≤ nOf (σ.I 210) (σ.I 0 96) s) (σ.I 0 95) ∧ y = 0 ∧ ∃ ς, TY0 σ ς ∧ WNY ς τ K V (if x1 = -1 then σ.I 0 40 else if 0 ≤ x1 ∧ x1 ≤ 3 then σ.I 48 x1 else -1) ∧ bt32 (τ.I 136 1) x2) ∨ ((0 ≤ (if x1 = -1 then σ.I 0 40 else if 0 ≤ x1 ∧ x1 ≤ 3 then σ.I 48 x1 else -1) ∧ (0 ≤ x2 ∧ x2 < σ.I 0 9) ∧ (σ.I 16 x2 = 0 ∨ σ.I 16 x2 = 1)) ∧ alN (fun s => 0 ≤ nOf (σ.I 210) (σ.I 0 96) s) (σ.I 0 95) ∧ y = τ.I 0 88 ∧ TT2 σ τ K V (if x1 = -1 then σ.I 0 40 else if 0 ≤ x1 ∧ x1 ≤ 3 then σ.I 48 x1 else -1) x2 (if x3 ≠ 0 then min (σ.I 0 1) 20 else σ.I 0 1) x3 (τ.I 0 88))) ∧ (PBD τ 155)))) := by
    refine lex3 (fun wa wb wc ih => ?_)
    have ih0 : ∀ (x6 : Int) (x7 : Int) (τ : Sto), SF σ τ → ((TT1 σ τ K V (if x1 = -1 then σ.I 0 40 else if 0 ≤ x1 ∧ x1 ≤ 3 then σ.I 48 x1 else -1) x2 (if x3 ≠ 0 then min (σ.I 0 1) 20 else σ.I 0 1) x3 x7) ∧ (0 ≤ x7 ∧ x7 ≤ τ.I 18 7 ∧ τ.I 18 7 < 36500) ∧ ((0 ≤ (if x1 = -1 then σ.I 0 40 else if 0 ≤ x1 ∧ x1 ≤ 3 then σ.I 48 x1 else -1) ∧ (0 ≤ x2 ∧ x2 < σ.I 0 9) ∧ (σ.I 16 x2 = 0 ∨ σ.I 16 x2 = 1)) ∧ alN (fun s => 0 ≤ nOf (σ.I 210) (σ.I 0 96) s) (σ.I 0 95)) ∧ (BSX τ K V) ∧ (TUB τ) ∧ (PBD τ 155) ∧ (x6 = (if x3 ≠ 0 then min (σ.I 0 1) 20 else σ.I 0 1))) → lt3 1 ((36500 - x7).toNat) 0 wa wb wc → VV E mX0_tellTerms (d + 1) 100 [(0, aO 0), (2, aI (x2)), (3, aI (x3)), (6, aI (x6)), (7, aI (x7))] [] τ (RVI (fun y τ => ((¬ (0 ≤ (if x1 = -1 then σ.I 0 40 else if 0 ≤ x1 ∧ x1 ≤ 3 then σ.I 48 x1 else -1) ∧ (0 ≤ x2 ∧ x2 < σ.I 0 9) ∧ (σ.I 16 x2 = 0 ∨ σ.I 16 x2 = 1)) ∧ y = -1 ∧ RD σ τ (fun c i => if c = 0 ∧ (i = 1 ∨ i = 88) then 0 else σ.I c i)) ∨ ((0 ≤ (if x1 = -1 then σ.I 0 40 else if 0 ≤ x1 ∧ x1 ≤ 3 then σ.I 48 x1 else -1) ∧ (0 ≤ x2 ∧ x2 < σ.I 0 9) ∧ (σ.I 16 x2 = 0 ∨ σ.I 16 x2 = 1)) ∧ ¬ alN (fun s => 0 ≤ nOf (σ.I 210) (σ.I 0 96) s) (σ.I 0 95) ∧ y = -4 ∧ RD σ τ (fun c i => if c = 0 ∧ (i = 1 ∨ i = 88) then 0 else σ.I c i)) ∨ ((0 ≤ (if x1 = -1 then σ.I 0 40 else if 0 ≤ x1 ∧ x1 ≤ 3 then σ.I 48 x1 else -1) ∧ (0 ≤ x2 ∧ x2 < σ.I 0 9) ∧ (σ.I 16 x2 = 0 ∨ σ.I 16 x2 = 1)) ∧ alN (fun s => 0 ≤ nOf (σ.I 210) (σ.I 0 96) s) (σ.I 0 95) ∧ y = 0 ∧ ∃ ς, TY0 σ ς ∧ WNY ς τ K V (if x1 = -1 then σ.I 0 40 else if 0 ≤ x1 ∧ x1 ≤ 3 then σ.I 48 x1 else -1) ∧ bt32 (τ.I 136 1) x2) ∨ ((0 ≤ (if x1 = -1 then σ.I 0 40 else if 0 ≤ x1 ∧ x1 ≤ 3 then σ.I 48 x1 else -1) ∧ (0 ≤ x2 ∧ x2 < σ.I 0 9) ∧ (σ.I 16 x2 = 0 ∨ σ.I 16 x2 = 1)) ∧ alN (fun s => 0 ≤ nOf (σ.I 210) (σ.I 0 96) s) (σ.I 0 95) ∧ y = τ.I 0 88 ∧ TT2 σ τ K V (if x1 = -1 then σ.I 0 40 else if 0 ≤ x1 ∧ x1 ≤ 3 then σ.I 48 x1 else -1) x2 (if x3 ≠ 0 then min (σ.I 0 1) 20 else σ.I 0 1) x3 (τ.I 0 88))) ∧ (PBD τ 155))) := fun z0 z1 z2 h0 h1 hlt => (ih _ _ _ hlt).1 z0 z1 z2 h0 h1 rfl rfl rfl
    have ih1 : ∀ (x7 : Int) (τ : Sto), SF σ τ → ((TT2 σ τ K V (if x1 = -1 then σ.I 0 40 else if 0 ≤ x1 ∧ x1 ≤ 3 then σ.I 48 x1 else -1) x2 (if x3 ≠ 0 then min (σ.I 0 1) 20 else σ.I 0 1) x3 x7) ∧ (0 ≤ x7 ∧ x7 ≤ τ.I 0 88) ∧ ((0 ≤ (if x1 = -1 then σ.I 0 40 else if 0 ≤ x1 ∧ x1 ≤ 3 then σ.I 48 x1 else -1) ∧ (0 ≤ x2 ∧ x2 < σ.I 0 9) ∧ (σ.I 16 x2 = 0 ∨ σ.I 16 x2 = 1)) ∧ alN (fun s => 0 ≤ nOf (σ.I 210) (σ.I 0 96) s) (σ.I 0 95)) ∧ (bd_0_20 τ 21 36500) ∧ (τ.I 18 7 ≤ 36500) ∧ (PBD τ 155)) → lt3 0 ((11 - x7).toNat) 0 wa wb wc → VV E mX0_tellTerms (d + 1) 216 [(0, aO 0), (7, aI (x7))] [] τ (RVI (fun y τ => ((¬ (0 ≤ (if x1 = -1 then σ.I 0 40 else if 0 ≤ x1 ∧ x1 ≤ 3 then σ.I 48 x1 else -1) ∧ (0 ≤ x2 ∧ x2 < σ.I 0 9) ∧ (σ.I 16 x2 = 0 ∨ σ.I 16 x2 = 1)) ∧ y = -1 ∧ RD σ τ (fun c i => if c = 0 ∧ (i = 1 ∨ i = 88) then 0 else σ.I c i)) ∨ ((0 ≤ (if x1 = -1 then σ.I 0 40 else if 0 ≤ x1 ∧ x1 ≤ 3 then σ.I 48 x1 else -1) ∧ (0 ≤ x2 ∧ x2 < σ.I 0 9) ∧ (σ.I 16 x2 = 0 ∨ σ.I 16 x2 = 1)) ∧ ¬ alN (fun s => 0 ≤ nOf (σ.I 210) (σ.I 0 96) s) (σ.I 0 95) ∧ y = -4 ∧ RD σ τ (fun c i => if c = 0 ∧ (i = 1 ∨ i = 88) then 0 else σ.I c i)) ∨ ((0 ≤ (if x1 = -1 then σ.I 0 40 else if 0 ≤ x1 ∧ x1 ≤ 3 then σ.I 48 x1 else -1) ∧ (0 ≤ x2 ∧ x2 < σ.I 0 9) ∧ (σ.I 16 x2 = 0 ∨ σ.I 16 x2 = 1)) ∧ alN (fun s => 0 ≤ nOf (σ.I 210) (σ.I 0 96) s) (σ.I 0 95) ∧ y = 0 ∧ ∃ ς, TY0 σ ς ∧ WNY ς τ K V (if x1 = -1 then σ.I 0 40 else if 0 ≤ x1 ∧ x1 ≤ 3 then σ.I 48 x1 else -1) ∧ bt32 (τ.I 136 1) x2) ∨ ((0 ≤ (if x1 = -1 then σ.I 0 40 else if 0 ≤ x1 ∧ x1 ≤ 3 then σ.I 48 x1 else -1) ∧ (0 ≤ x2 ∧ x2 < σ.I 0 9) ∧ (σ.I 16 x2 = 0 ∨ σ.I 16 x2 = 1)) ∧ alN (fun s => 0 ≤ nOf (σ.I 210) (σ.I 0 96) s) (σ.I 0 95) ∧ y = τ.I 0 88 ∧ TT2 σ τ K V (if x1 = -1 then σ.I 0 40 else if 0 ≤ x1 ∧ x1 ≤ 3 then σ.I 48 x1 else -1) x2 (if x3 ≠ 0 then min (σ.I 0 1) 20 else σ.I 0 1) x3 (τ.I 0 88))) ∧ (PBD τ 155))) := fun z0 z1 h0 h1 hlt => (ih _ _ _ hlt).2 z0 z1 h0 h1 rfl rfl rfl
    clear ih
    refine ⟨?_, ?_⟩
    · rintro x6 x7 τ gτ ⟨i0, i1, i2, i3, i4, i5, i6⟩ ha hb hc
      subst ha hb hc
      obtain ⟨hb1, hb2, hb3⟩ := TT1_b i0
      obtain ⟨⟨a1, a2, a3, a4, a5, a6, a7, a8, a9, a10, a11⟩, b1, b2, b3, b4, b5, b6, b7, b8, b9, b10, b11, b12⟩ := i3
      have i3 : BSX τ K V := ⟨⟨a1, a2, a3, a4, a5, a6, a7, a8, a9, a10, a11⟩, b1, b2, b3, b4, b5, b6, b7, b8, b9, b10, b11, b12⟩
      have hfl := hdI (fun (h : x7 < τ.I 18 7) => a6 x7 i1.1 h)
      have hok := i2.1
      have hx6 : (x3 = 0 → x6 = σ.I 0 1) ∧ (x3 ≠ 0 → x6 = min (σ.I 0 1) 20) := ⟨fun z => (by rw [i6, if_neg (fun w => w z)]), fun z => (by rw [i6, if_pos z])⟩
      refine ucX0_tellTerms_100W (K := K) (V := V) (hL.sf gτ)  ?_
      rintro ⟨f1, f1q⟩
      refine ⟨?_, ?_⟩
      · (first | exact ⟨by omega, by omega⟩ | assumption)
      refine ⟨fun c2 => ?_, fun c3 => ?_⟩
      · refine ih1 _ _ gτ ⟨?_, ?_, ?_, ?_, ?_, ?_⟩ ?_
        · (clear ih0 ih1; exact ⟨τ, (by rw [show τ.I 18 7 = x7 by omega]; exact i0), Ch.rf, fun j a b => by omega⟩)
        · (first | omega | exact ⟨by omega, by omega⟩ | assumption)
        · (clear ih0 ih1; exact i2)
        · (clear ih0 ih1; first | exact b23 | exact b2)
        · (first | omega | exact ⟨by omega, by omega⟩ | assumption)
        · (clear ih0 ih1; first | exact i5 | exact hPo | exact hP3)
        · (unfold lt3; omega)
      · refine ⟨?_, ?_⟩
        · (first | omega | exact ⟨by omega, by omega⟩ | assumption)
        refine ⟨?_, ?_⟩
        · (first | omega | exact ⟨by omega, by omega⟩ | assumption)
        rintro ⟨f4, f4q⟩
        refine ⟨?_, ?_⟩
        · (first | exact ⟨by omega, by omega⟩ | assumption)
        refine ⟨fun c5 => ?_, fun c6 => ?_⟩
        · refine ⟨?_, ?_⟩
          · (first | exact ⟨by omega, by omega⟩ | assumption)
          refine ⟨fun c7 => ?_, fun c8 => ?_⟩
          · refine ⟨?_, ?_⟩
            · omega
            refine ⟨?_, ?_⟩
            · (first | omega | exact ⟨by omega, by omega⟩ | assumption)
            refine ⟨?_, ?_⟩
            · (first | omega | exact ⟨by omega, by omega⟩ | assumption)
            refine ⟨?_, ?_⟩
            · (clear ih0 ih1; first | exact b23 | exact b2)
            refine ⟨fun c9 => ?_, fun c10 => ?_⟩
            · refine ⟨?_, ?_⟩
              · omega
              refine ⟨?_, ?_⟩
              · (first | omega | exact ⟨by omega, by omega⟩ | assumption)
              refine ⟨?_, ?_⟩
              · (clear ih0 ih1; (have z := (hdO hfl) (by omega); omega))
              refine ⟨?_, ?_⟩
              · (clear ih0 ih1; first | exact a7 | exact hB3.1.2.2.2.2.2.2.1)
              refine ⟨?_, ?_⟩
              · (clear ih0 ih1; first | exact a8 | exact hB3.1.2.2.2.2.2.2.2.1)
              refine ⟨?_, ?_⟩
              · (clear ih0 ih1; first | exact a9 | exact hB3.1.2.2.2.2.2.2.2.2.1)
              rintro y24 y24e ⟨y24f, y24fq⟩
              refine ⟨fun c11 => ?_, fun c12 => ?_⟩
              · refine ih0 _ _ _ gτ ⟨?_, ?_, ?_, ?_, ?_, ?_, ?_⟩ ?_
                · (clear ih0 ih1; first | exact hyy.1 | exact TT1_n i0 (fun z => by have z1 := z.1; omega) | exact TT1_n i0 (fun z => by have z3 := z.2.2; rw [← y24e] at z3; omega) | exact TT1_n i0 (fun z => by have z3 := z.2.1; unfold chT at z3; rw [if_neg (by omega), if_neg (fun w => absurd (zb_1.mp w) (by rw [← i6]; assumption))] at z3; omega) | exact TT1_n hT3 (fun z => by have z3 := z.2.2; rw [← y52e] at z3; omega) | exact TT1_n hT3 (fun z => by have z3 := z.2.1; rw [← hchN] at z3; omega))
                · (clear ih0 ih1; first | omega | (rw [n187]; omega) | (rw [n1873]; omega))
                · (clear ih0 ih1; exact i2)
                · (clear ih0 ih1; first | exact i3 | exact hBo | exact hB3)
                · (clear ih0 ih1; first | exact i4 | exact hTo | exact hT4)
                · (clear ih0 ih1; first | exact i5 | exact hPo | exact hP3)
                · (clear ih0 ih1; exact i6)
                · (unfold lt3; omega)
              · refine ⟨?_, ?_⟩
                · omega
                refine ⟨?_, ?_⟩
                · (first | omega | exact ⟨by omega, by omega⟩ | assumption)
                refine ⟨?_, ?_⟩
                · (first | omega | exact ⟨by omega, by omega⟩ | assumption)
                refine ⟨?_, ?_⟩
                · (first | omega | exact ⟨by omega, by omega⟩ | assumption)
                refine ⟨?_, ?_⟩
                · (first | omega | exact ⟨by omega, by omega⟩ | assumption)
                refine ⟨?_, ?_⟩
                · (clear ih0 ih1; first | exact b23 | exact b2)
                refine ⟨?_, ?_⟩
                · (clear ih0 ih1; first | exact hb43.2.2 | exact hb3)
                rintro σ33 gσ33 ⟨⟨eσ33r, eσ33s, eσ33n⟩, eσ33⟩
                have hch : (0 : Int) = chT τ x6 x3 x7 := (by unfold chT; rw [if_neg (by omega), if_pos (zb_t (by assumption))])
                have hyy := TT1_y i0 i1.1 (by omega) (by assumption) (by rw [i6] at hch; exact hch) (by decide) y24e (by assumption) eσ33 ⟨eσ33r, eσ33s, eσ33n⟩
                have hro : σ33.R = τ.R ∧ σ33.sh = τ.sh ∧ σ33.n = τ.n := ⟨eσ33r, eσ33s, eσ33n⟩
                have ko : ∀ c i, ¬ wsTt c i → σ33.I c i = τ.I c i := hyy.2.2
                have eAo : ∀ c, 16 ≤ c ∧ c < 80 → σ33.I c = τ.I c := fun c q => funext fun i => ko c i (by unfold wsTt; omega)
                have eFo : ∀ i, i = 4 ∨ i = 9 ∨ i = 20 ∨ i = 31 ∨ i = 39 → σ33.I 0 i = τ.I 0 i := fun i q => ko 0 i (by unfold wsTt; omega)
                have hBo : BSX σ33 K V := BSX_e i3 eAo eFo hro.1 hro.2.1 hro.2.2 (fun c q => funext fun i => ko c i (by unfold wsTt; omega)) (HOWA_e b12 eAo eFo)
                have hTo : TUB σ33 := TUB_e i4 (fun c i x y => ko c i (by unfold wsTt; omega))
                have hPo : PBD σ33 155 := PBD_e i5 (fun c i q => ko c i (by unfold wsTt; omega))
                have n187 : σ33.I 18 7 = τ.I 18 7 := ko _ _ (by unfold wsTt; omega)
                refine ih0 _ _ _ (gτ.tr gσ33) ⟨?_, ?_, ?_, ?_, ?_, ?_, ?_⟩ ?_
                · (clear ih0 ih1; first | exact hyy.1 | exact TT1_n i0 (fun z => by have z1 := z.1; omega) | exact TT1_n i0 (fun z => by have z3 := z.2.2; rw [← y24e] at z3; omega) | exact TT1_n i0 (fun z => by have z3 := z.2.1; unfold chT at z3; rw [if_neg (by omega), if_neg (fun w => absurd (zb_1.mp w) (by rw [← i6]; assumption))] at z3; omega) | exact TT1_n hT3 (fun z => by have z3 := z.2.2; rw [← y52e] at z3; omega) | exact TT1_n hT3 (fun z => by have z3 := z.2.1; rw [← hchN] at z3; omega))
                · (clear ih0 ih1; first | omega | (rw [n187]; omega) | (rw [n1873]; omega))
                · (clear ih0 ih1; exact i2)
                · (clear ih0 ih1; first | exact i3 | exact hBo | exact hB3)
                · (clear ih0 ih1; first | exact i4 | exact hTo | exact hT4)
                · (clear ih0 ih1; first | exact i5 | exact hPo | exact hP3)
                · (clear ih0 ih1; exact i6)
                · (unfold lt3; omega)
            · refine ih0 _ _ _ gτ ⟨?_, ?_, ?_, ?_, ?_, ?_, ?_⟩ ?_
              · (clear ih0 ih1; first | exact hyy.1 | exact TT1_n i0 (fun z => by have z1 := z.1; omega) | exact TT1_n i0 (fun z => by have z3 := z.2.2; rw [← y24e] at z3; omega) | exact TT1_n i0 (fun z => by have z3 := z.2.1; unfold chT at z3; rw [if_neg (by omega), if_neg (fun w => absurd (zb_1.mp w) (by rw [← i6]; assumption))] at z3; omega) | exact TT1_n hT3 (fun z => by have z3 := z.2.2; rw [← y52e] at z3; omega) | exact TT1_n hT3 (fun z => by have z3 := z.2.1; rw [← hchN] at z3; omega))
              · (clear ih0 ih1; first | omega | (rw [n187]; omega) | (rw [n1873]; omega))
              · (clear ih0 ih1; exact i2)
              · (clear ih0 ih1; first | exact i3 | exact hBo | exact hB3)
              · (clear ih0 ih1; first | exact i4 | exact hTo | exact hT4)
              · (clear ih0 ih1; first | exact i5 | exact hPo | exact hP3)
              · (clear ih0 ih1; exact i6)
              · (unfold lt3; omega)
          · refine ⟨?_, ?_⟩
            · omega
            refine ⟨?_, ?_⟩
            · (first | omega | exact ⟨by omega, by omega⟩ | assumption)
            refine ⟨?_, ?_⟩
            · (first | omega | exact ⟨by omega, by omega⟩ | assumption)
            refine ⟨?_, ?_⟩
            · (clear ih0 ih1; first | exact b23 | exact b2)
            refine ⟨?_, ?_⟩
            · (first | omega | exact ⟨by omega, by omega⟩ | assumption)
            refine ⟨?_, ?_⟩
            · (first | omega | exact ⟨by omega, by omega⟩ | assumption)
            rintro y44 σ43 ⟨y44f, y44fq⟩ gσ43 ⟨eσ43_0, eσ43_1⟩
            have hk : KC τ σ43 := eσ43_1
            have k43 : ∀ c i, c ≠ 81 → σ43.I c i = τ.I c i := fun c i q => hk.2 c i (fun z => q z.1)
            have hro : σ43.R = τ.R ∧ σ43.sh = τ.sh ∧ σ43.n = τ.n := hk.1
            have hT3 : TT1 σ σ43 K V (if x1 = -1 then σ.I 0 40 else if 0 ≤ x1 ∧ x1 ≤ 3 then σ.I 48 x1 else -1) x2 (if x3 ≠ 0 then min (σ.I 0 1) 20 else σ.I 0 1) x3 x7 := TT1_k i0 hk
            have hcw : Ch wsTt τ σ43 := Ch.mono hk (fun c i q => Or.inl q.1)
            have hch : y44 = chT σ43 x6 x3 x7 := (by rw [(tt_e hcw).1]; unfold chT; rw [if_pos (by assumption)]; exact eσ43_0)
            have hchN : y44 = chT σ43 (if x3 ≠ 0 then min (σ.I 0 1) 20 else σ.I 0 1) x3 x7 := (by rw [i6] at hch; exact hch)
            have f88 : σ43.I 0 88 = τ.I 0 88 := k43 _ _ (by decide)
            have f20 : σ43.I 20 x7 = τ.I 20 x7 := k43 _ _ (by decide)
            have ko3 : ∀ c i, ¬ wsTt c i → σ43.I c i = τ.I c i := hcw.2
            have eA3 : ∀ c, 16 ≤ c ∧ c < 80 → σ43.I c = τ.I c := fun c q => funext fun i => ko3 c i (by unfold wsTt; omega)
            have eF3 : ∀ i, i = 4 ∨ i = 9 ∨ i = 20 ∨ i = 31 ∨ i = 39 → σ43.I 0 i = τ.I 0 i := fun i q => ko3 0 i (by unfold wsTt; omega)
            have hB3 : BSX σ43 K V := BSX_e i3 eA3 eF3 hro.1 hro.2.1 hro.2.2 (fun c q => funext fun i => ko3 c i (by unfold wsTt; omega)) (HOWA_e b12 eA3 eF3)
            have hT4 : TUB σ43 := TUB_e i4 (fun c i x y => ko3 c i (by unfold wsTt; omega))
            have hP3 : PBD σ43 155 := PBD_e i5 (fun c i q => ko3 c i (by unfold wsTt; omega))
            have n1873 : σ43.I 18 7 = τ.I 18 7 := ko3 _ _ (by unfold wsTt; omega)
            have hb43 := TT1_b hT3
            have b23 : bd_0_20 σ43 21 36500 := hB3.2.2.1
            refine ⟨fun c13 => ?_, fun c14 => ?_⟩
            · refine ⟨?_, ?_⟩
              · omega
              refine ⟨?_, ?_⟩
              · (clear ih0 ih1; (rw [n1873]; omega))
              refine ⟨?_, ?_⟩
              · (clear ih0 ih1; (have z := (hdO hfl) (by omega); omega))
              refine ⟨?_, ?_⟩
              · (clear ih0 ih1; first | exact a7 | exact hB3.1.2.2.2.2.2.2.1)
              refine ⟨?_, ?_⟩
              · (clear ih0 ih1; first | exact a8 | exact hB3.1.2.2.2.2.2.2.2.1)
              refine ⟨?_, ?_⟩
              · (clear ih0 ih1; first | exact a9 | exact hB3.1.2.2.2.2.2.2.2.2.1)
              rintro y52 y52e ⟨y52f, y52fq⟩
              refine ⟨fun c15 => ?_, fun c16 => ?_⟩
              · refine ih0 _ _ _ (gτ.tr gσ43) ⟨?_, ?_, ?_, ?_, ?_, ?_, ?_⟩ ?_
                · (clear ih0 ih1; first | exact hyy.1 | exact TT1_n i0 (fun z => by have z1 := z.1; omega) | exact TT1_n i0 (fun z => by have z3 := z.2.2; rw [← y24e] at z3; omega) | exact TT1_n i0 (fun z => by have z3 := z.2.1; unfold chT at z3; rw [if_neg (by omega), if_neg (fun w => absurd (zb_1.mp w) (by rw [← i6]; assumption))] at z3; omega) | exact TT1_n hT3 (fun z => by have z3 := z.2.2; rw [← y52e] at z3; omega) | exact TT1_n hT3 (fun z => by have z3 := z.2.1; rw [← hchN] at z3; omega))
                · (clear ih0 ih1; first | omega | (rw [n187]; omega) | (rw [n1873]; omega))
                · (clear ih0 ih1; exact i2)
                · (clear ih0 ih1; first | exact i3 | exact hBo | exact hB3)
                · (clear ih0 ih1; first | exact i4 | exact hTo | exact hT4)
                · (clear ih0 ih1; first | exact i5 | exact hPo | exact hP3)
                · (clear ih0 ih1; exact i6)
                · (unfold lt3; omega)
              · refine ⟨?_, ?_⟩
                · omega
                refine ⟨?_, ?_⟩
                · (first | omega | exact ⟨by omega, by omega⟩ | assumption)
                refine ⟨?_, ?_⟩
                · (first | omega | exact ⟨by omega, by omega⟩ | assumption)
                refine ⟨?_, ?_⟩
                · (first | omega | exact ⟨by omega, by omega⟩ | assumption)
                refine ⟨?_, ?_⟩
                · (first | omega | exact ⟨by omega, by omega⟩ | assumption)
                refine ⟨?_, ?_⟩
                · (clear ih0 ih1; first | exact b23 | exact b2)
                refine ⟨?_, ?_⟩
                · (clear ih0 ih1; first | exact hb43.2.2 | exact hb3)
                rintro σ61 gσ61 ⟨⟨eσ61r, eσ61s, eσ61n⟩, eσ61⟩
                have hyy := TT1_y hT3 i1.1 (by omega) (by omega) hchN (by assumption) y52e (by assumption) eσ61 ⟨eσ61r, eσ61s, eσ61n⟩
                have hro : σ61.R = τ.R ∧ σ61.sh = τ.sh ∧ σ61.n = τ.n := ⟨eσ61r.trans hk.1.1, eσ61s.trans hk.1.2.1, eσ61n.trans hk.1.2.2⟩
                have ko : ∀ c i, ¬ wsTt c i → σ61.I c i = τ.I c i := fun c i q => (hyy.2.2 c i q).trans (ko3 c i q)
                have eAo : ∀ c, 16 ≤ c ∧ c < 80 → σ61.I c = τ.I c := fun c q => funext fun i => ko c i (by unfold wsTt; omega)
                have eFo : ∀ i, i = 4 ∨ i = 9 ∨ i = 20 ∨ i = 31 ∨ i = 39 → σ61.I 0 i = τ.I 0 i := fun i q => ko 0 i (by unfold wsTt; omega)
                have hBo : BSX σ61 K V := BSX_e i3 eAo eFo hro.1 hro.2.1 hro.2.2 (fun c q => funext fun i => ko c i (by unfold wsTt; omega)) (HOWA_e b12 eAo eFo)
                have hTo : TUB σ61 := TUB_e i4 (fun c i x y => ko c i (by unfold wsTt; omega))
                have hPo : PBD σ61 155 := PBD_e i5 (fun c i q => ko c i (by unfold wsTt; omega))
                have n187 : σ61.I 18 7 = τ.I 18 7 := ko _ _ (by unfold wsTt; omega)
                refine ih0 _ _ _ ((gτ.tr gσ43).tr gσ61) ⟨?_, ?_, ?_, ?_, ?_, ?_, ?_⟩ ?_
                · (clear ih0 ih1; first | exact hyy.1 | exact TT1_n i0 (fun z => by have z1 := z.1; omega) | exact TT1_n i0 (fun z => by have z3 := z.2.2; rw [← y24e] at z3; omega) | exact TT1_n i0 (fun z => by have z3 := z.2.1; unfold chT at z3; rw [if_neg (by omega), if_neg (fun w => absurd (zb_1.mp w) (by rw [← i6]; assumption))] at z3; omega) | exact TT1_n hT3 (fun z => by have z3 := z.2.2; rw [← y52e] at z3; omega) | exact TT1_n hT3 (fun z => by have z3 := z.2.1; rw [← hchN] at z3; omega))
                · (clear ih0 ih1; first | omega | (rw [n187]; omega) | (rw [n1873]; omega))
                · (clear ih0 ih1; exact i2)
                · (clear ih0 ih1; first | exact i3 | exact hBo | exact hB3)
                · (clear ih0 ih1; first | exact i4 | exact hTo | exact hT4)
                · (clear ih0 ih1; first | exact i5 | exact hPo | exact hP3)
                · (clear ih0 ih1; exact i6)
                · (unfold lt3; omega)
            · refine ih0 _ _ _ (gτ.tr gσ43) ⟨?_, ?_, ?_, ?_, ?_, ?_, ?_⟩ ?_
              · (clear ih0 ih1; first | exact hyy.1 | exact TT1_n i0 (fun z => by have z1 := z.1; omega) | exact TT1_n i0 (fun z => by have z3 := z.2.2; rw [← y24e] at z3; omega) | exact TT1_n i0 (fun z => by have z3 := z.2.1; unfold chT at z3; rw [if_neg (by omega), if_neg (fun w => absurd (zb_1.mp w) (by rw [← i6]; assumption))] at z3; omega) | exact TT1_n hT3 (fun z => by have z3 := z.2.2; rw [← y52e] at z3; omega) | exact TT1_n hT3 (fun z => by have z3 := z.2.1; rw [← hchN] at z3; omega))
              · (clear ih0 ih1; first | omega | (rw [n187]; omega) | (rw [n1873]; omega))
              · (clear ih0 ih1; exact i2)
              · (clear ih0 ih1; first | exact i3 | exact hBo | exact hB3)
              · (clear ih0 ih1; first | exact i4 | exact hTo | exact hT4)
              · (clear ih0 ih1; first | exact i5 | exact hPo | exact hP3)
              · (clear ih0 ih1; exact i6)
              · (unfold lt3; omega)
        · refine ih0 _ _ _ gτ ⟨?_, ?_, ?_, ?_, ?_, ?_, ?_⟩ ?_
          · (clear ih0 ih1; first | exact hyy.1 | exact TT1_n i0 (fun z => by have z1 := z.1; omega) | exact TT1_n i0 (fun z => by have z3 := z.2.2; rw [← y24e] at z3; omega) | exact TT1_n i0 (fun z => by have z3 := z.2.1; unfold chT at z3; rw [if_neg (by omega), if_neg (fun w => absurd (zb_1.mp w) (by rw [← i6]; assumption))] at z3; omega) | exact TT1_n hT3 (fun z => by have z3 := z.2.2; rw [← y52e] at z3; omega) | exact TT1_n hT3 (fun z => by have z3 := z.2.1; rw [← hchN] at z3; omega))
          · (clear ih0 ih1; first | omega | (rw [n187]; omega) | (rw [n1873]; omega))
          · (clear ih0 ih1; exact i2)
          · (clear ih0 ih1; first | exact i3 | exact hBo | exact hB3)
          · (clear ih0 ih1; first | exact i4 | exact hTo | exact hT4)
          · (clear ih0 ih1; first | exact i5 | exact hPo | exact hP3)
          · (clear ih0 ih1; exact i6)
          · (unfold lt3; omega)
    · rintro x7 τ gτ ⟨i0, i1, i2, i3, i4, i5⟩ ha hb hc
      subst ha hb hc
      have hb := TT2_b i0
      have hq := fun (h : x7 < τ.I 0 88) => hb.2 x7 i1.1 h
      have hz := fun (h : x7 < τ.I 0 88) => i3 (τ.I 201 x7) (by have z := hq h; omega) (by have z := hq h; omega)
      refine ucX0_tellTerms_216W (K := K) (V := V) (hL.sf gτ)  ?_
      rintro ⟨f1, f1q⟩
      refine ⟨?_, ?_⟩
      · (first | exact ⟨by omega, by omega⟩ | assumption)
      refine ⟨fun c2 => ?_, fun c3 => ?_⟩
      · refine RVI_mk ?_ ?_
        · (first | exact ⟨by omega, by omega⟩ | assumption)
        · refine ⟨?_, ?_⟩
          · (clear ih0 ih1; exact Or.inr (Or.inr (Or.inr ⟨i2.1, i2.2, rfl, by rw [show τ.I 0 88 = x7 by omega]; exact i0⟩)))
          · (clear ih0 ih1; first | exact hP24 | exact i5)
      · refine ⟨?_, ?_⟩
        · (first | omega | exact ⟨by omega, by omega⟩ | assumption)
        refine ⟨?_, ?_⟩
        · (first | omega | exact ⟨by omega, by omega⟩ | assumption)
        rintro ⟨f4, f4q⟩
        refine ⟨?_, ?_⟩
        · (first | omega | exact ⟨by omega, by omega⟩ | assumption)
        refine ⟨?_, ?_⟩
        · (first | omega | exact ⟨by omega, by omega⟩ | assumption)
        rintro ⟨f5, f5q⟩
        refine ⟨?_, ?_⟩
        · (first | omega | exact ⟨by omega, by omega⟩ | assumption)
        refine ⟨?_, ?_⟩
        · (first | omega | exact ⟨by omega, by omega⟩ | assumption)
        intro σ12 eσ12 gσ12
        have f12 : σ12.I 201 x7 = τ.I 201 x7 := (by rw [eσ12, I_ne _ _ _ _ (by decide)])
        have f13 : σ12.I 205 x7 = τ.I 21 (τ.I 201 x7) := (by rw [eσ12, I_same])
        have hqq := hq (by omega)
        have hzz := hz (by omega)
        refine ⟨?_, ?_⟩
        · (first | omega | exact ⟨by omega, by omega⟩ | assumption)
        refine ⟨?_, ?_⟩
        · (first | omega | exact ⟨by omega, by omega⟩ | assumption)
        rintro ⟨f6, f6q⟩
        refine ⟨?_, ?_⟩
        · (first | omega | exact ⟨by omega, by omega⟩ | assumption)
        refine ⟨?_, ?_⟩
        · (first | omega | exact ⟨by omega, by omega⟩ | assumption)
        rintro ⟨f7, f7q⟩
        refine ⟨?_, ?_⟩
        · (first | omega | exact ⟨by omega, by omega⟩ | assumption)
        refine ⟨?_, ?_⟩
        · (first | omega | exact ⟨by omega, by omega⟩ | assumption)
        refine ⟨?_, ?_⟩
        · (first | omega | exact ⟨by omega, by omega⟩ | assumption)
        refine ⟨?_, ?_⟩
        · (first | omega | exact ⟨by omega, by omega⟩ | assumption)
        refine ⟨?_, ?_⟩
        · (first | omega | exact ⟨by omega, by omega⟩ | assumption)
        intro σ24 eσ24 gσ24
        have hN : TT2 σ σ24 K V (if x1 = -1 then σ.I 0 40 else if 0 ≤ x1 ∧ x1 ≤ 3 then σ.I 48 x1 else -1) x2 (if x3 ≠ 0 then min (σ.I 0 1) 20 else σ.I 0 1) x3 (x7 + 1) := TT2_s i0 i1.1 (by omega) i3 i4 eσ12 eσ24
        have k24 : ∀ c i, c ≠ 204 → c ≠ 205 → σ24.I c i = τ.I c i := fun c i p q => (by rw [eσ24, I_cp, if_neg (fun z => p z.1), eσ12, I_ne _ _ _ _ q])
        have q88 : σ24.I 0 88 = τ.I 0 88 := k24 _ _ (by decide) (by decide)
        have q187 : σ24.I 18 7 = τ.I 18 7 := k24 _ _ (by decide) (by decide)
        have hz24 : bd_0_20 σ24 21 36500 := bd_0_20_eq i3 (funext fun i => k24 _ _ (by decide) (by decide))
        have hP24 : PBD σ24 155 := PBD_e i5 (fun c i q => k24 c i (by omega) (by omega))
        refine ih1 _ _ ((gτ.tr gσ12).tr gσ24) ⟨?_, ?_, ?_, ?_, ?_, ?_⟩ ?_
        · (clear ih0 ih1; exact hN)
        · (clear ih0 ih1; (rw [q88]; omega))
        · (clear ih0 ih1; exact i2)
        · (clear ih0 ih1; exact hz24)
        · (clear ih0 ih1; (rw [q187]; exact i4))
        · (clear ih0 ih1; first | exact hP24 | exact i5)
        · (unfold lt3; omega)
  have k0_ : ∀ (x6 : Int) (x7 : Int) (τ : Sto), SF σ τ → ((TT1 σ τ K V (if x1 = -1 then σ.I 0 40 else if 0 ≤ x1 ∧ x1 ≤ 3 then σ.I 48 x1 else -1) x2 (if x3 ≠ 0 then min (σ.I 0 1) 20 else σ.I 0 1) x3 x7) ∧ (0 ≤ x7 ∧ x7 ≤ τ.I 18 7 ∧ τ.I 18 7 < 36500) ∧ ((0 ≤ (if x1 = -1 then σ.I 0 40 else if 0 ≤ x1 ∧ x1 ≤ 3 then σ.I 48 x1 else -1) ∧ (0 ≤ x2 ∧ x2 < σ.I 0 9) ∧ (σ.I 16 x2 = 0 ∨ σ.I 16 x2 = 1)) ∧ alN (fun s => 0 ≤ nOf (σ.I 210) (σ.I 0 96) s) (σ.I 0 95)) ∧ (BSX τ K V) ∧ (TUB τ) ∧ (PBD τ 155) ∧ (x6 = (if x3 ≠ 0 then min (σ.I 0 1) 20 else σ.I 0 1))) → VV E mX0_tellTerms (d + 1) 100 [(0, aO 0), (2, aI (x2)), (3, aI (x3)), (6, aI (x6)), (7, aI (x7))] [] τ (RVI (fun y τ => ((¬ (0 ≤ (if x1 = -1 then σ.I 0 40 else if 0 ≤ x1 ∧ x1 ≤ 3 then σ.I 48 x1 else -1) ∧ (0 ≤ x2 ∧ x2 < σ.I 0 9) ∧ (σ.I 16 x2 = 0 ∨ σ.I 16 x2 = 1)) ∧ y = -1 ∧ RD σ τ (fun c i => if c = 0 ∧ (i = 1 ∨ i = 88) then 0 else σ.I c i)) ∨ ((0 ≤ (if x1 = -1 then σ.I 0 40 else if 0 ≤ x1 ∧ x1 ≤ 3 then σ.I 48 x1 else -1) ∧ (0 ≤ x2 ∧ x2 < σ.I 0 9) ∧ (σ.I 16 x2 = 0 ∨ σ.I 16 x2 = 1)) ∧ ¬ alN (fun s => 0 ≤ nOf (σ.I 210) (σ.I 0 96) s) (σ.I 0 95) ∧ y = -4 ∧ RD σ τ (fun c i => if c = 0 ∧ (i = 1 ∨ i = 88) then 0 else σ.I c i)) ∨ ((0 ≤ (if x1 = -1 then σ.I 0 40 else if 0 ≤ x1 ∧ x1 ≤ 3 then σ.I 48 x1 else -1) ∧ (0 ≤ x2 ∧ x2 < σ.I 0 9) ∧ (σ.I 16 x2 = 0 ∨ σ.I 16 x2 = 1)) ∧ alN (fun s => 0 ≤ nOf (σ.I 210) (σ.I 0 96) s) (σ.I 0 95) ∧ y = 0 ∧ ∃ ς, TY0 σ ς ∧ WNY ς τ K V (if x1 = -1 then σ.I 0 40 else if 0 ≤ x1 ∧ x1 ≤ 3 then σ.I 48 x1 else -1) ∧ bt32 (τ.I 136 1) x2) ∨ ((0 ≤ (if x1 = -1 then σ.I 0 40 else if 0 ≤ x1 ∧ x1 ≤ 3 then σ.I 48 x1 else -1) ∧ (0 ≤ x2 ∧ x2 < σ.I 0 9) ∧ (σ.I 16 x2 = 0 ∨ σ.I 16 x2 = 1)) ∧ alN (fun s => 0 ≤ nOf (σ.I 210) (σ.I 0 96) s) (σ.I 0 95) ∧ y = τ.I 0 88 ∧ TT2 σ τ K V (if x1 = -1 then σ.I 0 40 else if 0 ≤ x1 ∧ x1 ≤ 3 then σ.I 48 x1 else -1) x2 (if x3 ≠ 0 then min (σ.I 0 1) 20 else σ.I 0 1) x3 (τ.I 0 88))) ∧ (PBD τ 155))) := fun z0 z1 z2 h0 h1 => (key _ _ _).1 z0 z1 z2 h0 h1 rfl rfl rfl
  have k1_ : ∀ (x7 : Int) (τ : Sto), SF σ τ → ((TT2 σ τ K V (if x1 = -1 then σ.I 0 40 else if 0 ≤ x1 ∧ x1 ≤ 3 then σ.I 48 x1 else -1) x2 (if x3 ≠ 0 then min (σ.I 0 1) 20 else σ.I 0 1) x3 x7) ∧ (0 ≤ x7 ∧ x7 ≤ τ.I 0 88) ∧ ((0 ≤ (if x1 = -1 then σ.I 0 40 else if 0 ≤ x1 ∧ x1 ≤ 3 then σ.I 48 x1 else -1) ∧ (0 ≤ x2 ∧ x2 < σ.I 0 9) ∧ (σ.I 16 x2 = 0 ∨ σ.I 16 x2 = 1)) ∧ alN (fun s => 0 ≤ nOf (σ.I 210) (σ.I 0 96) s) (σ.I 0 95)) ∧ (bd_0_20 τ 21 36500) ∧ (τ.I 18 7 ≤ 36500) ∧ (PBD τ 155)) → VV E mX0_tellTerms (d + 1) 216 [(0, aO 0), (7, aI (x7))] [] τ (RVI (fun y τ => ((¬ (0 ≤ (if x1 = -1 then σ.I 0 40 else if 0 ≤ x1 ∧ x1 ≤ 3 then σ.I 48 x1 else -1) ∧ (0 ≤ x2 ∧ x2 < σ.I 0 9) ∧ (σ.I 16 x2 = 0 ∨ σ.I 16 x2 = 1)) ∧ y = -1 ∧ RD σ τ (fun c i => if c = 0 ∧ (i = 1 ∨ i = 88) then 0 else σ.I c i)) ∨ ((0 ≤ (if x1 = -1 then σ.I 0 40 else if 0 ≤ x1 ∧ x1 ≤ 3 then σ.I 48 x1 else -1) ∧ (0 ≤ x2 ∧ x2 < σ.I 0 9) ∧ (σ.I 16 x2 = 0 ∨ σ.I 16 x2 = 1)) ∧ ¬ alN (fun s => 0 ≤ nOf (σ.I 210) (σ.I 0 96) s) (σ.I 0 95) ∧ y = -4 ∧ RD σ τ (fun c i => if c = 0 ∧ (i = 1 ∨ i = 88) then 0 else σ.I c i)) ∨ ((0 ≤ (if x1 = -1 then σ.I 0 40 else if 0 ≤ x1 ∧ x1 ≤ 3 then σ.I 48 x1 else -1) ∧ (0 ≤ x2 ∧ x2 < σ.I 0 9) ∧ (σ.I 16 x2 = 0 ∨ σ.I 16 x2 = 1)) ∧ alN (fun s => 0 ≤ nOf (σ.I 210) (σ.I 0 96) s) (σ.I 0 95) ∧ y = 0 ∧ ∃ ς, TY0 σ ς ∧ WNY ς τ K V (if x1 = -1 then σ.I 0 40 else if 0 ≤ x1 ∧ x1 ≤ 3 then σ.I 48 x1 else -1) ∧ bt32 (τ.I 136 1) x2) ∨ ((0 ≤ (if x1 = -1 then σ.I 0 40 else if 0 ≤ x1 ∧ x1 ≤ 3 then σ.I 48 x1 else -1) ∧ (0 ≤ x2 ∧ x2 < σ.I 0 9) ∧ (σ.I 16 x2 = 0 ∨ σ.I 16 x2 = 1)) ∧ alN (fun s => 0 ≤ nOf (σ.I 210) (σ.I 0 96) s) (σ.I 0 95) ∧ y = τ.I 0 88 ∧ TT2 σ τ K V (if x1 = -1 then σ.I 0 40 else if 0 ≤ x1 ∧ x1 ≤ 3 then σ.I 48 x1 else -1) x2 (if x3 ≠ 0 then min (σ.I 0 1) 20 else σ.I 0 1) x3 (τ.I 0 88))) ∧ (PBD τ 155))) := fun z0 z1 h0 h1 => (key _ _ _).2 z0 z1 h0 h1 rfl rfl rfl
  clear key
  refine ucX0_tellTerms_0W (K := K) (V := V) hL  ?_
  refine ⟨?_, ?_⟩
  · omega
  rintro y3 σ2 ⟨y3f, y3fq⟩ gσ2 ⟨eσ2_0, ⟨⟨eσ2_1r, eσ2_1s, eσ2_1n⟩, eσ2_1⟩, eσ2_2⟩
  intro σ4 eσ4 gσ4
  have h4 : ∀ c i, ¬ (c = 0 ∧ (i = 1 ∨ i = 88)) → σ4.I c i = σ.I c i := fun c i q => (by rw [eσ4, I_ot _ _ _ _ _ _ (fun z => q ⟨z.1, Or.inr z.2⟩)]; exact eσ2_1 c i (fun z => q ⟨z.1, Or.inl z.2⟩))
  have h4c : ∀ c i, c ≠ 0 → σ4.I c i = σ.I c i := fun c i q => h4 c i (fun z => q z.1)
  have z4 : σ4.I 0 1 = 0 ∧ σ4.I 0 88 = 0 := ⟨by rw [eσ4, I_nj _ _ _ _ (by decide)]; exact eσ2_2, by rw [eσ4, I_same]⟩
  have r4 : σ4.R = σ.R ∧ σ4.sh = σ.sh ∧ σ4.n = σ.n := ⟨by rw [eσ4]; exact eσ2_1r, by rw [eσ4]; exact eσ2_1s, by rw [eσ4]; exact eσ2_1n⟩
  have i4 : σ4.I = (fun c i => if c = 0 ∧ (i = 1 ∨ i = 88) then 0 else σ.I c i) := (by funext c i; by_cases z : c = 0 ∧ (i = 1 ∨ i = 88); (rw [if_pos z]; rcases z with ⟨z1, z2 | z2⟩; (rw [z1, z2]; exact z4.1); (rw [z1, z2]; exact z4.2)); (rw [if_neg z]; exact h4 c i z))
  have hR4 : RD σ σ4 (fun c i => if c = 0 ∧ (i = 1 ∨ i = 88) then 0 else σ.I c i) := ⟨r4, i4⟩
  have hP4 : PBD σ4 155 := PBD_e p4 (fun c i q => h4c c i (by omega))
  have h9 : bd_0_1000000 σ4 211 8 := bd_0_1000000_eq p8 (funext fun i => h4c _ _ (by decide))
  have h4f : σ4.I 0 9 = σ.I 0 9 ∧ σ4.I 0 96 = σ.I 0 96 ∧ σ4.I 0 95 = σ.I 0 95 ∧ σ4.I 16 x2 = σ.I 16 x2 := ⟨h4 _ _ (by omega), h4 _ _ (by omega), h4 _ _ (by omega), h4c _ _ (by decide)⟩
  have h210 : σ4.I 210 = σ.I 210 := funext fun i => h4c _ _ (by decide)
  refine ⟨?_, ?_⟩
  · omega
  refine ⟨?_, ?_⟩
  · (first | omega | exact ⟨by omega, by omega⟩ | assumption)
  rintro y7 y7e ⟨y7f, y7fq⟩
  have hy7 : y7 = (if x1 = -1 then σ.I 0 40 else if 0 ≤ x1 ∧ x1 ≤ 3 then σ.I 48 x1 else -1) := (by rw [y7e, h4 0 40 (by omega), h4c 48 _ (by decide)])
  refine ⟨fun c1 => ?_, fun c2 => ?_⟩
  · refine RVI_mk ?_ ?_
    · (first | exact ⟨by omega, by omega⟩ | assumption)
    · refine ⟨?_, ?_⟩
      · (clear k0_ k1_; first | exact Or.inl ⟨fun z => by omega, rfl, hR4⟩ | exact Or.inr (Or.inl ⟨⟨by omega, by omega, by omega⟩, fun z => absurd (eσ19_0.mpr (hal.mpr z)) (by omega), rfl, hRa (by omega)⟩) | exact Or.inr (Or.inl ⟨⟨by omega, by omega, by omega⟩, fun z => absurd (eσ48_0.mpr (hal.mpr z)) (by omega), rfl, hRa (by omega)⟩) | exact Or.inr (Or.inr (Or.inl ⟨hok.1, hok.2, rfl, hBl (Classical.byContradiction (fun z => by contradiction))⟩)))
      · (clear k0_ k1_; first | exact eσ29_3 | exact eσ58_3 | exact hPa | exact hP4)
  · refine ⟨?_, ?_⟩
    · omega
    refine ⟨?_, ?_⟩
    · (first | omega | exact ⟨by omega, by omega⟩ | assumption)
    refine ⟨?_, ?_⟩
    · (first | omega | exact ⟨by omega, by omega⟩ | assumption)
    refine ⟨?_, ?_⟩
    · (first | omega | exact ⟨by omega, by omega⟩ | assumption)
    refine ⟨fun c3 => ?_, fun c4 => ?_⟩
    · refine ⟨?_, ?_⟩
      · omega
      refine ⟨?_, ?_⟩
      · (first | omega | exact ⟨by omega, by omega⟩ | assumption)
      refine ⟨?_, ?_⟩
      · (first | omega | exact ⟨by omega, by omega⟩ | assumption)
      refine ⟨?_, ?_⟩
      · (clear k0_ k1_; exact h9)
      rintro y20 σ19 ⟨y20f, y20fq⟩ gσ19 ⟨eσ19_0, ⟨⟨eσ19_1r, eσ19_1s, eσ19_1n⟩, eσ19_1⟩⟩
      have hal : alN (fun s => 0 ≤ nOf (σ4.I 210) (σ4.I 0 96) s) (σ4.I 0 95) ↔ alN (fun s => 0 ≤ nOf (σ.I 210) (σ.I 0 96) s) (σ.I 0 95) := (by rw [h4f.2.1, h4f.2.2.1, h210])
      have hai := eσ19_1
      have ea : ∀ c i, c ≠ 211 → σ19.I c i = σ4.I c i := fun c i q => (by rw [hai]; exact if_neg (fun z => q z.2))
      have hRa : y20 = 0 → RD σ σ19 (fun c i => if c = 0 ∧ (i = 1 ∨ i = 88) then 0 else σ.I c i) := fun h => ⟨⟨eσ19_1r.trans r4.1, eσ19_1s.trans r4.2.1, eσ19_1n.trans r4.2.2⟩, (by rw [hai]; funext c i; rw [if_neg (fun z => by have z1 := z.1; omega), i4])⟩
      have hSa : y20 = 1 → TY0 σ σ19 := fun h => ⟨⟨eσ19_1r.trans r4.1, eσ19_1s.trans r4.2.1, eσ19_1n.trans r4.2.2⟩, (by rw [hai]; funext c i; by_cases z : c = 211; (rw [if_pos ⟨h, z⟩, if_pos z, h4c c i (by omega), h4f.2.1, h4f.2.2.1, h210]); (rw [if_neg (fun w => z w.2), if_neg z, i4]))⟩
      have n39 : ∀ c i, c ≠ 211 → ¬ (c = 0 ∧ (i = 1 ∨ i = 88)) → σ19.I c i = σ.I c i := fun c i a b => (ea c i a).trans (h4 c i b)
      have n39c : ∀ c i, c ≠ 211 → c ≠ 0 → σ19.I c i = σ.I c i := fun c i a b => (ea c i a).trans (h4c c i b)
      have hPa : PBD σ19 155 := PBD_e hP4 (fun c i q => ea c i (by omega))
      have g46 : σ19.I 0 46 = σ.I 0 46 := n39 _ _ (by decide) (by omega)
      have er39 : σ19.2 = σ.2 := Prod.ext (eσ19_1r.trans r4.1) (Prod.ext (eσ19_1s.trans r4.2.1) (eσ19_1n.trans r4.2.2))
      have eA39 : ∀ c, 16 ≤ c ∧ c < 80 → σ19.I c = σ.I c := fun c q => funext fun i => n39c c i (by omega) (by omega)
      have eG39 : ∀ c, 675 ≤ c → σ19.I c = σ.I c := fun c q => funext fun i => n39c c i (by omega) (by omega)
      have eF39 : ∀ i, i = 4 ∨ i = 9 ∨ i = 20 ∨ i = 31 ∨ i = 39 → σ19.I 0 i = σ.I 0 i := fun i q => n39 0 i (by omega) (by omega)
      have hBa : BSX σ19 K V := BSX_e p2 eA39 eF39 (congrArg (·.1) er39) (congrArg (·.2.1) er39) (congrArg (·.2.2) er39) eG39 (HOWA_e p2.2.2.2.2.2.2.2.2.2.2.2.2 eA39 eF39)
      have hub : 215 ≤ (ubX σ) ∧ (ubX σ) ≤ 260 := (by unfold ubX; omega)
      have hub2 : ubX σ19 = (ubX σ) := (by unfold ubX; rw [g46])
      have hQu : 0 < σ19.I 0 46 → σ19.I (ubX σ19) 1 ≠ 0 → QLX σ19 (ubX σ19) := (by rw [hub2, g46]; intro a b; exact (CPR_q (CPR_id (fun c i x y => n39c c i (by omega) (by omega))) (p3 a (by rw [← n39c _ _ (by omega) (by omega)]; exact b)) eA39 ⟨eF39 9 (by omega), eF39 4 (by omega), eF39 20 (by omega)⟩ er39 eG39 p2.2.2.2.1).1)
      refine ⟨fun c5 => ?_, fun c6 => ?_⟩
      · refine ⟨?_, ?_⟩
        · omega
        refine ⟨?_, ?_⟩
        · (first | omega | exact ⟨by omega, by omega⟩ | assumption)
        refine ⟨?_, ?_⟩
        · (first | omega | exact ⟨by omega, by omega⟩ | assumption)
        refine ⟨?_, ?_⟩
        · (first | omega | exact ⟨by omega, by omega⟩ | assumption)
        refine ⟨?_, ?_⟩
        · (clear k0_ k1_; exact hBa)
        refine ⟨?_, ?_⟩
        · (clear k0_ k1_; exact hQu)
        refine ⟨?_, ?_⟩
        · (clear k0_ k1_; exact hPa)
        rintro σ29 gσ29 ⟨eσ29_0, eσ29_1, eσ29_2, eσ29_3, eσ29_4⟩
        have kb : ∀ c i, ¬ wsMw 121 c i → σ29.I c i = σ19.I c i := eσ29_4.2
        have eA30 : ∀ c, 16 ≤ c ∧ c < 80 → σ29.I c = σ19.I c := fun c q => funext fun i => kb c i (by unfold wsMw; omega)
        have eG30 : ∀ c, 675 ≤ c → σ29.I c = σ19.I c := fun c q => funext fun i => kb c i (by unfold wsMw; omega)
        have eF30 : ∀ i, i = 4 ∨ i = 9 ∨ i = 20 ∨ i = 31 ∨ i = 39 → σ29.I 0 i = σ19.I 0 i := fun i q => kb 0 i (by unfold wsMw; omega)
        have er30 : σ29.2 = σ19.2 := Prod.ext eσ29_4.1.1 (Prod.ext eσ29_4.1.2.1 eσ29_4.1.2.2)
        have hBb : BSX σ29 K V := BSX_e hBa eA30 eF30 (congrArg (·.1) er30) (congrArg (·.2.1) er30) (congrArg (·.2.2) er30) eG30 (HOWA_e hBa.2.2.2.2.2.2.2.2.2.2.2.2 eA30 eF30)
        have hW : WNY σ19 σ29 K V (if x1 = -1 then σ.I 0 40 else if 0 ≤ x1 ∧ x1 ≤ 3 then σ.I 48 x1 else -1) := (by rw [← hy7]; exact ⟨eσ29_0, eσ29_2, eσ29_4⟩)
        have hTb : TUB σ29 := TUB_e p11 (fun c i x y => (kb c i (by unfold wsMw; omega)).trans (n39c c i (by omega) (by omega)))
        have c88 : σ29.I 0 88 = 0 := (kb _ _ (by unfold wsMw; omega)).trans ((ea _ _ (by decide)).trans z4.2)
        have h201 : bd_0_36499 σ29 201 11 := bd_0_36499_eq p12 (funext fun i => (kb _ _ (by unfold wsMw; omega)).trans (n39c _ _ (by decide) (by decide)))
        have hok : (0 ≤ (if x1 = -1 then σ.I 0 40 else if 0 ≤ x1 ∧ x1 ≤ 3 then σ.I 48 x1 else -1) ∧ (0 ≤ x2 ∧ x2 < σ.I 0 9) ∧ (σ.I 16 x2 = 0 ∨ σ.I 16 x2 = 1)) ∧ alN (fun s => 0 ≤ nOf (σ.I 210) (σ.I 0 96) s) (σ.I 0 95) := ⟨⟨by omega, by omega, by omega⟩, hal.mp (eσ19_0.mp (by omega))⟩
        have hcnt := hBb.1.2.2.2.2.1
        have hTT : ¬ bt32 (σ29.I 136 1) x2 → TT1 σ σ29 K V (if x1 = -1 then σ.I 0 40 else if 0 ≤ x1 ∧ x1 ≤ 3 then σ.I 48 x1 else -1) x2 (if x3 ≠ 0 then min (σ.I 0 1) 20 else σ.I 0 1) x3 0 := fun q => ⟨σ19, σ29, hSa (by omega), hW, q, ⟨hTb, hBb.2.2.1, by omega⟩, TTI_0 c88 h201⟩
        have hBl : bt32 (σ29.I 136 1) x2 → ∃ ς, TY0 σ ς ∧ WNY ς σ29 K V (if x1 = -1 then σ.I 0 40 else if 0 ≤ x1 ∧ x1 ≤ 3 then σ.I 48 x1 else -1) ∧ bt32 (σ29.I 136 1) x2 := fun q => ⟨σ19, hSa (by omega), hW, q⟩
        refine ⟨?_, ?_⟩
        · omega
        refine ⟨?_, ?_⟩
        · (first | omega | exact ⟨by omega, by omega⟩ | assumption)
        refine ⟨fun c7 => ?_, fun c8 => ?_⟩
        · refine ⟨?_, ?_⟩
          · (first | exact ⟨by omega, by omega⟩ | assumption)
          refine ⟨fun c9 => ?_, fun c10 => ?_⟩
          · refine k0_ _ _ _ (((gσ2.tr gσ4).tr gσ19).tr gσ29) ⟨?_, ?_, ?_, ?_, ?_, ?_, ?_⟩
            · (clear k0_ k1_; exact hTT (by assumption))
            · (first | omega | exact ⟨by omega, by omega⟩ | assumption)
            · (clear k0_ k1_; exact hok)
            · (clear k0_ k1_; exact hBb)
            · (clear k0_ k1_; exact hTb)
            · (clear k0_ k1_; first | exact eσ29_3 | exact eσ58_3 | exact hPa | exact hP4)
            · (clear k0_ k1_; first | (rw [if_neg (by omega)]; omega) | (rw [if_pos (by assumption)]; omega))
          · refine k0_ _ _ _ (((gσ2.tr gσ4).tr gσ19).tr gσ29) ⟨?_, ?_, ?_, ?_, ?_, ?_, ?_⟩
            · (clear k0_ k1_; exact hTT (by assumption))
            · (first | omega | exact ⟨by omega, by omega⟩ | assumption)
            · (clear k0_ k1_; exact hok)
            · (clear k0_ k1_; exact hBb)
            · (clear k0_ k1_; exact hTb)
            · (clear k0_ k1_; first | exact eσ29_3 | exact eσ58_3 | exact hPa | exact hP4)
            · (clear k0_ k1_; first | (rw [if_neg (by omega)]; omega) | (rw [if_pos (by assumption)]; omega))
        · refine RVI_mk ?_ ?_
          · (first | exact ⟨by omega, by omega⟩ | assumption)
          · refine ⟨?_, ?_⟩
            · (clear k0_ k1_; first | exact Or.inl ⟨fun z => by omega, rfl, hR4⟩ | exact Or.inr (Or.inl ⟨⟨by omega, by omega, by omega⟩, fun z => absurd (eσ19_0.mpr (hal.mpr z)) (by omega), rfl, hRa (by omega)⟩) | exact Or.inr (Or.inl ⟨⟨by omega, by omega, by omega⟩, fun z => absurd (eσ48_0.mpr (hal.mpr z)) (by omega), rfl, hRa (by omega)⟩) | exact Or.inr (Or.inr (Or.inl ⟨hok.1, hok.2, rfl, hBl (Classical.byContradiction (fun z => by contradiction))⟩)))
            · (clear k0_ k1_; first | exact eσ29_3 | exact eσ58_3 | exact hPa | exact hP4)
      · refine RVI_mk ?_ ?_
        · (first | exact ⟨by omega, by omega⟩ | assumption)
        · refine ⟨?_, ?_⟩
          · (clear k0_ k1_; first | exact Or.inl ⟨fun z => by omega, rfl, hR4⟩ | exact Or.inr (Or.inl ⟨⟨by omega, by omega, by omega⟩, fun z => absurd (eσ19_0.mpr (hal.mpr z)) (by omega), rfl, hRa (by omega)⟩) | exact Or.inr (Or.inl ⟨⟨by omega, by omega, by omega⟩, fun z => absurd (eσ48_0.mpr (hal.mpr z)) (by omega), rfl, hRa (by omega)⟩) | exact Or.inr (Or.inr (Or.inl ⟨hok.1, hok.2, rfl, hBl (Classical.byContradiction (fun z => by contradiction))⟩)))
          · (clear k0_ k1_; first | exact eσ29_3 | exact eσ58_3 | exact hPa | exact hP4)
    · refine ⟨?_, ?_⟩
      · omega
      refine ⟨?_, ?_⟩
      · (first | omega | exact ⟨by omega, by omega⟩ | assumption)
      refine ⟨?_, ?_⟩
      · (first | omega | exact ⟨by omega, by omega⟩ | assumption)
      refine ⟨?_, ?_⟩
      · (first | omega | exact ⟨by omega, by omega⟩ | assumption)
      refine ⟨fun c11 => ?_, fun c12 => ?_⟩
      · refine ⟨?_, ?_⟩
        · omega
        refine ⟨?_, ?_⟩
        · (first | omega | exact ⟨by omega, by omega⟩ | assumption)
        refine ⟨?_, ?_⟩
        · (first | omega | exact ⟨by omega, by omega⟩ | assumption)
        refine ⟨?_, ?_⟩
        · (clear k0_ k1_; exact h9)
        rintro y49 σ48 ⟨y49f, y49fq⟩ gσ48 ⟨eσ48_0, ⟨⟨eσ48_1r, eσ48_1s, eσ48_1n⟩, eσ48_1⟩⟩
        have hal : alN (fun s => 0 ≤ nOf (σ4.I 210) (σ4.I 0 96) s) (σ4.I 0 95) ↔ alN (fun s => 0 ≤ nOf (σ.I 210) (σ.I 0 96) s) (σ.I 0 95) := (by rw [h4f.2.1, h4f.2.2.1, h210])
        have hai := eσ48_1
        have ea : ∀ c i, c ≠ 211 → σ48.I c i = σ4.I c i := fun c i q => (by rw [hai]; exact if_neg (fun z => q z.2))
        have hRa : y49 = 0 → RD σ σ48 (fun c i => if c = 0 ∧ (i = 1 ∨ i = 88) then 0 else σ.I c i) := fun h => ⟨⟨eσ48_1r.trans r4.1, eσ48_1s.trans r4.2.1, eσ48_1n.trans r4.2.2⟩, (by rw [hai]; funext c i; rw [if_neg (fun z => by have z1 := z.1; omega), i4])⟩
        have hSa : y49 = 1 → TY0 σ σ48 := fun h => ⟨⟨eσ48_1r.trans r4.1, eσ48_1s.trans r4.2.1, eσ48_1n.trans r4.2.2⟩, (by rw [hai]; funext c i; by_cases z : c = 211; (rw [if_pos ⟨h, z⟩, if_pos z, h4c c i (by omega), h4f.2.1, h4f.2.2.1, h210]); (rw [if_neg (fun w => z w.2), if_neg z, i4]))⟩
        have n39 : ∀ c i, c ≠ 211 → ¬ (c = 0 ∧ (i = 1 ∨ i = 88)) → σ48.I c i = σ.I c i := fun c i a b => (ea c i a).trans (h4 c i b)
        have n39c : ∀ c i, c ≠ 211 → c ≠ 0 → σ48.I c i = σ.I c i := fun c i a b => (ea c i a).trans (h4c c i b)
        have hPa : PBD σ48 155 := PBD_e hP4 (fun c i q => ea c i (by omega))
        have g46 : σ48.I 0 46 = σ.I 0 46 := n39 _ _ (by decide) (by omega)
        have er39 : σ48.2 = σ.2 := Prod.ext (eσ48_1r.trans r4.1) (Prod.ext (eσ48_1s.trans r4.2.1) (eσ48_1n.trans r4.2.2))
        have eA39 : ∀ c, 16 ≤ c ∧ c < 80 → σ48.I c = σ.I c := fun c q => funext fun i => n39c c i (by omega) (by omega)
        have eG39 : ∀ c, 675 ≤ c → σ48.I c = σ.I c := fun c q => funext fun i => n39c c i (by omega) (by omega)
        have eF39 : ∀ i, i = 4 ∨ i = 9 ∨ i = 20 ∨ i = 31 ∨ i = 39 → σ48.I 0 i = σ.I 0 i := fun i q => n39 0 i (by omega) (by omega)
        have hBa : BSX σ48 K V := BSX_e p2 eA39 eF39 (congrArg (·.1) er39) (congrArg (·.2.1) er39) (congrArg (·.2.2) er39) eG39 (HOWA_e p2.2.2.2.2.2.2.2.2.2.2.2.2 eA39 eF39)
        have hub : 215 ≤ (ubX σ) ∧ (ubX σ) ≤ 260 := (by unfold ubX; omega)
        have hub2 : ubX σ48 = (ubX σ) := (by unfold ubX; rw [g46])
        have hQu : 0 < σ48.I 0 46 → σ48.I (ubX σ48) 1 ≠ 0 → QLX σ48 (ubX σ48) := (by rw [hub2, g46]; intro a b; exact (CPR_q (CPR_id (fun c i x y => n39c c i (by omega) (by omega))) (p3 a (by rw [← n39c _ _ (by omega) (by omega)]; exact b)) eA39 ⟨eF39 9 (by omega), eF39 4 (by omega), eF39 20 (by omega)⟩ er39 eG39 p2.2.2.2.1).1)
        refine ⟨fun c13 => ?_, fun c14 => ?_⟩
        · refine ⟨?_, ?_⟩
          · omega
          refine ⟨?_, ?_⟩
          · (first | omega | exact ⟨by omega, by omega⟩ | assumption)
          refine ⟨?_, ?_⟩
          · (first | omega | exact ⟨by omega, by omega⟩ | assumption)
          refine ⟨?_, ?_⟩
          · (first | omega | exact ⟨by omega, by omega⟩ | assumption)
          refine ⟨?_, ?_⟩
          · (clear k0_ k1_; exact hBa)
          refine ⟨?_, ?_⟩
          · (clear k0_ k1_; exact hQu)
          refine ⟨?_, ?_⟩
          · (clear k0_ k1_; exact hPa)
          rintro σ58 gσ58 ⟨eσ58_0, eσ58_1, eσ58_2, eσ58_3, eσ58_4⟩
          have kb : ∀ c i, ¬ wsMw 121 c i → σ58.I c i = σ48.I c i := eσ58_4.2
          have eA30 : ∀ c, 16 ≤ c ∧ c < 80 → σ58.I c = σ48.I c := fun c q => funext fun i => kb c i (by unfold wsMw; omega)
          have eG30 : ∀ c, 675 ≤ c → σ58.I c = σ48.I c := fun c q => funext fun i => kb c i (by unfold wsMw; omega)
          have eF30 : ∀ i, i = 4 ∨ i = 9 ∨ i = 20 ∨ i = 31 ∨ i = 39 → σ58.I 0 i = σ48.I 0 i := fun i q => kb 0 i (by unfold wsMw; omega)
          have er30 : σ58.2 = σ48.2 := Prod.ext eσ58_4.1.1 (Prod.ext eσ58_4.1.2.1 eσ58_4.1.2.2)
          have hBb : BSX σ58 K V := BSX_e hBa eA30 eF30 (congrArg (·.1) er30) (congrArg (·.2.1) er30) (congrArg (·.2.2) er30) eG30 (HOWA_e hBa.2.2.2.2.2.2.2.2.2.2.2.2 eA30 eF30)
          have hW : WNY σ48 σ58 K V (if x1 = -1 then σ.I 0 40 else if 0 ≤ x1 ∧ x1 ≤ 3 then σ.I 48 x1 else -1) := (by rw [← hy7]; exact ⟨eσ58_0, eσ58_2, eσ58_4⟩)
          have hTb : TUB σ58 := TUB_e p11 (fun c i x y => (kb c i (by unfold wsMw; omega)).trans (n39c c i (by omega) (by omega)))
          have c88 : σ58.I 0 88 = 0 := (kb _ _ (by unfold wsMw; omega)).trans ((ea _ _ (by decide)).trans z4.2)
          have h201 : bd_0_36499 σ58 201 11 := bd_0_36499_eq p12 (funext fun i => (kb _ _ (by unfold wsMw; omega)).trans (n39c _ _ (by decide) (by decide)))
          have hok : (0 ≤ (if x1 = -1 then σ.I 0 40 else if 0 ≤ x1 ∧ x1 ≤ 3 then σ.I 48 x1 else -1) ∧ (0 ≤ x2 ∧ x2 < σ.I 0 9) ∧ (σ.I 16 x2 = 0 ∨ σ.I 16 x2 = 1)) ∧ alN (fun s => 0 ≤ nOf (σ.I 210) (σ.I 0 96) s) (σ.I 0 95) := ⟨⟨by omega, by omega, by omega⟩, hal.mp (eσ48_0.mp (by omega))⟩
          have hcnt := hBb.1.2.2.2.2.1
          have hTT : ¬ bt32 (σ58.I 136 1) x2 → TT1 σ σ58 K V (if x1 = -1 then σ.I 0 40 else if 0 ≤ x1 ∧ x1 ≤ 3 then σ.I 48 x1 else -1) x2 (if x3 ≠ 0 then min (σ.I 0 1) 20 else σ.I 0 1) x3 0 := fun q => ⟨σ48, σ58, hSa (by omega), hW, q, ⟨hTb, hBb.2.2.1, by omega⟩, TTI_0 c88 h201⟩
          have hBl : bt32 (σ58.I 136 1) x2 → ∃ ς, TY0 σ ς ∧ WNY ς σ58 K V (if x1 = -1 then σ.I 0 40 else if 0 ≤ x1 ∧ x1 ≤ 3 then σ.I 48 x1 else -1) ∧ bt32 (σ58.I 136 1) x2 := fun q => ⟨σ48, hSa (by omega), hW, q⟩
          refine ⟨?_, ?_⟩
          · omega
          refine ⟨?_, ?_⟩
          · (first | omega | exact ⟨by omega, by omega⟩ | assumption)
          refine ⟨fun c15 => ?_, fun c16 => ?_⟩
          · refine ⟨?_, ?_⟩
            · (first | exact ⟨by omega, by omega⟩ | assumption)
            refine ⟨fun c17 => ?_, fun c18 => ?_⟩
            · refine k0_ _ _ _ (((gσ2.tr gσ4).tr gσ48).tr gσ58) ⟨?_, ?_, ?_, ?_, ?_, ?_, ?_⟩
              · (clear k0_ k1_; exact hTT (by assumption))
              · (first | omega | exact ⟨by omega, by omega⟩ | assumption)
              · (clear k0_ k1_; exact hok)
              · (clear k0_ k1_; exact hBb)
              · (clear k0_ k1_; exact hTb)
              · (clear k0_ k1_; first | exact eσ29_3 | exact eσ58_3 | exact hPa | exact hP4)
              · (clear k0_ k1_; first | (rw [if_neg (by omega)]; omega) | (rw [if_pos (by assumption)]; omega))
            · refine k0_ _ _ _ (((gσ2.tr gσ4).tr gσ48).tr gσ58) ⟨?_, ?_, ?_, ?_, ?_, ?_, ?_⟩
              · (clear k0_ k1_; exact hTT (by assumption))
              · (first | omega | exact ⟨by omega, by omega⟩ | assumption)
              · (clear k0_ k1_; exact hok)
              · (clear k0_ k1_; exact hBb)
              · (clear k0_ k1_; exact hTb)
              · (clear k0_ k1_; first | exact eσ29_3 | exact eσ58_3 | exact hPa | exact hP4)
              · (clear k0_ k1_; first | (rw [if_neg (by omega)]; omega) | (rw [if_pos (by assumption)]; omega))
          · refine RVI_mk ?_ ?_
            · (first | exact ⟨by omega, by omega⟩ | assumption)
            · refine ⟨?_, ?_⟩
              · (clear k0_ k1_; first | exact Or.inl ⟨fun z => by omega, rfl, hR4⟩ | exact Or.inr (Or.inl ⟨⟨by omega, by omega, by omega⟩, fun z => absurd (eσ19_0.mpr (hal.mpr z)) (by omega), rfl, hRa (by omega)⟩) | exact Or.inr (Or.inl ⟨⟨by omega, by omega, by omega⟩, fun z => absurd (eσ48_0.mpr (hal.mpr z)) (by omega), rfl, hRa (by omega)⟩) | exact Or.inr (Or.inr (Or.inl ⟨hok.1, hok.2, rfl, hBl (Classical.byContradiction (fun z => by contradiction))⟩)))
              · (clear k0_ k1_; first | exact eσ29_3 | exact eσ58_3 | exact hPa | exact hP4)
        · refine RVI_mk ?_ ?_
          · (first | exact ⟨by omega, by omega⟩ | assumption)
          · refine ⟨?_, ?_⟩
            · (clear k0_ k1_; first | exact Or.inl ⟨fun z => by omega, rfl, hR4⟩ | exact Or.inr (Or.inl ⟨⟨by omega, by omega, by omega⟩, fun z => absurd (eσ19_0.mpr (hal.mpr z)) (by omega), rfl, hRa (by omega)⟩) | exact Or.inr (Or.inl ⟨⟨by omega, by omega, by omega⟩, fun z => absurd (eσ48_0.mpr (hal.mpr z)) (by omega), rfl, hRa (by omega)⟩) | exact Or.inr (Or.inr (Or.inl ⟨hok.1, hok.2, rfl, hBl (Classical.byContradiction (fun z => by contradiction))⟩)))
            · (clear k0_ k1_; first | exact eσ29_3 | exact eσ58_3 | exact hPa | exact hP4)
      · refine RVI_mk ?_ ?_
        · (first | exact ⟨by omega, by omega⟩ | assumption)
        · refine ⟨?_, ?_⟩
          · (clear k0_ k1_; first | exact Or.inl ⟨fun z => by omega, rfl, hR4⟩ | exact Or.inr (Or.inl ⟨⟨by omega, by omega, by omega⟩, fun z => absurd (eσ19_0.mpr (hal.mpr z)) (by omega), rfl, hRa (by omega)⟩) | exact Or.inr (Or.inl ⟨⟨by omega, by omega, by omega⟩, fun z => absurd (eσ48_0.mpr (hal.mpr z)) (by omega), rfl, hRa (by omega)⟩) | exact Or.inr (Or.inr (Or.inl ⟨hok.1, hok.2, rfl, hBl (Classical.byContradiction (fun z => by contradiction))⟩)))
          · (clear k0_ k1_; first | exact eσ29_3 | exact eσ58_3 | exact hPa | exact hP4)
