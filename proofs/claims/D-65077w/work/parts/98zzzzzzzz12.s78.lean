set_option maxRecDepth 100000
set_option maxHeartbeats 1200000
theorem DX5_others_0W : DD cX5_others 0 1 1 (.aload_n 0) := ⟨by decide +kernel, rfl⟩
theorem DX5_others_1W : DD cX5_others 1 3 4 (.getfield 18) := ⟨by decide +kernel, rfl⟩
theorem DX5_others_4W : DD cX5_others 4 3 7 (.getfield 95) := ⟨by decide +kernel, rfl⟩
theorem DX5_others_7W : DD cX5_others 7 1 8 (.iload_n 1) := ⟨by decide +kernel, rfl⟩
theorem DX5_others_8W : DD cX5_others 8 1 9 (.iaload) := ⟨by decide +kernel, rfl⟩
theorem DX5_others_9W : DD cX5_others 9 27 36 (.tableswitch 201 8 10 #[27, 145, 145]) := ⟨by decide +kernel, rfl⟩
theorem DX5_others_36W : DD cX5_others 36 1 37 (.aload_n 0) := ⟨by decide +kernel, rfl⟩
theorem DX5_others_37W : DD cX5_others 37 3 40 (.getfield 3) := ⟨by decide +kernel, rfl⟩
theorem DX5_others_40W : DD cX5_others 40 3 43 (.getfield 120) := ⟨by decide +kernel, rfl⟩
theorem DX5_others_43W : DD cX5_others 43 1 44 (.aload_n 0) := ⟨by decide +kernel, rfl⟩
theorem DX5_others_44W : DD cX5_others 44 3 47 (.getfield 18) := ⟨by decide +kernel, rfl⟩
theorem DX5_others_47W : DD cX5_others 47 3 50 (.getfield 105) := ⟨by decide +kernel, rfl⟩
theorem DX5_others_50W : DD cX5_others 50 1 51 (.iload_n 1) := ⟨by decide +kernel, rfl⟩
theorem DX5_others_51W : DD cX5_others 51 1 52 (.iaload) := ⟨by decide +kernel, rfl⟩
theorem DX5_others_52W : DD cX5_others 52 1 53 (.aload_n 0) := ⟨by decide +kernel, rfl⟩
theorem DX5_others_53W : DD cX5_others 53 3 56 (.getfield 18) := ⟨by decide +kernel, rfl⟩
theorem DX5_others_56W : DD cX5_others 56 3 59 (.getfield 124) := ⟨by decide +kernel, rfl⟩
theorem DX5_others_59W : DD cX5_others 59 1 60 (.aload_n 0) := ⟨by decide +kernel, rfl⟩
theorem DX5_others_60W : DD cX5_others 60 3 63 (.getfield 18) := ⟨by decide +kernel, rfl⟩
theorem DX5_others_63W : DD cX5_others 63 3 66 (.getfield 127) := ⟨by decide +kernel, rfl⟩
theorem DX5_others_66W : DD cX5_others 66 1 67 (.iload_n 1) := ⟨by decide +kernel, rfl⟩
theorem DX5_others_67W : DD cX5_others 67 1 68 (.iaload) := ⟨by decide +kernel, rfl⟩
theorem DX5_others_68W : DD cX5_others 68 1 69 (.aload_n 0) := ⟨by decide +kernel, rfl⟩
theorem DX5_others_69W : DD cX5_others 69 3 72 (.getfield 18) := ⟨by decide +kernel, rfl⟩
theorem DX5_others_72W : DD cX5_others 72 3 75 (.getfield 130) := ⟨by decide +kernel, rfl⟩
theorem DX5_others_75W : DD cX5_others 75 1 76 (.iload_n 1) := ⟨by decide +kernel, rfl⟩
theorem DX5_others_76W : DD cX5_others 76 1 77 (.iaload) := ⟨by decide +kernel, rfl⟩
theorem DX5_others_77W : DD cX5_others 77 1 78 (.aload_n 0) := ⟨by decide +kernel, rfl⟩
theorem DX5_others_78W : DD cX5_others 78 3 81 (.getfield 18) := ⟨by decide +kernel, rfl⟩
theorem DX5_others_81W : DD cX5_others 81 3 84 (.getfield 127) := ⟨by decide +kernel, rfl⟩
theorem DX5_others_84W : DD cX5_others 84 1 85 (.iload_n 1) := ⟨by decide +kernel, rfl⟩
theorem DX5_others_85W : DD cX5_others 85 1 86 (.iaload) := ⟨by decide +kernel, rfl⟩
theorem DX5_others_86W : DD cX5_others 86 1 87 (.isub) := ⟨by decide +kernel, rfl⟩
theorem DX5_others_87W : DD cX5_others 87 3 90 (.invokevirtual 133) := ⟨by decide +kernel, rfl⟩
theorem DX5_others_90W : DD cX5_others 90 1 91 (.istore_n 2) := ⟨by decide +kernel, rfl⟩
theorem DX5_others_91W : DD cX5_others 91 1 92 (.iload_n 2) := ⟨by decide +kernel, rfl⟩
theorem DX5_others_92W : DD cX5_others 92 3 95 (.ifCond .lt 24) := ⟨by decide +kernel, rfl⟩
theorem DX5_others_95W : DD cX5_others 95 1 96 (.aload_n 0) := ⟨by decide +kernel, rfl⟩
theorem DX5_others_96W : DD cX5_others 96 3 99 (.getfield 18) := ⟨by decide +kernel, rfl⟩
theorem DX5_others_99W : DD cX5_others 99 3 102 (.getfield 130) := ⟨by decide +kernel, rfl⟩
theorem DX5_others_102W : DD cX5_others 102 1 103 (.iload_n 1) := ⟨by decide +kernel, rfl⟩
theorem DX5_others_103W : DD cX5_others 103 1 104 (.iaload) := ⟨by decide +kernel, rfl⟩
theorem DX5_others_104W : DD cX5_others 104 1 105 (.aload_n 0) := ⟨by decide +kernel, rfl⟩
theorem DX5_others_105W : DD cX5_others 105 3 108 (.getfield 18) := ⟨by decide +kernel, rfl⟩
theorem DX5_others_108W : DD cX5_others 108 3 111 (.getfield 127) := ⟨by decide +kernel, rfl⟩
theorem DX5_others_111W : DD cX5_others 111 1 112 (.iload_n 1) := ⟨by decide +kernel, rfl⟩
theorem DX5_others_112W : DD cX5_others 112 1 113 (.iaload) := ⟨by decide +kernel, rfl⟩
theorem DX5_others_113W : DD cX5_others 113 3 116 (.if_icmp .ne 4) := ⟨by decide +kernel, rfl⟩
theorem DX5_others_116W : DD cX5_others 116 1 117 (.return_) := ⟨by decide +kernel, rfl⟩
theorem DX5_others_117W : DD cX5_others 117 1 118 (.aload_n 0) := ⟨by decide +kernel, rfl⟩
theorem DX5_others_118W : DD cX5_others 118 1 119 (.iload_n 1) := ⟨by decide +kernel, rfl⟩
theorem DX5_others_119W : DD cX5_others 119 1 120 (.iload_n 2) := ⟨by decide +kernel, rfl⟩
theorem DX5_others_120W : DD cX5_others 120 3 123 (.invokevirtual 139) := ⟨by decide +kernel, rfl⟩
theorem DX5_others_123W : DD cX5_others 123 1 124 (.aload_n 0) := ⟨by decide +kernel, rfl⟩
theorem DX5_others_124W : DD cX5_others 124 3 127 (.getfield 35) := ⟨by decide +kernel, rfl⟩
theorem DX5_others_127W : DD cX5_others 127 1 128 (.iload_n 1) := ⟨by decide +kernel, rfl⟩
theorem DX5_others_128W : DD cX5_others 128 1 129 (.aload_n 0) := ⟨by decide +kernel, rfl⟩
theorem DX5_others_129W : DD cX5_others 129 1 130 (.aload_n 0) := ⟨by decide +kernel, rfl⟩
theorem DX5_others_130W : DD cX5_others 130 3 133 (.getfield 18) := ⟨by decide +kernel, rfl⟩
theorem DX5_others_133W : DD cX5_others 133 3 136 (.getfield 105) := ⟨by decide +kernel, rfl⟩
theorem DX5_others_136W : DD cX5_others 136 1 137 (.iload_n 1) := ⟨by decide +kernel, rfl⟩
theorem DX5_others_137W : DD cX5_others 137 1 138 (.iaload) := ⟨by decide +kernel, rfl⟩
theorem DX5_others_138W : DD cX5_others 138 1 139 (.aload_n 0) := ⟨by decide +kernel, rfl⟩
theorem DX5_others_139W : DD cX5_others 139 3 142 (.getfield 27) := ⟨by decide +kernel, rfl⟩
theorem DX5_others_142W : DD cX5_others 142 1 143 (.iload_n 2) := ⟨by decide +kernel, rfl⟩
theorem DX5_others_143W : DD cX5_others 143 3 146 (.invokevirtual 143) := ⟨by decide +kernel, rfl⟩
theorem DX5_others_146W : DD cX5_others 146 3 149 (.invokevirtual 147) := ⟨by decide +kernel, rfl⟩
theorem DX5_others_149W : DD cX5_others 149 1 150 (.i2l) := ⟨by decide +kernel, rfl⟩
theorem DX5_others_150W : DD cX5_others 150 1 151 (.lastore) := ⟨by decide +kernel, rfl⟩
theorem DX5_others_151W : DD cX5_others 151 3 154 (.goto 120) := ⟨by decide +kernel, rfl⟩
theorem DX5_others_154W : DD cX5_others 154 1 155 (.aload_n 0) := ⟨by decide +kernel, rfl⟩
theorem DX5_others_155W : DD cX5_others 155 3 158 (.getfield 27) := ⟨by decide +kernel, rfl⟩
theorem DX5_others_158W : DD cX5_others 158 3 161 (.getfield 151) := ⟨by decide +kernel, rfl⟩
theorem DX5_others_161W : DD cX5_others 161 1 162 (.istore_n 3) := ⟨by decide +kernel, rfl⟩
theorem DX5_others_162W : DD cX5_others 162 1 163 (.iload_n 3) := ⟨by decide +kernel, rfl⟩
theorem DX5_others_163W : DD cX5_others 163 1 164 (.aload_n 0) := ⟨by decide +kernel, rfl⟩
theorem DX5_others_164W : DD cX5_others 164 3 167 (.getfield 27) := ⟨by decide +kernel, rfl⟩
theorem DX5_others_167W : DD cX5_others 167 3 170 (.getfield 98) := ⟨by decide +kernel, rfl⟩
theorem DX5_others_170W : DD cX5_others 170 3 173 (.if_icmp .ge 37) := ⟨by decide +kernel, rfl⟩
theorem DX5_others_173W : DD cX5_others 173 1 174 (.aload_n 0) := ⟨by decide +kernel, rfl⟩
theorem DX5_others_174W : DD cX5_others 174 3 177 (.getfield 27) := ⟨by decide +kernel, rfl⟩
theorem DX5_others_177W : DD cX5_others 177 3 180 (.getfield 154) := ⟨by decide +kernel, rfl⟩
theorem DX5_others_180W : DD cX5_others 180 1 181 (.iload_n 3) := ⟨by decide +kernel, rfl⟩
theorem DX5_others_181W : DD cX5_others 181 1 182 (.baload) := ⟨by decide +kernel, rfl⟩
theorem DX5_others_182W : DD cX5_others 182 3 185 (.ifCond .eq 19) := ⟨by decide +kernel, rfl⟩
theorem DX5_others_185W : DD cX5_others 185 1 186 (.aload_n 0) := ⟨by decide +kernel, rfl⟩
theorem DX5_others_186W : DD cX5_others 186 1 187 (.iload_n 1) := ⟨by decide +kernel, rfl⟩
theorem DX5_others_187W : DD cX5_others 187 1 188 (.iload_n 3) := ⟨by decide +kernel, rfl⟩
theorem DX5_others_188W : DD cX5_others 188 3 191 (.invokevirtual 157) := ⟨by decide +kernel, rfl⟩
theorem DX5_others_191W : DD cX5_others 191 3 194 (.ifCond .eq 10) := ⟨by decide +kernel, rfl⟩
theorem DX5_others_194W : DD cX5_others 194 1 195 (.aload_n 0) := ⟨by decide +kernel, rfl⟩
theorem DX5_others_195W : DD cX5_others 195 1 196 (.iload_n 1) := ⟨by decide +kernel, rfl⟩
theorem DX5_others_196W : DD cX5_others 196 1 197 (.iload_n 3) := ⟨by decide +kernel, rfl⟩
theorem DX5_others_197W : DD cX5_others 197 1 198 (.iconst 1) := ⟨by decide +kernel, rfl⟩
theorem DX5_others_198W : DD cX5_others 198 3 201 (.invokevirtual 101) := ⟨by decide +kernel, rfl⟩
theorem DX5_others_201W : DD cX5_others 201 3 204 (.iinc 3 1) := ⟨by decide +kernel, rfl⟩
theorem DX5_others_204W : DD cX5_others 204 3 207 (.goto (-42)) := ⟨by decide +kernel, rfl⟩
theorem DX5_others_207W : DD cX5_others 207 3 210 (.goto 64) := ⟨by decide +kernel, rfl⟩
theorem DX5_others_210W : DD cX5_others 210 1 211 (.iconst 0) := ⟨by decide +kernel, rfl⟩
theorem DX5_others_211W : DD cX5_others 211 1 212 (.istore_n 3) := ⟨by decide +kernel, rfl⟩
theorem DX5_others_212W : DD cX5_others 212 1 213 (.iload_n 3) := ⟨by decide +kernel, rfl⟩
theorem DX5_others_213W : DD cX5_others 213 1 214 (.aload_n 0) := ⟨by decide +kernel, rfl⟩
theorem DX5_others_214W : DD cX5_others 214 3 217 (.getfield 3) := ⟨by decide +kernel, rfl⟩
theorem DX5_others_217W : DD cX5_others 217 3 220 (.getfield 120) := ⟨by decide +kernel, rfl⟩
theorem DX5_others_220W : DD cX5_others 220 3 223 (.getfield 161) := ⟨by decide +kernel, rfl⟩
theorem DX5_others_223W : DD cX5_others 223 3 226 (.if_icmp .ge 48) := ⟨by decide +kernel, rfl⟩
theorem DX5_others_226W : DD cX5_others 226 1 227 (.aload_n 0) := ⟨by decide +kernel, rfl⟩
theorem DX5_others_227W : DD cX5_others 227 3 230 (.getfield 3) := ⟨by decide +kernel, rfl⟩
theorem DX5_others_230W : DD cX5_others 230 3 233 (.getfield 120) := ⟨by decide +kernel, rfl⟩
theorem DX5_others_233W : DD cX5_others 233 3 236 (.getfield 163) := ⟨by decide +kernel, rfl⟩
theorem DX5_others_236W : DD cX5_others 236 1 237 (.iload_n 3) := ⟨by decide +kernel, rfl⟩
theorem DX5_others_237W : DD cX5_others 237 1 238 (.baload) := ⟨by decide +kernel, rfl⟩
theorem DX5_others_238W : DD cX5_others 238 1 239 (.aload_n 0) := ⟨by decide +kernel, rfl⟩
theorem DX5_others_239W : DD cX5_others 239 3 242 (.getfield 18) := ⟨by decide +kernel, rfl⟩
theorem DX5_others_242W : DD cX5_others 242 3 245 (.getfield 105) := ⟨by decide +kernel, rfl⟩
theorem DX5_others_245W : DD cX5_others 245 1 246 (.iload_n 1) := ⟨by decide +kernel, rfl⟩
theorem DX5_others_246W : DD cX5_others 246 1 247 (.iaload) := ⟨by decide +kernel, rfl⟩
theorem DX5_others_247W : DD cX5_others 247 3 250 (.if_icmp .ne 18) := ⟨by decide +kernel, rfl⟩
theorem DX5_others_250W : DD cX5_others 250 1 251 (.aload_n 0) := ⟨by decide +kernel, rfl⟩
theorem DX5_others_251W : DD cX5_others 251 1 252 (.iload_n 1) := ⟨by decide +kernel, rfl⟩
theorem DX5_others_252W : DD cX5_others 252 1 253 (.iload_n 3) := ⟨by decide +kernel, rfl⟩
theorem DX5_others_253W : DD cX5_others 253 3 256 (.invokevirtual 165) := ⟨by decide +kernel, rfl⟩
theorem DX5_others_256W : DD cX5_others 256 3 259 (.ifCond .eq 9) := ⟨by decide +kernel, rfl⟩
theorem DX5_others_259W : DD cX5_others 259 1 260 (.aload_n 0) := ⟨by decide +kernel, rfl⟩
theorem DX5_others_260W : DD cX5_others 260 1 261 (.iload_n 1) := ⟨by decide +kernel, rfl⟩
theorem DX5_others_261W : DD cX5_others 261 1 262 (.iload_n 3) := ⟨by decide +kernel, rfl⟩
theorem DX5_others_262W : DD cX5_others 262 3 265 (.invokevirtual 139) := ⟨by decide +kernel, rfl⟩
theorem DX5_others_265W : DD cX5_others 265 3 268 (.iinc 3 1) := ⟨by decide +kernel, rfl⟩
theorem DX5_others_268W : DD cX5_others 268 3 271 (.goto (-56)) := ⟨by decide +kernel, rfl⟩
theorem DX5_others_271W : DD cX5_others 271 1 272 (.return_) := ⟨by decide +kernel, rfl⟩
theorem ucX5_others_0W {E : XE} {d : Nat} {σ : Sto} {Q : Res → Sto → Prop} {K : Int} {V : Int} {o0 : Nat} {x1 : Int} (hL : Lay σ) (ho0 : At5 σ o0) (h : 0 ≤ x1 ∧ x1 < 200 ∧ (inR (σ.I ((o0 + 1) + 2) x1) → ((σ.I ((o0 + 1) + 2) x1) = 8 → 0 ≤ x1 ∧ x1 < 200 ∧ (inR (σ.I ((o0 + 1) + 7) x1) → 0 ≤ x1 ∧ x1 < 200 ∧ (inR (σ.I ((o0 + 1) + 8) x1) → 0 ≤ x1 ∧ x1 < 200 ∧ (inR (σ.I ((o0 + 1) + 9) x1) → 0 ≤ x1 ∧ x1 < 200 ∧ 2 ≤ d ∧ (0 ≤ (σ.I ((o0 + 1) + 8) x1) ∧ 0 ≤ ((σ.I ((o0 + 1) + 9) x1) - (σ.I ((o0 + 1) + 8) x1)) ∧ (σ.I ((o0 + 1) + 8) x1) + min ((σ.I ((o0 + 1) + 9) x1) - (σ.I ((o0 + 1) + 8) x1)) 20 ≤ 400) ∧ ((400 : Int) ≤ 1000000) ∧ (0 ≤ (σ.I ((o0 + 1) + 7) x1) ∧ (σ.I ((o0 + 1) + 7) x1) ≤ 12) ∧ (inR ((σ.I ((o0 + 1) + 9) x1) - (σ.I ((o0 + 1) + 8) x1))) ∧ (TC1 σ) ∧ (TC2 σ) ∧ (0 ≤ σ.I 18 7 ∧ σ.I 18 7 < 36500) ∧ (∀ y24 : Int, y24 = (ls (tQ σ (σ.I ((o0 + 1) + 7) x1) (σ.I ((o0 + 1) + 1)) (σ.I ((o0 + 1) + 8) x1) (min ((σ.I ((o0 + 1) + 9) x1) - (σ.I ((o0 + 1) + 8) x1)) 20)) (σ.I 18 7)) → inR y24 → (y24 < 0 → Q (.inl none) σ) ∧ (0 ≤ y24 → 0 ≤ x1 ∧ x1 < 200 ∧ 0 ≤ x1 ∧ x1 < 200 ∧ ((σ.I ((o0 + 1) + 9) x1) ≠ (σ.I ((o0 + 1) + 8) x1) → 3 ≤ d ∧ (o0 = 87 ∨ o0 = 121 ∨ o0 = 155) ∧ (0 ≤ x1 ∧ x1 < 200) ∧ (bd_0_59 σ (o0 + 21) 200) ∧ (0 ≤ y24 ∧ y24 < σ.I 18 7 ∧ σ.I 18 7 < 36500) ∧ (0 ≤ σ.I 20 y24 ∧ σ.I 20 y24 < 12) ∧ (PT σ K) ∧ (PW σ V) ∧ (OBV σ K V) ∧ (DRV σ) ∧ (0 ≤ σ.I 0 39 ∧ σ.I 0 39 < 601) ∧ (∀ σ44 : Sto, SF σ σ44 → ((MKD σ σ44 o0 x1 (mkQ σ o0 y24 K V)) ∧ (KFd o0 (σ.I (o0 + 21) x1) σ σ44)) → 0 ≤ x1 ∧ x1 < 200 ∧ (inR (σ44.I ((o0 + 1) + 7) x1) → 1 ≤ d ∧ (0 ≤ y24 ∧ y24 < σ44.I 18 7 ∧ σ44.I 18 7 < 36500) ∧ (0 ≤ σ44.I 20 y24 ∧ σ44.I 20 y24 < 12) ∧ (PT σ44 K) ∧ (PW σ44 V) ∧ (OBV σ44 K V) ∧ (∀ y54 : Int, y54 = (owX σ44 (o0 + 15) y24 K V) → inR y54 → 2 ≤ d ∧ (0 ≤ (σ44.I ((o0 + 1) + 7) x1) ∧ (σ44.I ((o0 + 1) + 7) x1) < 12) ∧ (0 ≤ y54 ∧ y54 ≤ σ44.I (o0 + 17) (σ44.I ((o0 + 1) + 7) x1) ∧ σ44.I (o0 + 17) (σ44.I ((o0 + 1) + 7) x1) ≤ 601) ∧ (∀ y58 : Int, y58 = (lgR (2 * σ44.I (o0 + 17) (σ44.I ((o0 + 1) + 7) x1) + 2) (2 * y54 + 1)) → inR y58 → 0 ≤ x1 ∧ x1 < 200 ∧ (∀ σ61 : Sto, σ61 = σ44.wI (o0 + 22) x1 y58 → SF σ44 σ61 → Q (.inl none) σ61)))))) ∧ ((σ.I ((o0 + 1) + 9) x1) = (σ.I ((o0 + 1) + 8) x1) → Q (.inl none) σ))))))) ∧ ((σ.I ((o0 + 1) + 2) x1) = 9 → (inR (σ.I (o0 + 15) 6) → VV E mX5_others (d + 1) 162 [(0, aO o0), (1, aI (x1)), (3, aI (σ.I (o0 + 15) 6))] [] σ Q)) ∧ ((σ.I ((o0 + 1) + 2) x1) = 10 → (inR (σ.I (o0 + 15) 6) → VV E mX5_others (d + 1) 162 [(0, aO o0), (1, aI (x1)), (3, aI (σ.I (o0 + 15) 6))] [] σ Q)) ∧ (((σ.I ((o0 + 1) + 2) x1) < 8 ∨ 10 < (σ.I ((o0 + 1) + 2) x1)) → VV E mX5_others (d + 1) 212 [(0, aO o0), (1, aI (x1)), (3, aI (0))] [] σ Q))) : VV E mX5_others (d + 1) 0 [(0, aO o0), (1, aI (x1))] [] σ Q := by
  refine v_aload_n 0 DX5_others_0W rfl rfl <| w_getR (ci := 5) (kf := 0) (kz := 0) DX5_others_1W ho0.s rfl (by decide) rfl (Or.inl q885) (fun _ _ => rfl) ho0.r0 <| w_getR (ci := 3) (kf := 5) (kz := 5) DX5_others_4W ho0.a0.s rfl (by decide) rfl (Or.inr ⟨_, q735⟩) (fun _ _ => rfl) ho0.a0.r5 <| v_iload_n 1 DX5_others_7W rfl rfl <| ?_
  obtain ⟨k1, k2, h⟩ := h
  refine v_iald DX5_others_8W ho0.a0.s5 k1 k2 (fun f3 => ?_)
  have h := h f3
  have hsw : (σ.I ((o0 + 1) + 2) x1) = 8 ∨ (σ.I ((o0 + 1) + 2) x1) = 9 ∨ (σ.I ((o0 + 1) + 2) x1) = 10 ∨ ((σ.I ((o0 + 1) + 2) x1) < 8 ∨ 10 < (σ.I ((o0 + 1) + 2) x1)) := by omega
  rcases hsw with hsw | hsw | hsw | hsw
  · have h := h.1 hsw
    refine v_tsw (tg := 36) DX5_others_9W.1 (v := 8) ⟨by decide, by decide⟩ hsw ⟨by decide, by decide⟩ rfl (by decide) ?_
    refine v_aload_n 0 DX5_others_36W rfl rfl <| w_getR (ci := 5) (kf := 20) (kz := 20) DX5_others_37W ho0.s rfl (by decide) rfl (Or.inl q908) (fun _ _ => rfl) ho0.r20 <| w_getR (ci := 0) (kf := 10) (kz := 10) DX5_others_40W (s_0 hL) rfl (by decide) rfl (Or.inr ⟨_, q1011⟩) (fun _ _ => rfl) (r_0_10 hL) <| v_aload_n 0 DX5_others_43W rfl rfl <| w_getR (ci := 5) (kf := 0) (kz := 0) DX5_others_44W ho0.s rfl (by decide) rfl (Or.inl q885) (fun _ _ => rfl) ho0.r0 <| w_getR (ci := 3) (kf := 10) (kz := 10) DX5_others_47W ho0.a0.s rfl (by decide) rfl (Or.inr ⟨_, q750⟩) (fun _ _ => rfl) ho0.a0.r10 <| v_iload_n 1 DX5_others_50W rfl rfl <| ?_
    obtain ⟨k4, k5, h⟩ := h
    refine v_iald DX5_others_51W ho0.a0.s10 k4 k5 (fun f6 => ?_)
    have h := h f6
    refine v_aload_n 0 DX5_others_52W rfl rfl <| w_getR (ci := 5) (kf := 0) (kz := 0) DX5_others_53W ho0.s rfl (by decide) rfl (Or.inl q885) (fun _ _ => rfl) ho0.r0 <| w_getR (ci := 3) (kf := 0) (kz := 0) DX5_others_56W ho0.a0.s rfl (by decide) rfl (Or.inr ⟨_, q720⟩) (fun _ _ => rfl) ho0.a0.r0 <| v_aload_n 0 DX5_others_59W rfl rfl <| w_getR (ci := 5) (kf := 0) (kz := 0) DX5_others_60W ho0.s rfl (by decide) rfl (Or.inl q885) (fun _ _ => rfl) ho0.r0 <| w_getR (ci := 3) (kf := 11) (kz := 11) DX5_others_63W ho0.a0.s rfl (by decide) rfl (Or.inr ⟨_, q753⟩) (fun _ _ => rfl) ho0.a0.r11 <| v_iload_n 1 DX5_others_66W rfl rfl <| ?_
    obtain ⟨k7, k8, h⟩ := h
    refine v_iald DX5_others_67W ho0.a0.s11 k7 k8 (fun f9 => ?_)
    have h := h f9
    refine v_aload_n 0 DX5_others_68W rfl rfl <| w_getR (ci := 5) (kf := 0) (kz := 0) DX5_others_69W ho0.s rfl (by decide) rfl (Or.inl q885) (fun _ _ => rfl) ho0.r0 <| w_getR (ci := 3) (kf := 12) (kz := 12) DX5_others_72W ho0.a0.s rfl (by decide) rfl (Or.inr ⟨_, q756⟩) (fun _ _ => rfl) ho0.a0.r12 <| v_iload_n 1 DX5_others_75W rfl rfl <| ?_
    obtain ⟨k10, k11, h⟩ := h
    refine v_iald DX5_others_76W ho0.a0.s12 k10 k11 (fun f12 => ?_)
    have h := h f12
    refine v_aload_n 0 DX5_others_77W rfl rfl <| w_getR (ci := 5) (kf := 0) (kz := 0) DX5_others_78W ho0.s rfl (by decide) rfl (Or.inl q885) (fun _ _ => rfl) ho0.r0 <| w_getR (ci := 3) (kf := 11) (kz := 11) DX5_others_81W ho0.a0.s rfl (by decide) rfl (Or.inr ⟨_, q753⟩) (fun _ _ => rfl) ho0.a0.r11 <| v_iload_n 1 DX5_others_84W rfl rfl <| ?_
    obtain ⟨k13, k14, h⟩ := h
    refine v_iald DX5_others_85W ho0.a0.s11 k13 k14 (fun _ => ?_)
    refine v_isub DX5_others_86W <| ?_
    obtain ⟨k16, h⟩ := h
    obtain ⟨k17, k18, k19, k20, k21, k22, k23, h⟩ := h
    refine v_invV (ci := 2) (as := [aI (σ.I ((o0 + 1) + 7) x1), aO ((o0 + 1) + 1), aI (σ.I ((o0 + 1) + 8) x1), aI ((σ.I ((o0 + 1) + 9) x1) - (σ.I ((o0 + 1) + 8) x1))]) (st := []) DX5_others_87W rfl okX2_find (Or.inl q1772) q1386 (s_18 hL) rfl q1387 npX2_find (sp_X2_find (σ := σ) (x1 := σ.I ((o0 + 1) + 7) x1) (o2 := ((o0 + 1) + 1)) (n2 := 400) (x3 := σ.I ((o0 + 1) + 8) x1) (x4 := (σ.I ((o0 + 1) + 9) x1) - (σ.I ((o0 + 1) + 8) x1)) k16 hL ho0.a0.s0 k17 k18 k19 k20 k21 k22 k23) (Nat.le_of_ble_eq_true rfl) (Nat.le_refl _) (Nat.le_of_ble_eq_true rfl) (RI_ret (fun y24 y24e y24f => ?_)) RI_thr
    have h := h y24 y24e y24f
    refine v_istore_n DX5_others_90W rfl (by decide) rfl <| v_iload_n 0 DX5_others_91W rfl rfl <| ?_
    refine v_if_lt (tg := 116) DX5_others_92W (by decide) y24f (fun c25 => ?_) (fun c25 => ?_)
    · have h := h.1 c25
      exact v_vret DX5_others_116W rfl h
    · have h := h.2 c25
      refine v_aload_n 1 DX5_others_95W rfl rfl <| w_getR (ci := 5) (kf := 0) (kz := 0) DX5_others_96W ho0.s rfl (by decide) rfl (Or.inl q885) (fun _ _ => rfl) ho0.r0 <| w_getR (ci := 3) (kf := 12) (kz := 12) DX5_others_99W ho0.a0.s rfl (by decide) rfl (Or.inr ⟨_, q756⟩) (fun _ _ => rfl) ho0.a0.r12 <| v_iload_n 2 DX5_others_102W rfl rfl <| ?_
      obtain ⟨k26, k27, h⟩ := h
      refine v_iald DX5_others_103W ho0.a0.s12 k26 k27 (fun _ => ?_)
      refine v_aload_n 1 DX5_others_104W rfl rfl <| w_getR (ci := 5) (kf := 0) (kz := 0) DX5_others_105W ho0.s rfl (by decide) rfl (Or.inl q885) (fun _ _ => rfl) ho0.r0 <| w_getR (ci := 3) (kf := 11) (kz := 11) DX5_others_108W ho0.a0.s rfl (by decide) rfl (Or.inr ⟨_, q753⟩) (fun _ _ => rfl) ho0.a0.r11 <| v_iload_n 2 DX5_others_111W rfl rfl <| ?_
      obtain ⟨k29, k30, h⟩ := h
      refine v_iald DX5_others_112W ho0.a0.s11 k29 k30 (fun _ => ?_)
      refine v_icmp_ne (tg := 117) DX5_others_113W (by decide) f12 f9 (fun c32 => ?_) (fun c32 => ?_)
      · have h := h.1 c32
        refine v_aload_n 1 DX5_others_117W rfl rfl <| v_iload_n 2 DX5_others_118W rfl rfl <| v_iload_n 0 DX5_others_119W rfl rfl <| ?_
        obtain ⟨k33, h⟩ := h
        obtain ⟨k34, k35, k36, k37, k38, k39, k40, k41, k42, k43, h⟩ := h
        refine v_invV (ci := 5) (as := [aI (x1), aI (y24)]) (st := []) DX5_others_120W rfl okX5_mark (Or.inl q1822) q1824 ho0.s rfl qs69 npX5_mark (sp_X5_mark (σ := σ) (o0 := o0) (x1 := x1) (x2 := y24) (K := K) (V := V) k33 hL ho0 k34 k35 k36 k37 k38 k39 k40 k41 k42 k43) (Nat.le_of_ble_eq_true rfl) (Nat.le_refl _) (Nat.le_of_ble_eq_true rfl) (RV_ret (fun σ44 gσ44 eσ44 => ?_)) RV_thr
        have h := h σ44 gσ44 eσ44
        refine v_aload_n 1 DX5_others_123W rfl rfl <| w_getR (ci := 5) (kf := 4) (kz := 4) DX5_others_124W (ho0.sf gσ44).s rfl (by decide) rfl (Or.inl q892) (fun _ _ => rfl) (ho0.sf gσ44).r4 <| v_iload_n 2 DX5_others_127W rfl rfl <| v_aload_n 1 DX5_others_128W rfl rfl <| v_aload_n 1 DX5_others_129W rfl rfl <| w_getR (ci := 5) (kf := 0) (kz := 0) DX5_others_130W (ho0.sf gσ44).s rfl (by decide) rfl (Or.inl q885) (fun _ _ => rfl) (ho0.sf gσ44).r0 <| w_getR (ci := 3) (kf := 10) (kz := 10) DX5_others_133W (ho0.sf gσ44).a0.s rfl (by decide) rfl (Or.inr ⟨_, q750⟩) (fun _ _ => rfl) (ho0.sf gσ44).a0.r10 <| v_iload_n 2 DX5_others_136W rfl rfl <| ?_
        obtain ⟨k45, k46, h⟩ := h
        refine v_iald DX5_others_137W (ho0.sf gσ44).a0.s10 k45 k46 (fun f47 => ?_)
        have h := h f47
        refine v_aload_n 1 DX5_others_138W rfl rfl <| w_getR (ci := 5) (kf := 1) (kz := 1) DX5_others_139W (ho0.sf gσ44).s rfl (by decide) rfl (Or.inl q887) (fun _ _ => rfl) (ho0.sf gσ44).r1 <| v_iload_n 0 DX5_others_142W rfl rfl <| ?_
        obtain ⟨k48, h⟩ := h
        obtain ⟨k49, k50, k51, k52, k53, h⟩ := h
        refine v_invV (ci := 6) (as := [aI (y24)]) (st := [aI (σ44.I ((o0 + 1) + 7) x1), aO o0, aI (x1), aO (o0 + 22)]) DX5_others_143W rfl okX6_objectsWith (Or.inl q1773) q1774 (ho0.sf gσ44).a1.s rfl q1775 npX6_objectsWith (sp_X6_objectsWith (σ := σ44) (o0 := (o0 + 15)) (x1 := y24) (K := K) (V := V) k48 (hL.sf gσ44) (ho0.sf gσ44).a1 k49 k50 k51 k52 k53) (Nat.le_of_ble_eq_true rfl) (Nat.le_refl _) (Nat.le_of_ble_eq_true rfl) (RI_ret (fun y54 y54e y54f => ?_)) RI_thr
        have h := h y54 y54e y54f
        obtain ⟨k55, h⟩ := h
        obtain ⟨k56, k57, h⟩ := h
        refine v_invV (ci := 5) (as := [aI (σ44.I ((o0 + 1) + 7) x1), aI (y54)]) (st := [aI (x1), aO (o0 + 22)]) DX5_others_146W rfl okX5_idf (Or.inl q1777) q1779 (ho0.sf gσ44).s rfl qs62 npX5_idf (sp_X5_idf (σ := σ44) (o0 := o0) (x1 := σ44.I ((o0 + 1) + 7) x1) (x2 := y54) k55 (hL.sf gσ44) (ho0.sf gσ44) k56 k57) (Nat.le_of_ble_eq_true rfl) (Nat.le_refl _) (Nat.le_of_ble_eq_true rfl) (RI_ret (fun y58 y58e y58f => ?_)) RI_thr
        have h := h y58 y58e y58f
        refine v_i2l DX5_others_149W y58f <| ?_
        obtain ⟨k59, k60, h⟩ := h
        refine w_last DX5_others_150W (ho0.sf gσ44).s4 k59 k60 (inL_R y58f) (fun σ61 eσ61 gσ61 => ?_)
        have h := h σ61 eσ61 gσ61
        refine v_goto (pc' := 271) DX5_others_151W.1 (by decide) <| ?_
        exact v_vret DX5_others_271W rfl h
      · have h := h.2 c32
        exact v_vret DX5_others_116W rfl h
  · have h := h.2.1 hsw
    refine v_tsw (tg := 154) DX5_others_9W.1 (v := 9) ⟨by decide, by decide⟩ hsw ⟨by decide, by decide⟩ rfl (by decide) ?_
    refine v_aload_n 0 DX5_others_154W rfl rfl <| w_getR (ci := 5) (kf := 1) (kz := 1) DX5_others_155W ho0.s rfl (by decide) rfl (Or.inl q887) (fun _ _ => rfl) ho0.r1 <| ?_
    refine w_getI (ci := 6) (kf := 6) (kz := 6) DX5_others_158W ho0.a1.s rfl (by decide) rfl (Or.inr ⟨_, q856⟩) (fun _ _ => rfl) (fun f62 => ?_)
    have h := h f62
    refine v_istore_n DX5_others_161W rfl (by decide) rfl <| ?_
    exact v_pick [1, 2, 0] rfl h
  · have h := h.2.2.1 hsw
    refine v_tsw (tg := 154) DX5_others_9W.1 (v := 10) ⟨by decide, by decide⟩ hsw ⟨by decide, by decide⟩ rfl (by decide) ?_
    refine v_aload_n 0 DX5_others_154W rfl rfl <| w_getR (ci := 5) (kf := 1) (kz := 1) DX5_others_155W ho0.s rfl (by decide) rfl (Or.inl q887) (fun _ _ => rfl) ho0.r1 <| ?_
    refine w_getI (ci := 6) (kf := 6) (kz := 6) DX5_others_158W ho0.a1.s rfl (by decide) rfl (Or.inr ⟨_, q856⟩) (fun _ _ => rfl) (fun f63 => ?_)
    have h := h f63
    refine v_istore_n DX5_others_161W rfl (by decide) rfl <| ?_
    exact v_pick [1, 2, 0] rfl h
  · have h := h.2.2.2 hsw
    refine v_tswO (tg := 210) DX5_others_9W.1 f3 hsw (by decide) ?_
    refine v_iconst DX5_others_210W <| v_istore_n DX5_others_211W rfl (by decide) rfl <| ?_
    exact v_pick [1, 2, 0] rfl h
theorem ucX5_others_162W {E : XE} {d : Nat} {σ : Sto} {Q : Res → Sto → Prop} {K : Int} {V : Int} {o0 : Nat} {x1 : Int} {x3 : Int} (hL : Lay σ) (ho0 : At5 σ o0) (h : (inR (σ.I (o0 + 15) 7) → inR x3 ∧ ((σ.I (o0 + 15) 7) ≤ x3 → Q (.inl none) σ) ∧ (x3 < (σ.I (o0 + 15) 7) → 0 ≤ x3 ∧ x3 < 601 ∧ (0 ≤ σ.I ((o0 + 15) + 1) x3 ∧ σ.I ((o0 + 15) + 1) x3 ≤ 1 → ((σ.I ((o0 + 15) + 1) x3) = 0 → VV E mX5_others (d + 1) 162 [(0, aO o0), (1, aI (x1)), (3, aI (x3 + 1))] [] σ Q) ∧ ((σ.I ((o0 + 15) + 1) x3) ≠ 0 → 2 ≤ d ∧ (0 ≤ x1 ∧ x1 < 200) ∧ (0 ≤ x3 ∧ x3 < 601) ∧ (OB σ 42 43) ∧ (σ.I (o0 + 3) x1 ≠ 9 → (-1000000000 ≤ σ.I (o0 + 12) x1 ∧ σ.I (o0 + 12) x1 ≤ 1000000000) ∧ (-1000000000 ≤ σ.I (o0 + 13) x1 ∧ σ.I (o0 + 13) x1 ≤ 1000000000) ∧ (0 ≤ σ.I (o0 + 14) x1 ∧ σ.I (o0 + 14) x1 ≤ 1000000000)) ∧ (σ.I (o0 + 3) x1 ≠ 9 → PTX σ (σ.I (o0 + 8) x1)) ∧ (σ.I (o0 + 3) x1 ≠ 9 → σ.I 42 x3 + σ.I 43 x3 ≤ σ.I 0 20) ∧ ((exN (fun j => lvX σ o0 x1 ((σ.I 42 x3) + j)) (σ.I 43 x3)) → 1 ≤ d ∧ (0 ≤ x1 ∧ x1 < 200) ∧ (0 ≤ x3 ∧ x3 < 601) ∧ (bd_0_59 σ (o0 + 21) 200) ∧ (∀ σ21 : Sto, SF σ σ21 → (RD σ σ21 (fun c i => if at2 c i (o0 + 23) (601 * σ.I (o0 + 21) x1 + x3) then sx16 (1 : Int) else σ.I c i)) → VV E mX5_others (d + 1) 162 [(0, aO o0), (1, aI (x1)), (3, aI (x3 + 1))] [] σ21 Q)) ∧ (¬ (exN (fun j => lvX σ o0 x1 ((σ.I 42 x3) + j)) (σ.I 43 x3)) → VV E mX5_others (d + 1) 162 [(0, aO o0), (1, aI (x1)), (3, aI (x3 + 1))] [] σ Q)))))) : VV E mX5_others (d + 1) 162 [(0, aO o0), (1, aI (x1)), (3, aI (x3))] [] σ Q := by
  refine v_iload_n 2 DX5_others_162W rfl rfl <| v_aload_n 0 DX5_others_163W rfl rfl <| w_getR (ci := 5) (kf := 1) (kz := 1) DX5_others_164W ho0.s rfl (by decide) rfl (Or.inl q887) (fun _ _ => rfl) ho0.r1 <| ?_
  refine w_getI (ci := 6) (kf := 7) (kz := 7) DX5_others_167W ho0.a1.s rfl (by decide) rfl (Or.inr ⟨_, q858⟩) (fun _ _ => rfl) (fun f1 => ?_)
  have h := h f1
  obtain ⟨k2, h⟩ := h
  refine v_icmp_ge (tg := 207) DX5_others_170W (by decide) k2 f1 (fun c3 => ?_) (fun c3 => ?_)
  · have h := h.1 c3
    refine v_goto (pc' := 271) DX5_others_207W.1 (by decide) <| ?_
    exact v_vret DX5_others_271W rfl h
  · have h := h.2 c3
    refine v_aload_n 0 DX5_others_173W rfl rfl <| w_getR (ci := 5) (kf := 1) (kz := 1) DX5_others_174W ho0.s rfl (by decide) rfl (Or.inl q887) (fun _ _ => rfl) ho0.r1 <| w_getR (ci := 6) (kf := 0) (kz := 0) DX5_others_177W ho0.a1.s rfl (by decide) rfl (Or.inr ⟨_, q843⟩) (fun _ _ => rfl) ho0.a1.r0 <| v_iload_n 2 DX5_others_180W rfl rfl <| ?_
    obtain ⟨k4, k5, h⟩ := h
    refine v_zald DX5_others_181W ho0.a1.s0 k4 k5 (fun f6 => ?_)
    have h := h f6
    refine v_if_eq (tg := 201) DX5_others_182W (by decide) (inR_z f6) (fun c7 => ?_) (fun c7 => ?_)
    · have h := h.1 c7
      refine v_iinc 2 DX5_others_201W rfl (by decide) rfl <| v_goto (pc' := 162) DX5_others_204W.1 (by decide) <| ?_
      exact v_pick [1, 2, 0] rfl h
    · have h := h.2 c7
      refine v_aload_n 0 DX5_others_185W rfl rfl <| v_iload_n 1 DX5_others_186W rfl rfl <| v_iload_n 2 DX5_others_187W rfl rfl <| ?_
      obtain ⟨k8, h⟩ := h
      obtain ⟨k9, k10, k11, k12, k13, k14, h⟩ := h
      refine v_invV (ci := 5) (as := [aI (x1), aI (x3)]) (st := []) DX5_others_188W rfl okX5_fits (Or.inl q1830) q1832 ho0.s rfl qs71 npX5_fits (sp_X5_fits (σ := σ) (o0 := o0) (x1 := x1) (x2 := x3) k8 hL ho0 k9 k10 k11 k12 k13 k14) (Nat.le_of_ble_eq_true rfl) (Nat.le_refl _) (Nat.le_of_ble_eq_true rfl) (RZ_ret (fun c15 => ?_) (fun c15 => ?_)) RZ_thr
      · have h := h.1 c15
        refine v_if_eq (tg := 201) DX5_others_191W (by decide) ⟨by decide, by decide⟩ (fun c16 => absurd c16 (by decide)) (fun c16 => ?_)
        refine v_aload_n 0 DX5_others_194W rfl rfl <| v_iload_n 1 DX5_others_195W rfl rfl <| v_iload_n 2 DX5_others_196W rfl rfl <| v_iconst DX5_others_197W <| ?_
        obtain ⟨k17, h⟩ := h
        obtain ⟨k18, k19, k20, h⟩ := h
        refine v_invV (ci := 5) (as := [aI (x1), aI (x3), aI (1)]) (st := []) DX5_others_198W rfl okX5_set (Or.inl q1759) q1761 ho0.s rfl qs60 npX5_set (sp_X5_set (σ := σ) (o0 := o0) (x1 := x1) (x2 := x3) (x3 := (1 : Int)) k17 hL ho0 k18 k19 k20) (Nat.le_of_ble_eq_true rfl) (Nat.le_refl _) (Nat.le_of_ble_eq_true rfl) (RV_ret (fun σ21 gσ21 eσ21 => ?_)) RV_thr
        have h := h σ21 gσ21 eσ21
        refine v_iinc 2 DX5_others_201W rfl (by decide) rfl <| v_goto (pc' := 162) DX5_others_204W.1 (by decide) <| ?_
        exact v_pick [1, 2, 0] rfl h
      · have h := h.2 c15
        refine v_if_eq (tg := 201) DX5_others_191W (by decide) ⟨by decide, by decide⟩ (fun c22 => ?_) (fun c22 => absurd c22 (by decide))
        refine v_iinc 2 DX5_others_201W rfl (by decide) rfl <| v_goto (pc' := 162) DX5_others_204W.1 (by decide) <| ?_
        exact v_pick [1, 2, 0] rfl h
theorem ucX5_others_212W {E : XE} {d : Nat} {σ : Sto} {Q : Res → Sto → Prop} {K : Int} {V : Int} {o0 : Nat} {x1 : Int} {x3 : Int} (hL : Lay σ) (ho0 : At5 σ o0) (h : (inR (σ.I 18 7) → inR x3 ∧ ((σ.I 18 7) ≤ x3 → Q (.inl none) σ) ∧ (x3 < (σ.I 18 7) → 0 ≤ x3 ∧ x3 < 36500 ∧ (-128 ≤ σ.I 20 x3 ∧ σ.I 20 x3 ≤ 127 → 0 ≤ x1 ∧ x1 < 200 ∧ (inR (σ.I ((o0 + 1) + 7) x1) → ((σ.I 20 x3) ≠ (σ.I ((o0 + 1) + 7) x1) → VV E mX5_others (d + 1) 212 [(0, aO o0), (1, aI (x1)), (3, aI (x3 + 1))] [] σ Q) ∧ ((σ.I 20 x3) = (σ.I ((o0 + 1) + 7) x1) → 3 ≤ d ∧ (o0 = 87 ∨ o0 = 121 ∨ o0 = 155) ∧ (0 ≤ x1 ∧ x1 < 200) ∧ (TNX σ o0 x1) ∧ (AN σ) ∧ (0 ≤ x3 ∧ x3 < 36500) ∧ (bd_0_20 σ 21 36500) ∧ (∀ (y19 : Int) (σ18 : Sto), 0 ≤ y19 ∧ y19 ≤ 1 → SF σ σ18 → ((y19 = 1 ↔ fitX σ o0 x1 x3) ∧ (KXp o0 σ σ18)) → (y19 = 0 → VV E mX5_others (d + 1) 212 [(0, aO o0), (1, aI (x1)), (3, aI (x3 + 1))] [] σ18 Q) ∧ (y19 ≠ 0 → 3 ≤ d ∧ (o0 = 87 ∨ o0 = 121 ∨ o0 = 155) ∧ (0 ≤ x1 ∧ x1 < 200) ∧ (bd_0_59 σ18 (o0 + 21) 200) ∧ (0 ≤ x3 ∧ x3 < σ18.I 18 7 ∧ σ18.I 18 7 < 36500) ∧ (0 ≤ σ18.I 20 x3 ∧ σ18.I 20 x3 < 12) ∧ (PT σ18 K) ∧ (PW σ18 V) ∧ (OBV σ18 K V) ∧ (DRV σ18) ∧ (0 ≤ σ18.I 0 39 ∧ σ18.I 0 39 < 601) ∧ (∀ σ32 : Sto, SF σ18 σ32 → ((MKD σ18 σ32 o0 x1 (mkQ σ18 o0 x3 K V)) ∧ (KFd o0 (σ18.I (o0 + 21) x1) σ18 σ32)) → VV E mX5_others (d + 1) 212 [(0, aO o0), (1, aI (x1)), (3, aI (x3 + 1))] [] σ32 Q))))))))) : VV E mX5_others (d + 1) 212 [(0, aO o0), (1, aI (x1)), (3, aI (x3))] [] σ Q := by
  refine v_iload_n 2 DX5_others_212W rfl rfl <| v_aload_n 0 DX5_others_213W rfl rfl <| w_getR (ci := 5) (kf := 20) (kz := 20) DX5_others_214W ho0.s rfl (by decide) rfl (Or.inl q908) (fun _ _ => rfl) ho0.r20 <| w_getR (ci := 0) (kf := 10) (kz := 10) DX5_others_217W (s_0 hL) rfl (by decide) rfl (Or.inr ⟨_, q1011⟩) (fun _ _ => rfl) (r_0_10 hL) <| ?_
  refine w_getI (ci := 2) (kf := 7) (kz := 7) DX5_others_220W (s_18 hL) rfl (by decide) rfl (Or.inr ⟨_, q686⟩) (fun _ _ => rfl) (fun f1 => ?_)
  have h := h f1
  obtain ⟨k2, h⟩ := h
  refine v_icmp_ge (tg := 271) DX5_others_223W (by decide) k2 f1 (fun c3 => ?_) (fun c3 => ?_)
  · have h := h.1 c3
    exact v_vret DX5_others_271W rfl h
  · have h := h.2 c3
    refine v_aload_n 0 DX5_others_226W rfl rfl <| w_getR (ci := 5) (kf := 20) (kz := 20) DX5_others_227W ho0.s rfl (by decide) rfl (Or.inl q908) (fun _ _ => rfl) ho0.r20 <| w_getR (ci := 0) (kf := 10) (kz := 10) DX5_others_230W (s_0 hL) rfl (by decide) rfl (Or.inr ⟨_, q1011⟩) (fun _ _ => rfl) (r_0_10 hL) <| w_getR (ci := 2) (kf := 1) (kz := 1) DX5_others_233W (s_18 hL) rfl (by decide) rfl (Or.inr ⟨_, q670⟩) (fun _ _ => rfl) (r_18_1 hL) <| v_iload_n 2 DX5_others_236W rfl rfl <| ?_
    obtain ⟨k4, k5, h⟩ := h
    refine v_bald DX5_others_237W (s_20 hL) k4 k5 (fun f6 => ?_)
    have h := h f6
    refine v_aload_n 0 DX5_others_238W rfl rfl <| w_getR (ci := 5) (kf := 0) (kz := 0) DX5_others_239W ho0.s rfl (by decide) rfl (Or.inl q885) (fun _ _ => rfl) ho0.r0 <| w_getR (ci := 3) (kf := 10) (kz := 10) DX5_others_242W ho0.a0.s rfl (by decide) rfl (Or.inr ⟨_, q750⟩) (fun _ _ => rfl) ho0.a0.r10 <| v_iload_n 1 DX5_others_245W rfl rfl <| ?_
    obtain ⟨k7, k8, h⟩ := h
    refine v_iald DX5_others_246W ho0.a0.s10 k7 k8 (fun f9 => ?_)
    have h := h f9
    refine v_icmp_ne (tg := 265) DX5_others_247W (by decide) (inR_b f6) f9 (fun c10 => ?_) (fun c10 => ?_)
    · have h := h.1 c10
      refine v_iinc 2 DX5_others_265W rfl (by decide) rfl <| v_goto (pc' := 212) DX5_others_268W.1 (by decide) <| ?_
      exact v_pick [1, 2, 0] rfl h
    · have h := h.2 c10
      refine v_aload_n 0 DX5_others_250W rfl rfl <| v_iload_n 1 DX5_others_251W rfl rfl <| v_iload_n 2 DX5_others_252W rfl rfl <| ?_
      obtain ⟨k11, h⟩ := h
      obtain ⟨k12, k13, k14, k15, k16, k17, h⟩ := h
      refine v_invV (ci := 5) (as := [aI (x1), aI (x3)]) (st := []) DX5_others_253W rfl okX5_fitsTerm (Or.inl q1834) q1835 ho0.s rfl q1836 npX5_fitsTerm (sp_X5_fitsTerm (σ := σ) (o0 := o0) (x1 := x1) (x2 := x3) k11 hL ho0 k12 k13 k14 k15 k16 k17) (Nat.le_of_ble_eq_true rfl) (Nat.le_refl _) (Nat.le_of_ble_eq_true rfl) (RVZ_ret (fun y19 σ18 y19f gσ18 eσ18 => ?_)) RVZ_thr
      have h := h y19 σ18 y19f gσ18 eσ18
      refine v_if_eq (tg := 265) DX5_others_256W (by decide) (inR_z y19f) (fun c20 => ?_) (fun c20 => ?_)
      · have h := h.1 c20
        refine v_iinc 2 DX5_others_265W rfl (by decide) rfl <| v_goto (pc' := 212) DX5_others_268W.1 (by decide) <| ?_
        exact v_pick [1, 2, 0] rfl h
      · have h := h.2 c20
        refine v_aload_n 0 DX5_others_259W rfl rfl <| v_iload_n 1 DX5_others_260W rfl rfl <| v_iload_n 2 DX5_others_261W rfl rfl <| ?_
        obtain ⟨k21, h⟩ := h
        obtain ⟨k22, k23, k24, k25, k26, k27, k28, k29, k30, k31, h⟩ := h
        refine v_invV (ci := 5) (as := [aI (x1), aI (x3)]) (st := []) DX5_others_262W rfl okX5_mark (Or.inl q1822) q1824 (ho0.sf gσ18).s rfl qs69 npX5_mark (sp_X5_mark (σ := σ18) (o0 := o0) (x1 := x1) (x2 := x3) (K := K) (V := V) k21 (hL.sf gσ18) (ho0.sf gσ18) k22 k23 k24 k25 k26 k27 k28 k29 k30 k31) (Nat.le_of_ble_eq_true rfl) (Nat.le_refl _) (Nat.le_of_ble_eq_true rfl) (RV_ret (fun σ32 gσ32 eσ32 => ?_)) RV_thr
        have h := h σ32 gσ32 eσ32
        refine v_iinc 2 DX5_others_265W rfl (by decide) rfl <| v_goto (pc' := 212) DX5_others_268W.1 (by decide) <| ?_
        exact v_pick [1, 2, 0] rfl h
theorem sp_X5_othersW {E : XE} {d : Nat} {σ : Sto} {K : Int} {V : Int} {o0 : Nat} {x1 : Int} (hd : 4 ≤ d) (hL : Lay σ) (ho0 : At5 σ o0) (p0 : o0 = 87 ∨ o0 = 121 ∨ o0 = 155) (p1 : 0 ≤ x1 ∧ x1 < 200) (p2 : bd_0_59 σ (o0 + 21) 200) (p3 : TC σ) (p4 : 0 ≤ σ.I 18 7 ∧ σ.I 18 7 < 36500) (p5 : ∀ s, 0 ≤ s → s < σ.I 18 7 → 0 ≤ σ.I 20 s ∧ σ.I 20 s < 12) (p6 : PT σ K) (p7 : PW σ V) (p8 : OBV σ K V) (p9 : DRV σ) (p10 : 0 ≤ σ.I 0 39 ∧ σ.I 0 39 < 601) (p11 : bd_0_20 σ 21 36500) (p12 : AN σ) (p13 : 0 ≤ σ.I (o0 + 8) x1 ∧ σ.I (o0 + 8) x1 < 12) (p14 : (σ.I (o0 + 3) x1) = 8 → 0 ≤ σ.I (o0 + 9) x1 ∧ σ.I (o0 + 9) x1 ≤ σ.I (o0 + 10) x1 ∧ σ.I (o0 + 10) x1 ≤ 400) (p15 : 11 ≤ (σ.I (o0 + 3) x1) → TNX σ o0 x1) (p16 : 8 ≤ (σ.I (o0 + 3) x1) ∧ (σ.I (o0 + 3) x1) ≤ 12) (p17 : (σ.I (o0 + 3) x1) = 8 → 0 ≤ owX σ (o0 + 15) (vtX σ o0 x1) K V ∧ owX σ (o0 + 15) (vtX σ o0 x1) K V ≤ σ.I (o0 + 17) (σ.I (o0 + 8) x1) ∧ σ.I (o0 + 17) (σ.I (o0 + 8) x1) ≤ 601) (p18 : 0 ≤ σ.I (o0 + 15) 6 ∧ σ.I (o0 + 15) 6 ≤ σ.I (o0 + 15) 7 ∧ σ.I (o0 + 15) 7 ≤ 601) (p19 : OB σ 42 43) (p20 : (σ.I (o0 + 3) x1) = 10 → (-1000000000 ≤ σ.I (o0 + 12) x1 ∧ σ.I (o0 + 12) x1 ≤ 1000000000) ∧ (-1000000000 ≤ σ.I (o0 + 13) x1 ∧ σ.I (o0 + 13) x1 ≤ 1000000000) ∧ (0 ≤ σ.I (o0 + 14) x1 ∧ σ.I (o0 + 14) x1 ≤ 1000000000)) (p21 : (σ.I (o0 + 3) x1) = 10 → PTX σ (σ.I (o0 + 8) x1)) (p22 : WOX σ (o0 + 15)) : CC E mX5_others d [aO o0, aI (x1)] σ (RV (fun τ => (MKD σ τ o0 x1 (otQ σ o0 x1 K V)) ∧ (τ.I (o0 + 22) x1 = otS σ o0 x1 K V) ∧ (KOt o0 (σ.I (o0 + 21) x1) x1 σ τ))) := by
  obtain ⟨d, rfl⟩ : ∃ e, d = e + 1 := ⟨d - 1, by omega⟩
  have hb21 := p2 x1 p1.1 p1.2
  replace p15 := hdI p15
  replace p17 := hdI p17
  replace p20 := hdI p20
  replace p21 := hdI p21
  have e3 : σ.I (o0 + 1 + 2) x1 = σ.I (o0 + 3) x1 := rfl
  have e8 : σ.I (o0 + 1 + 7) x1 = σ.I (o0 + 8) x1 := rfl
  have e9 : σ.I (o0 + 1 + 8) x1 = σ.I (o0 + 9) x1 := rfl
  have e10 : σ.I (o0 + 1 + 9) x1 = σ.I (o0 + 10) x1 := rfl
  have ls_b := ls_in (tQ σ (σ.I (o0 + 1 + 7) x1) (σ.I (o0 + 1 + 1)) (σ.I (o0 + 1 + 8) x1) (min (σ.I (o0 + 1 + 9) x1 - σ.I (o0 + 1 + 8) x1) 20)) (σ.I 18 7)
  have key : ∀ wa wb wc : Nat, (∀ (x3 : Int) (τ : Sto), SF σ τ → ((KOt o0 (σ.I (o0 + 21) x1) x1 σ τ) ∧ (σ.I (o0 + 15) 6 ≤ x3 ∧ x3 ≤ σ.I (o0 + 15) 7) ∧ (MKD σ τ o0 x1 (fun k => oqR σ o0 x1 k ∧ k < x3)) ∧ ((σ.I (o0 + 3) x1) = 9 ∨ (σ.I (o0 + 3) x1) = 10) ∧ (τ.I (o0 + 22) x1 = σ.I (o0 + 22) x1)) → wa = (601 - x3).toNat → wb = 0 → wc = 0 → VV E mX5_others (d + 1) 162 [(0, aO o0), (1, aI (x1)), (3, aI (x3))] [] τ (RV (fun τ => (MKD σ τ o0 x1 (otQ σ o0 x1 K V)) ∧ (τ.I (o0 + 22) x1 = otS σ o0 x1 K V) ∧ (KOt o0 (σ.I (o0 + 21) x1) x1 σ τ)))) ∧ (∀ (x3 : Int) (τ : Sto), SF σ τ → ((KOt o0 (σ.I (o0 + 21) x1) x1 σ τ) ∧ (0 ≤ x3 ∧ x3 ≤ σ.I 18 7) ∧ (MKD σ τ o0 x1 (oqW σ o0 x1 K V x3)) ∧ (11 ≤ (σ.I (o0 + 3) x1)) ∧ (τ.I (o0 + 22) x1 = σ.I (o0 + 22) x1)) → wa = (36500 - x3).toNat → wb = 0 → wc = 0 → VV E mX5_others (d + 1) 212 [(0, aO o0), (1, aI (x1)), (3, aI (x3))] [] τ (RV (fun τ => (MKD σ τ o0 x1 (otQ σ o0 x1 K V)) ∧ (τ.I (o0 + 22) x1 = otS σ o0 x1 K V) ∧ (KOt o0 (σ.I (o0 + 21) x1) x1 σ τ)))) := by
    refine lex3 (fun wa wb wc ih => ?_)
    have ih0 : ∀ (x3 : Int) (τ : Sto), SF σ τ → ((KOt o0 (σ.I (o0 + 21) x1) x1 σ τ) ∧ (σ.I (o0 + 15) 6 ≤ x3 ∧ x3 ≤ σ.I (o0 + 15) 7) ∧ (MKD σ τ o0 x1 (fun k => oqR σ o0 x1 k ∧ k < x3)) ∧ ((σ.I (o0 + 3) x1) = 9 ∨ (σ.I (o0 + 3) x1) = 10) ∧ (τ.I (o0 + 22) x1 = σ.I (o0 + 22) x1)) → lt3 ((601 - x3).toNat) 0 0 wa wb wc → VV E mX5_others (d + 1) 162 [(0, aO o0), (1, aI (x1)), (3, aI (x3))] [] τ (RV (fun τ => (MKD σ τ o0 x1 (otQ σ o0 x1 K V)) ∧ (τ.I (o0 + 22) x1 = otS σ o0 x1 K V) ∧ (KOt o0 (σ.I (o0 + 21) x1) x1 σ τ))) := fun z0 z1 h0 h1 hlt => (ih _ _ _ hlt).1 z0 z1 h0 h1 rfl rfl rfl
    have ih1 : ∀ (x3 : Int) (τ : Sto), SF σ τ → ((KOt o0 (σ.I (o0 + 21) x1) x1 σ τ) ∧ (0 ≤ x3 ∧ x3 ≤ σ.I 18 7) ∧ (MKD σ τ o0 x1 (oqW σ o0 x1 K V x3)) ∧ (11 ≤ (σ.I (o0 + 3) x1)) ∧ (τ.I (o0 + 22) x1 = σ.I (o0 + 22) x1)) → lt3 ((36500 - x3).toNat) 0 0 wa wb wc → VV E mX5_others (d + 1) 212 [(0, aO o0), (1, aI (x1)), (3, aI (x3))] [] τ (RV (fun τ => (MKD σ τ o0 x1 (otQ σ o0 x1 K V)) ∧ (τ.I (o0 + 22) x1 = otS σ o0 x1 K V) ∧ (KOt o0 (σ.I (o0 + 21) x1) x1 σ τ))) := fun z0 z1 h0 h1 hlt => (ih _ _ _ hlt).2 z0 z1 h0 h1 rfl rfl rfl
    clear ih
    refine ⟨?_, ?_⟩
    · rintro x3 τ gτ ⟨i0, i1, i2, i3, i4⟩ ha hb hc
      subst ha hb hc
      have ho86 : 86 ≤ o0 := (by omega)
      have hk := fun (c : Nat) (q : c ≠ o0 + 23 ∧ c ≠ o0 + 22 ∧ c ≠ 81 ∧ c ≠ o0 + 30 ∧ c ≠ o0) => kot i0 q
      have k21 := congrFun (hk (o0 + 21) (by omega)) x1
      have hb21 := p2 x1 (by omega) (by omega)
      have hR21 : bd_0_59 τ (o0 + 21) 200 := bd_0_59_eq p2 (hk (o0 + 21) (by omega))
      have hsz : bd_0_20 τ 21 36500 := bd_0_20_eq p11 (hk 21 (by omega))
      have k18 := hk 18 (by omega)
      have c18 := congrFun k18 7
      have k7 := hk (o0 + 15) (by omega)
      have c6 := congrFun k7 6
      have c7 := congrFun k7 7
      have k16 := congrFun (hk (o0 + 15 + 1) (by omega)) x3
      have hlv : (exN (fun j => lvX τ o0 x1 (τ.I 42 x3 + j)) (τ.I 43 x3)) = (exN (fun j => lvX σ o0 x1 (σ.I 42 x3 + j)) (σ.I 43 x3)) := (by unfold lvX; rw [hk 42 (by omega), hk 43 (by omega), hk 26 (by omega), hk (o0 + 8) (by omega), hk (o0 + 3) (by omega), hk 30 (by omega), hk (o0 + 12) (by omega), hk (o0 + 13) (by omega), hk (o0 + 14) (by omega)])
      have hex := fun (k : Int) (h : σ.I (o0 + 15) 6 ≤ x3) => (show (oqR σ o0 x1 k ∧ k < x3 + 1) ↔ ((oqR σ o0 x1 k ∧ k < x3) ∨ (k = x3 ∧ oqR σ o0 x1 x3)) from ⟨fun z => (show k < x3 ∨ k = x3 by omega).elim (fun y => Or.inl ⟨z.1, y⟩) (fun y => Or.inr ⟨y, y ▸ z.1⟩), fun z => z.elim (fun y => ⟨y.1, by omega⟩) (fun y => ⟨y.1 ▸ y.2, by omega⟩)⟩)
      refine ucX5_others_162W (K := K) (V := V) (hL.sf gτ) (ho0.sf gτ) ?_
      rintro ⟨f1, f1q⟩
      refine ⟨?_, ?_⟩
      · (first | exact ⟨by omega, by omega⟩ | assumption)
      refine ⟨fun c2 => ?_, fun c3 => ?_⟩
      · refine RV_mk ?_
        · refine ⟨?_, ?_, ?_⟩
          · (clear ih0 ih1; exact MKD_iff i2 (fun k => ⟨fun z => (by rcases z with ⟨y, _⟩ | ⟨_, y⟩ | ⟨y, _⟩; (· omega); (· exact ⟨y, by have w := y.1; omega⟩); (· omega)), fun z => Or.inr (Or.inl ⟨i3, z.1⟩)⟩))
          · (clear ih0 ih1; (unfold otS; rw [if_neg (by omega)]; exact i4))
          · exact i0
      · refine ⟨?_, ?_⟩
        · (first | omega | exact ⟨by omega, by omega⟩ | assumption)
        refine ⟨?_, ?_⟩
        · (first | omega | exact ⟨by omega, by omega⟩ | assumption)
        rintro ⟨f4, f4q⟩
        refine ⟨fun c5 => ?_, fun c6 => ?_⟩
        · refine ih0 _ _ gτ ⟨?_, ?_, ?_, ?_, ?_⟩ ?_
          · exact i0
          · (first | omega | exact ⟨by omega, by omega⟩ | assumption)
          · (clear ih0 ih1; first | exact MKD_iff i2 (fun k => (hex k (by omega)).trans ⟨fun z => z.elim id (fun y => absurd y.2 (fun w => by have v := w.2.1; have u := w.1; rw [show σ.I (o0 + 16) x3 = τ.I (o0 + 15 + 1) x3 from k16.symm] at v; omega)), Or.inl⟩) | exact MKD_iff i2 (fun k => (hex k (by omega)).trans ⟨fun z => z.elim id (fun y => absurd (hlv ▸ y.2.2.2) (by assumption)), Or.inl⟩) | exact MKD_iff (MKD_set i2 ex20) (fun k => (hex k (by omega)).trans (or_congr Iff.rfl ⟨fun z => z.1, fun z => ⟨z, ⟨by omega, by omega⟩, (by show σ.I (o0 + 15 + 1) x3 = 1; rw [← k16]; omega), hlv ▸ (by assumption)⟩⟩)))
          · (first | omega | exact ⟨by omega, by omega⟩ | assumption)
          · (clear ih0 ih1; first | exact i4 | rfl | exact z22.trans i4 | exact z22b)
          · (unfold lt3; omega)
        · refine ⟨?_, ?_⟩
          · omega
          refine ⟨?_, ?_⟩
          · (first | omega | exact ⟨by omega, by omega⟩ | assumption)
          refine ⟨?_, ?_⟩
          · (first | omega | exact ⟨by omega, by omega⟩ | assumption)
          refine ⟨?_, ?_⟩
          · (clear ih0 ih1; first | exact p19 | (unfold OB; rw [hk 42 (by omega), hk 43 (by omega)]; exact p19))
          refine ⟨?_, ?_⟩
          · (clear ih0 ih1; (intro z; rw [hk (o0 + 12) (by omega), hk (o0 + 13) (by omega), hk (o0 + 14) (by omega)]; exact (hdO p20) (by rw [hk (o0 + 3) (by omega)] at z; omega)))
          refine ⟨?_, ?_⟩
          · (clear ih0 ih1; (intro z; unfold PTX; rw [hk 26 (by omega), hk 30 (by omega), hk (o0 + 8) (by omega), hk 0 (by omega)]; exact (hdO p21) (by rw [hk (o0 + 3) (by omega)] at z; omega)))
          refine ⟨?_, ?_⟩
          · (clear ih0 ih1; (intro _; rw [hk 42 (by omega), hk 43 (by omega), hk 0 (by omega)]; exact p22 x3 (by omega) (by omega) (by show σ.I (o0 + 15 + 1) x3 = 1; rw [← k16]; omega)))
          refine ⟨fun c7 => ?_, fun c8 => ?_⟩
          · refine ⟨?_, ?_⟩
            · omega
            refine ⟨?_, ?_⟩
            · (first | omega | exact ⟨by omega, by omega⟩ | assumption)
            refine ⟨?_, ?_⟩
            · (first | omega | exact ⟨by omega, by omega⟩ | assumption)
            refine ⟨?_, ?_⟩
            · (clear ih0 ih1; first | exact p2 | exact hR21 | exact hR18)
            rintro σ21 gσ21 ⟨⟨eσ21r, eσ21s, eσ21n⟩, eσ21⟩
            have kσ21 : KOt o0 (σ.I (o0 + 21) x1) x1 τ σ21 := KOt_rd eσ21r eσ21s eσ21n eσ21 (fun c i hP => by unfold wsOt at hP; first | grind | grind (splits := 40))
            refine ih0 _ _ (gτ.tr gσ21) ⟨?_, ?_, ?_, ?_, ?_⟩ ?_
            · exact (Ch.tr i0 kσ21)
            · (first | omega | exact ⟨by omega, by omega⟩ | assumption)
            · (clear ih0 ih1; first | exact MKD_iff i2 (fun k => (hex k (by omega)).trans ⟨fun z => z.elim id (fun y => absurd y.2 (fun w => by have v := w.2.1; have u := w.1; rw [show σ.I (o0 + 16) x3 = τ.I (o0 + 15 + 1) x3 from k16.symm] at v; omega)), Or.inl⟩) | exact MKD_iff i2 (fun k => (hex k (by omega)).trans ⟨fun z => z.elim id (fun y => absurd (hlv ▸ y.2.2.2) (by assumption)), Or.inl⟩) | exact MKD_iff (MKD_set i2 ex20) (fun k => (hex k (by omega)).trans (or_congr Iff.rfl ⟨fun z => z.1, fun z => ⟨z, ⟨by omega, by omega⟩, (by show σ.I (o0 + 15 + 1) x3 = 1; rw [← k16]; omega), hlv ▸ (by assumption)⟩⟩)))
            · (first | omega | exact ⟨by omega, by omega⟩ | assumption)
            · (clear ih0 ih1; first | exact i4 | rfl | exact z22.trans i4 | exact z22b)
            · (unfold lt3; omega)
          · refine ih0 _ _ gτ ⟨?_, ?_, ?_, ?_, ?_⟩ ?_
            · exact i0
            · (first | omega | exact ⟨by omega, by omega⟩ | assumption)
            · (clear ih0 ih1; first | exact MKD_iff i2 (fun k => (hex k (by omega)).trans ⟨fun z => z.elim id (fun y => absurd y.2 (fun w => by have v := w.2.1; have u := w.1; rw [show σ.I (o0 + 16) x3 = τ.I (o0 + 15 + 1) x3 from k16.symm] at v; omega)), Or.inl⟩) | exact MKD_iff i2 (fun k => (hex k (by omega)).trans ⟨fun z => z.elim id (fun y => absurd (hlv ▸ y.2.2.2) (by assumption)), Or.inl⟩) | exact MKD_iff (MKD_set i2 ex20) (fun k => (hex k (by omega)).trans (or_congr Iff.rfl ⟨fun z => z.1, fun z => ⟨z, ⟨by omega, by omega⟩, (by show σ.I (o0 + 15 + 1) x3 = 1; rw [← k16]; omega), hlv ▸ (by assumption)⟩⟩)))
            · (first | omega | exact ⟨by omega, by omega⟩ | assumption)
            · (clear ih0 ih1; first | exact i4 | rfl | exact z22.trans i4 | exact z22b)
            · (unfold lt3; omega)
    · rintro x3 τ gτ ⟨i0, i1, i2, i3, i4⟩ ha hb hc
      subst ha hb hc
      have ho86 : 86 ≤ o0 := (by omega)
      have hk := fun (c : Nat) (q : c ≠ o0 + 23 ∧ c ≠ o0 + 22 ∧ c ≠ 81 ∧ c ≠ o0 + 30 ∧ c ≠ o0) => kot i0 q
      have k21 := congrFun (hk (o0 + 21) (by omega)) x1
      have hb21 := p2 x1 (by omega) (by omega)
      have hR21 : bd_0_59 τ (o0 + 21) 200 := bd_0_59_eq p2 (hk (o0 + 21) (by omega))
      have hsz : bd_0_20 τ 21 36500 := bd_0_20_eq p11 (hk 21 (by omega))
      have k18 := hk 18 (by omega)
      have c18 := congrFun k18 7
      have hws := fun (k : Int) => exN_s (fun s => σ.I 20 s = σ.I (o0 + 8) x1 ∧ fitX σ o0 x1 s ∧ mkQ σ o0 s K V k) x3 (x3 + 1) (by omega) rfl
      have k20 := congrFun (hk 20 (by omega)) x3
      have k8 := congrFun (hk (o0 + 8) (by omega)) x1
      have hT := (hdO p15) (by omega)
      have hT2 : TNX τ o0 x1 := (by unfold TNX; rw [hk (o0 + 8) (by omega), hk 0 (by omega), hk (o0 + 9) (by omega), hk (o0 + 10) (by omega), hk (o0 + 11) (by omega), hk 16 (by omega), hk 17 (by omega)]; exact hT)
      have hfx := fitX_o i0 (by omega) x1 (fun z => AN_g p12 (hT.2.2.2 z).1 (hT.2.2.2 z).2.1) x3
      have hAN : AN τ := AN_k p12 i0.1.1 i0.1.2.1 i0.1.2.2 (congrFun (hk 0 (by omega)) 4)
      refine ucX5_others_212W (K := K) (V := V) (hL.sf gτ) (ho0.sf gτ) ?_
      rintro ⟨f1, f1q⟩
      refine ⟨?_, ?_⟩
      · (first | exact ⟨by omega, by omega⟩ | assumption)
      refine ⟨fun c2 => ?_, fun c3 => ?_⟩
      · refine RV_mk ?_
        · refine ⟨?_, ?_, ?_⟩
          · (clear ih0 ih1; exact MKD_iff i2 (fun k => ⟨fun z => (by rcases z with ⟨y, _⟩ | ⟨y, _⟩ | ⟨_, y⟩; (· omega); (· omega); (· rw [show σ.I 18 7 = x3 by omega] at y; exact y)), fun z => Or.inr (Or.inr ⟨by omega, by rw [show σ.I 18 7 = x3 by omega]; exact z⟩)⟩))
          · (clear ih0 ih1; (unfold otS; rw [if_neg (by omega)]; exact i4))
          · exact i0
      · refine ⟨?_, ?_⟩
        · (first | omega | exact ⟨by omega, by omega⟩ | assumption)
        refine ⟨?_, ?_⟩
        · (first | omega | exact ⟨by omega, by omega⟩ | assumption)
        rintro ⟨f4, f4q⟩
        refine ⟨?_, ?_⟩
        · (first | omega | exact ⟨by omega, by omega⟩ | assumption)
        refine ⟨?_, ?_⟩
        · (first | omega | exact ⟨by omega, by omega⟩ | assumption)
        rintro ⟨f5, f5q⟩
        refine ⟨fun c6 => ?_, fun c7 => ?_⟩
        · refine ih1 _ _ gτ ⟨?_, ?_, ?_, ?_, ?_⟩ ?_
          · exact i0
          · (first | omega | exact ⟨by omega, by omega⟩ | assumption)
          · (clear ih0 ih1; first | exact MKD_iff i2 (fun k => (hws k).trans ⟨fun z => z.elim id (fun y => absurd y.1 (by rw [← k20, ← k8]; assumption)), Or.inl⟩) | exact MKD_iff hM18 (fun k => (hws k).trans ⟨fun z => z.elim id (fun y => absurd (eσ18_0.mpr (hfx.mpr y.2.1)) (by omega)), Or.inl⟩) | exact MKD_iff hM32 (fun k => (hws k).trans (or_congr Iff.rfl ⟨fun z => z.2.2, fun z => ⟨by rw [← k20, ← k8]; assumption, hfx.mp (eσ18_0.mp (by omega)), z⟩⟩)))
          · (first | omega | exact ⟨by omega, by omega⟩ | assumption)
          · (clear ih0 ih1; first | exact i4 | rfl | exact z22.trans i4 | exact z22b)
          · (unfold lt3; omega)
        · refine ⟨?_, ?_⟩
          · omega
          refine ⟨?_, ?_⟩
          · (first | omega | exact ⟨by omega, by omega⟩ | assumption)
          refine ⟨?_, ?_⟩
          · (first | omega | exact ⟨by omega, by omega⟩ | assumption)
          refine ⟨?_, ?_⟩
          · (clear ih0 ih1; exact hT2)
          refine ⟨?_, ?_⟩
          · (clear ih0 ih1; exact hAN)
          refine ⟨?_, ?_⟩
          · (first | omega | exact ⟨by omega, by omega⟩ | assumption)
          refine ⟨?_, ?_⟩
          · (clear ih0 ih1; first | exact p11 | exact hsz)
          rintro y19 σ18 ⟨y19f, y19fq⟩ gσ18 ⟨eσ18_0, eσ18_1⟩
          have kσ18 : KOt o0 (σ.I (o0 + 21) x1) x1 τ σ18 := KOt_of_KXp eσ18_1
          have kσ18r := eσ18_1.1.1
          have K18 : KOt o0 (σ.I (o0 + 21) x1) x1 σ σ18 := Ch.tr i0 kσ18
          have z22 : σ18.I (o0 + 22) x1 = τ.I (o0 + 22) x1 := Ch.at eσ18_1 (by unfold wsXp; omega)
          have z23 : σ18.I (o0 + 23) = τ.I (o0 + 23) := funext fun i => Ch.at eσ18_1 (by unfold wsXp; omega)
          have z21 : σ18.I (o0 + 21) x1 = σ.I (o0 + 21) x1 := congrFun (kot K18 (by omega)) x1
          have hR18 : bd_0_59 σ18 (o0 + 21) 200 := bd_0_59_eq p2 (kot K18 (by omega))
          have z20 := congrFun (kot K18 (c := 20) (by omega)) x3
          have z18 := kot K18 (c := 18) (by omega)
          have z187 := congrFun z18 7
          have z39 := congrFun (kot K18 (c := 0) (by omega)) 39
          have h5 := p5 x3 (by omega) (by omega)
          have hM18 : MKD σ σ18 o0 x1 (oqW σ o0 x1 K V x3) := fun k a b => (by rw [z23]; exact i2 k a b)
          refine ⟨fun c8 => ?_, fun c9 => ?_⟩
          · refine ih1 _ _ (gτ.tr gσ18) ⟨?_, ?_, ?_, ?_, ?_⟩ ?_
            · exact (Ch.tr i0 kσ18)
            · (first | omega | exact ⟨by omega, by omega⟩ | assumption)
            · (clear ih0 ih1; first | exact MKD_iff i2 (fun k => (hws k).trans ⟨fun z => z.elim id (fun y => absurd y.1 (by rw [← k20, ← k8]; assumption)), Or.inl⟩) | exact MKD_iff hM18 (fun k => (hws k).trans ⟨fun z => z.elim id (fun y => absurd (eσ18_0.mpr (hfx.mpr y.2.1)) (by omega)), Or.inl⟩) | exact MKD_iff hM32 (fun k => (hws k).trans (or_congr Iff.rfl ⟨fun z => z.2.2, fun z => ⟨by rw [← k20, ← k8]; assumption, hfx.mp (eσ18_0.mp (by omega)), z⟩⟩)))
            · (first | omega | exact ⟨by omega, by omega⟩ | assumption)
            · (clear ih0 ih1; first | exact i4 | rfl | exact z22.trans i4 | exact z22b)
            · (unfold lt3; omega)
          · refine ⟨?_, ?_⟩
            · omega
            refine ⟨?_, ?_⟩
            · (first | omega | exact ⟨by omega, by omega⟩ | assumption)
            refine ⟨?_, ?_⟩
            · (first | omega | exact ⟨by omega, by omega⟩ | assumption)
            refine ⟨?_, ?_⟩
            · (clear ih0 ih1; first | exact p2 | exact hR21 | exact hR18)
            refine ⟨?_, ?_⟩
            · (first | omega | exact ⟨by omega, by omega⟩ | assumption)
            refine ⟨?_, ?_⟩
            · (first | omega | exact ⟨by omega, by omega⟩ | assumption)
            refine ⟨?_, ?_⟩
            · (clear ih0 ih1; first | exact p6 | exact hP | exact PT_o i0 ho86 p6 | exact PT_o K18 ho86 p6)
            refine ⟨?_, ?_⟩
            · (clear ih0 ih1; first | exact p7 | exact hW | exact PW_o K18 ho86 p7)
            refine ⟨?_, ?_⟩
            · (clear ih0 ih1; first | exact p8 | exact hO | exact OBV_o K18 ho86 p8)
            refine ⟨?_, ?_⟩
            · (clear ih0 ih1; first | exact p9 | exact DRV_o K18 ho86 p9)
            refine ⟨?_, ?_⟩
            · (first | omega | exact ⟨by omega, by omega⟩ | assumption)
            rintro σ32 gσ32 ⟨eσ32_0, eσ32_1⟩
            have kσ32 : KOt o0 (σ.I (o0 + 21) x1) x1 σ18 σ32 := KOt_of_KFd eσ32_1 (by omega)
            have kσ32r := eσ32_1.1.1
            have z22b : σ32.I (o0 + 22) x1 = σ.I (o0 + 22) x1 := (Ch.at eσ32_1 (by unfold wsFd; omega)).trans (z22.trans i4)
            have hM32 := MKD_tr hM18 eσ32_0 z21
            rw [mkQ_o K18 (by omega)] at hM32
            refine ih1 _ _ ((gτ.tr gσ18).tr gσ32) ⟨?_, ?_, ?_, ?_, ?_⟩ ?_
            · exact (Ch.tr (Ch.tr i0 kσ18) kσ32)
            · (first | omega | exact ⟨by omega, by omega⟩ | assumption)
            · (clear ih0 ih1; first | exact MKD_iff i2 (fun k => (hws k).trans ⟨fun z => z.elim id (fun y => absurd y.1 (by rw [← k20, ← k8]; assumption)), Or.inl⟩) | exact MKD_iff hM18 (fun k => (hws k).trans ⟨fun z => z.elim id (fun y => absurd (eσ18_0.mpr (hfx.mpr y.2.1)) (by omega)), Or.inl⟩) | exact MKD_iff hM32 (fun k => (hws k).trans (or_congr Iff.rfl ⟨fun z => z.2.2, fun z => ⟨by rw [← k20, ← k8]; assumption, hfx.mp (eσ18_0.mp (by omega)), z⟩⟩)))
            · (first | omega | exact ⟨by omega, by omega⟩ | assumption)
            · (clear ih0 ih1; first | exact i4 | rfl | exact z22.trans i4 | exact z22b)
            · (unfold lt3; omega)
  have k0_ : ∀ (x3 : Int) (τ : Sto), SF σ τ → ((KOt o0 (σ.I (o0 + 21) x1) x1 σ τ) ∧ (σ.I (o0 + 15) 6 ≤ x3 ∧ x3 ≤ σ.I (o0 + 15) 7) ∧ (MKD σ τ o0 x1 (fun k => oqR σ o0 x1 k ∧ k < x3)) ∧ ((σ.I (o0 + 3) x1) = 9 ∨ (σ.I (o0 + 3) x1) = 10) ∧ (τ.I (o0 + 22) x1 = σ.I (o0 + 22) x1)) → VV E mX5_others (d + 1) 162 [(0, aO o0), (1, aI (x1)), (3, aI (x3))] [] τ (RV (fun τ => (MKD σ τ o0 x1 (otQ σ o0 x1 K V)) ∧ (τ.I (o0 + 22) x1 = otS σ o0 x1 K V) ∧ (KOt o0 (σ.I (o0 + 21) x1) x1 σ τ))) := fun z0 z1 h0 h1 => (key _ _ _).1 z0 z1 h0 h1 rfl rfl rfl
  have k1_ : ∀ (x3 : Int) (τ : Sto), SF σ τ → ((KOt o0 (σ.I (o0 + 21) x1) x1 σ τ) ∧ (0 ≤ x3 ∧ x3 ≤ σ.I 18 7) ∧ (MKD σ τ o0 x1 (oqW σ o0 x1 K V x3)) ∧ (11 ≤ (σ.I (o0 + 3) x1)) ∧ (τ.I (o0 + 22) x1 = σ.I (o0 + 22) x1)) → VV E mX5_others (d + 1) 212 [(0, aO o0), (1, aI (x1)), (3, aI (x3))] [] τ (RV (fun τ => (MKD σ τ o0 x1 (otQ σ o0 x1 K V)) ∧ (τ.I (o0 + 22) x1 = otS σ o0 x1 K V) ∧ (KOt o0 (σ.I (o0 + 21) x1) x1 σ τ))) := fun z0 z1 h0 h1 => (key _ _ _).2 z0 z1 h0 h1 rfl rfl rfl
  clear key
  refine ucX5_others_0W (K := K) (V := V) hL ho0 ?_
  refine ⟨?_, ?_⟩
  · (first | omega | exact ⟨by omega, by omega⟩ | assumption)
  refine ⟨?_, ?_⟩
  · (first | omega | exact ⟨by omega, by omega⟩ | assumption)
  rintro ⟨f1, f1q⟩
  refine ⟨fun c2 => ?_, fun c3 => ?_, fun c4 => ?_, fun c5 => ?_⟩
  · refine ⟨?_, ?_⟩
    · (first | omega | exact ⟨by omega, by omega⟩ | assumption)
    refine ⟨?_, ?_⟩
    · (first | omega | exact ⟨by omega, by omega⟩ | assumption)
    rintro ⟨f6, f6q⟩
    refine ⟨?_, ?_⟩
    · (first | omega | exact ⟨by omega, by omega⟩ | assumption)
    refine ⟨?_, ?_⟩
    · (first | omega | exact ⟨by omega, by omega⟩ | assumption)
    rintro ⟨f7, f7q⟩
    refine ⟨?_, ?_⟩
    · (first | omega | exact ⟨by omega, by omega⟩ | assumption)
    refine ⟨?_, ?_⟩
    · (first | omega | exact ⟨by omega, by omega⟩ | assumption)
    rintro ⟨f8, f8q⟩
    refine ⟨?_, ?_⟩
    · (first | omega | exact ⟨by omega, by omega⟩ | assumption)
    refine ⟨?_, ?_⟩
    · (first | omega | exact ⟨by omega, by omega⟩ | assumption)
    refine ⟨?_, ?_⟩
    · omega
    refine ⟨?_, ?_⟩
    · (first | omega | exact ⟨by omega, by omega⟩ | assumption)
    refine ⟨?_, ?_⟩
    · (first | omega | exact ⟨by omega, by omega⟩ | assumption)
    refine ⟨?_, ?_⟩
    · (first | omega | exact ⟨by omega, by omega⟩ | assumption)
    refine ⟨?_, ?_⟩
    · (first | omega | exact ⟨by omega, by omega⟩ | assumption)
    refine ⟨?_, ?_⟩
    · (clear k0_ k1_; exact p3.1)
    refine ⟨?_, ?_⟩
    · (clear k0_ k1_; exact p3.2)
    refine ⟨?_, ?_⟩
    · (first | omega | exact ⟨by omega, by omega⟩ | assumption)
    rintro y24 y24e ⟨y24f, y24fq⟩
    refine ⟨fun c9 => ?_, fun c10 => ?_⟩
    · refine RV_mk ?_
      · refine ⟨?_, ?_, ?_⟩
        · (clear k0_ k1_; first | (refine MKD_0 (fun k z => ?_); rcases z with ⟨_, y⟩ | ⟨y, _⟩ | ⟨y, _⟩; (· have w := y.1; have w2 : vtX σ o0 x1 = y24 := y24e.symm; omega); (· omega); (· omega)) | (refine MKD_0 (fun k z => ?_); rcases z with ⟨_, y⟩ | ⟨y, _⟩ | ⟨y, _⟩; (· exact y.2.1 (by assumption)); (· omega); (· omega)) | (refine MKD_iff (P := mkQ σ o0 y24 K V) (fun k a b => ?_) (fun k => ⟨fun z => ?_, fun z => Or.inl (And.intro (by omega) (And.intro (by rw [hvt]; omega) (And.intro (by assumption) (by rw [hvt]; exact z))))⟩); (· rw [eσ61, I_ne _ _ _ _ (by omega)]; exact eσ44_0 k a b); (· exact Or.elim z (fun y => by have w := y.2.2.2; rw [hvt] at w; exact w) (fun y => Or.elim y (fun w => by have v := w.1; omega) (fun w => by have v := w.1; omega)))) | exact MKD_0 (fun k z => by have y := z.1.1; have w := z.2; omega) | exact MKD_0 (fun k z => exN_0 _ _ (by omega) z))
        · (clear k0_ k1_; first | (unfold otS; rw [if_neg (by rintro ⟨a, b, c⟩; have w2 : vtX σ o0 x1 = y24 := y24e.symm; first | omega | exact c (by assumption))]) | (unfold otS; rw [if_pos ⟨by omega, by rw [hvt]; omega, by assumption⟩, eσ61, I_same, y58e, hy54, hvt, z17, z8]))
        · exact KOt_rf
    · refine ⟨?_, ?_⟩
      · (first | omega | exact ⟨by omega, by omega⟩ | assumption)
      refine ⟨?_, ?_⟩
      · (first | omega | exact ⟨by omega, by omega⟩ | assumption)
      refine ⟨?_, ?_⟩
      · (first | omega | exact ⟨by omega, by omega⟩ | assumption)
      refine ⟨?_, ?_⟩
      · (first | omega | exact ⟨by omega, by omega⟩ | assumption)
      refine ⟨fun c11 => ?_, fun c12 => ?_⟩
      · refine ⟨?_, ?_⟩
        · omega
        refine ⟨?_, ?_⟩
        · (first | omega | exact ⟨by omega, by omega⟩ | assumption)
        refine ⟨?_, ?_⟩
        · (first | omega | exact ⟨by omega, by omega⟩ | assumption)
        refine ⟨?_, ?_⟩
        · (clear k0_ k1_; first | exact p2 | exact hR21 | exact hR18)
        refine ⟨?_, ?_⟩
        · (first | omega | exact ⟨by omega, by omega⟩ | assumption)
        refine ⟨?_, ?_⟩
        · (clear k0_ k1_; exact p5 y24 (by omega) (by omega))
        refine ⟨?_, ?_⟩
        · (clear k0_ k1_; first | exact p6 | exact hP | exact PT_o i0 ho86 p6 | exact PT_o K18 ho86 p6)
        refine ⟨?_, ?_⟩
        · (clear k0_ k1_; first | exact p7 | exact hW | exact PW_o K18 ho86 p7)
        refine ⟨?_, ?_⟩
        · (clear k0_ k1_; first | exact p8 | exact hO | exact OBV_o K18 ho86 p8)
        refine ⟨?_, ?_⟩
        · (clear k0_ k1_; first | exact p9 | exact DRV_o K18 ho86 p9)
        refine ⟨?_, ?_⟩
        · (first | omega | exact ⟨by omega, by omega⟩ | assumption)
        rintro σ44 gσ44 ⟨eσ44_0, eσ44_1⟩
        have kσ44 : KOt o0 (σ.I (o0 + 21) x1) x1 σ σ44 := KOt_of_KFd eσ44_1 (by omega)
        have kσ44r := eσ44_1.1.1
        have hvt : vtX σ o0 x1 = y24 := y24e.symm
        have ko := KFd_o (x := x1) eσ44_1
        have hP := PT_o ko (by omega) p6
        have hW := PW_o ko (by omega) p7
        have hO := OBV_o ko (by omega) p8
        have z8 : σ44.I (o0 + 1 + 7) x1 = σ.I (o0 + 8) x1 := congrFun (kot ko (c := o0 + 8) (by omega)) x1
        have z17 : σ44.I (o0 + 17) = σ.I (o0 + 17) := kot ko (c := o0 + 17) (by omega)
        have z20 : σ44.I 20 = σ.I 20 := kot ko (by omega)
        have z18 : σ44.I 18 = σ.I 18 := kot ko (by omega)
        have z187 := congrFun z18 7
        have z20x := congrFun z20 y24
        have z17x : σ44.I (o0 + 17) (σ44.I (o0 + 1 + 7) x1) = σ.I (o0 + 17) (σ.I (o0 + 8) x1) := (by rw [z17, z8])
        have h17 := (hdO p17) (by omega)
        rw [hvt] at h17
        have htf := p5 y24 (by omega) (by omega)
        refine ⟨?_, ?_⟩
        · (first | omega | exact ⟨by omega, by omega⟩ | assumption)
        refine ⟨?_, ?_⟩
        · (first | omega | exact ⟨by omega, by omega⟩ | assumption)
        rintro ⟨f13, f13q⟩
        refine ⟨?_, ?_⟩
        · omega
        refine ⟨?_, ?_⟩
        · (first | omega | exact ⟨by omega, by omega⟩ | assumption)
        refine ⟨?_, ?_⟩
        · (first | omega | exact ⟨by omega, by omega⟩ | assumption)
        refine ⟨?_, ?_⟩
        · (clear k0_ k1_; first | exact p6 | exact hP | exact PT_o i0 ho86 p6 | exact PT_o K18 ho86 p6)
        refine ⟨?_, ?_⟩
        · (clear k0_ k1_; first | exact p7 | exact hW | exact PW_o K18 ho86 p7)
        refine ⟨?_, ?_⟩
        · (clear k0_ k1_; first | exact p8 | exact hO | exact OBV_o K18 ho86 p8)
        rintro y54 y54e ⟨y54f, y54fq⟩
        have hy54 : y54 = owX σ (o0 + 15) y24 K V := (by rw [y54e, owX_o ko (by omega)])
        refine ⟨?_, ?_⟩
        · omega
        refine ⟨?_, ?_⟩
        · (first | omega | exact ⟨by omega, by omega⟩ | assumption)
        refine ⟨?_, ?_⟩
        · (first | omega | exact ⟨by omega, by omega⟩ | assumption)
        rintro y58 y58e ⟨y58f, y58fq⟩
        refine ⟨?_, ?_⟩
        · (first | omega | exact ⟨by omega, by omega⟩ | assumption)
        refine ⟨?_, ?_⟩
        · (first | omega | exact ⟨by omega, by omega⟩ | assumption)
        intro σ61 eσ61 gσ61
        have kσ61 : KOt o0 (σ.I (o0 + 21) x1) x1 σ44 σ61 := KOt_w eσ61 (by unfold wsOt; omega)
        refine RV_mk ?_
        · refine ⟨?_, ?_, ?_⟩
          · (clear k0_ k1_; first | (refine MKD_0 (fun k z => ?_); rcases z with ⟨_, y⟩ | ⟨y, _⟩ | ⟨y, _⟩; (· have w := y.1; have w2 : vtX σ o0 x1 = y24 := y24e.symm; omega); (· omega); (· omega)) | (refine MKD_0 (fun k z => ?_); rcases z with ⟨_, y⟩ | ⟨y, _⟩ | ⟨y, _⟩; (· exact y.2.1 (by assumption)); (· omega); (· omega)) | (refine MKD_iff (P := mkQ σ o0 y24 K V) (fun k a b => ?_) (fun k => ⟨fun z => ?_, fun z => Or.inl (And.intro (by omega) (And.intro (by rw [hvt]; omega) (And.intro (by assumption) (by rw [hvt]; exact z))))⟩); (· rw [eσ61, I_ne _ _ _ _ (by omega)]; exact eσ44_0 k a b); (· exact Or.elim z (fun y => by have w := y.2.2.2; rw [hvt] at w; exact w) (fun y => Or.elim y (fun w => by have v := w.1; omega) (fun w => by have v := w.1; omega)))) | exact MKD_0 (fun k z => by have y := z.1.1; have w := z.2; omega) | exact MKD_0 (fun k z => exN_0 _ _ (by omega) z))
          · (clear k0_ k1_; first | (unfold otS; rw [if_neg (by rintro ⟨a, b, c⟩; have w2 : vtX σ o0 x1 = y24 := y24e.symm; first | omega | exact c (by assumption))]) | (unfold otS; rw [if_pos ⟨by omega, by rw [hvt]; omega, by assumption⟩, eσ61, I_same, y58e, hy54, hvt, z17, z8]))
          · exact (Ch.tr kσ44 kσ61)
      · refine RV_mk ?_
        · refine ⟨?_, ?_, ?_⟩
          · (clear k0_ k1_; first | (refine MKD_0 (fun k z => ?_); rcases z with ⟨_, y⟩ | ⟨y, _⟩ | ⟨y, _⟩; (· have w := y.1; have w2 : vtX σ o0 x1 = y24 := y24e.symm; omega); (· omega); (· omega)) | (refine MKD_0 (fun k z => ?_); rcases z with ⟨_, y⟩ | ⟨y, _⟩ | ⟨y, _⟩; (· exact y.2.1 (by assumption)); (· omega); (· omega)) | (refine MKD_iff (P := mkQ σ o0 y24 K V) (fun k a b => ?_) (fun k => ⟨fun z => ?_, fun z => Or.inl (And.intro (by omega) (And.intro (by rw [hvt]; omega) (And.intro (by assumption) (by rw [hvt]; exact z))))⟩); (· rw [eσ61, I_ne _ _ _ _ (by omega)]; exact eσ44_0 k a b); (· exact Or.elim z (fun y => by have w := y.2.2.2; rw [hvt] at w; exact w) (fun y => Or.elim y (fun w => by have v := w.1; omega) (fun w => by have v := w.1; omega)))) | exact MKD_0 (fun k z => by have y := z.1.1; have w := z.2; omega) | exact MKD_0 (fun k z => exN_0 _ _ (by omega) z))
          · (clear k0_ k1_; first | (unfold otS; rw [if_neg (by rintro ⟨a, b, c⟩; have w2 : vtX σ o0 x1 = y24 := y24e.symm; first | omega | exact c (by assumption))]) | (unfold otS; rw [if_pos ⟨by omega, by rw [hvt]; omega, by assumption⟩, eσ61, I_same, y58e, hy54, hvt, z17, z8]))
          · exact KOt_rf
  · rintro ⟨f14, f14q⟩
    refine k0_ _ _ SF.rf ⟨?_, ?_, ?_, ?_, ?_⟩
    · exact KOt_rf
    · (first | omega | exact ⟨by omega, by omega⟩ | assumption)
    · (clear k0_ k1_; first | (refine MKD_0 (fun k z => ?_); rcases z with ⟨_, y⟩ | ⟨y, _⟩ | ⟨y, _⟩; (· have w := y.1; have w2 : vtX σ o0 x1 = y24 := y24e.symm; omega); (· omega); (· omega)) | (refine MKD_0 (fun k z => ?_); rcases z with ⟨_, y⟩ | ⟨y, _⟩ | ⟨y, _⟩; (· exact y.2.1 (by assumption)); (· omega); (· omega)) | (refine MKD_iff (P := mkQ σ o0 y24 K V) (fun k a b => ?_) (fun k => ⟨fun z => ?_, fun z => Or.inl (And.intro (by omega) (And.intro (by rw [hvt]; omega) (And.intro (by assumption) (by rw [hvt]; exact z))))⟩); (· rw [eσ61, I_ne _ _ _ _ (by omega)]; exact eσ44_0 k a b); (· exact Or.elim z (fun y => by have w := y.2.2.2; rw [hvt] at w; exact w) (fun y => Or.elim y (fun w => by have v := w.1; omega) (fun w => by have v := w.1; omega)))) | exact MKD_0 (fun k z => by have y := z.1.1; have w := z.2; omega) | exact MKD_0 (fun k z => exN_0 _ _ (by omega) z))
    · (first | omega | exact ⟨by omega, by omega⟩ | assumption)
    · (clear k0_ k1_; first | exact i4 | rfl | exact z22.trans i4 | exact z22b)
  · rintro ⟨f15, f15q⟩
    refine k0_ _ _ SF.rf ⟨?_, ?_, ?_, ?_, ?_⟩
    · exact KOt_rf
    · (first | omega | exact ⟨by omega, by omega⟩ | assumption)
    · (clear k0_ k1_; first | (refine MKD_0 (fun k z => ?_); rcases z with ⟨_, y⟩ | ⟨y, _⟩ | ⟨y, _⟩; (· have w := y.1; have w2 : vtX σ o0 x1 = y24 := y24e.symm; omega); (· omega); (· omega)) | (refine MKD_0 (fun k z => ?_); rcases z with ⟨_, y⟩ | ⟨y, _⟩ | ⟨y, _⟩; (· exact y.2.1 (by assumption)); (· omega); (· omega)) | (refine MKD_iff (P := mkQ σ o0 y24 K V) (fun k a b => ?_) (fun k => ⟨fun z => ?_, fun z => Or.inl (And.intro (by omega) (And.intro (by rw [hvt]; omega) (And.intro (by assumption) (by rw [hvt]; exact z))))⟩); (· rw [eσ61, I_ne _ _ _ _ (by omega)]; exact eσ44_0 k a b); (· exact Or.elim z (fun y => by have w := y.2.2.2; rw [hvt] at w; exact w) (fun y => Or.elim y (fun w => by have v := w.1; omega) (fun w => by have v := w.1; omega)))) | exact MKD_0 (fun k z => by have y := z.1.1; have w := z.2; omega) | exact MKD_0 (fun k z => exN_0 _ _ (by omega) z))
    · (first | omega | exact ⟨by omega, by omega⟩ | assumption)
    · (clear k0_ k1_; first | exact i4 | rfl | exact z22.trans i4 | exact z22b)
  · refine k1_ _ _ SF.rf ⟨?_, ?_, ?_, ?_, ?_⟩
    · exact KOt_rf
    · (first | omega | exact ⟨by omega, by omega⟩ | assumption)
    · (clear k0_ k1_; first | (refine MKD_0 (fun k z => ?_); rcases z with ⟨_, y⟩ | ⟨y, _⟩ | ⟨y, _⟩; (· have w := y.1; have w2 : vtX σ o0 x1 = y24 := y24e.symm; omega); (· omega); (· omega)) | (refine MKD_0 (fun k z => ?_); rcases z with ⟨_, y⟩ | ⟨y, _⟩ | ⟨y, _⟩; (· exact y.2.1 (by assumption)); (· omega); (· omega)) | (refine MKD_iff (P := mkQ σ o0 y24 K V) (fun k a b => ?_) (fun k => ⟨fun z => ?_, fun z => Or.inl (And.intro (by omega) (And.intro (by rw [hvt]; omega) (And.intro (by assumption) (by rw [hvt]; exact z))))⟩); (· rw [eσ61, I_ne _ _ _ _ (by omega)]; exact eσ44_0 k a b); (· exact Or.elim z (fun y => by have w := y.2.2.2; rw [hvt] at w; exact w) (fun y => Or.elim y (fun w => by have v := w.1; omega) (fun w => by have v := w.1; omega)))) | exact MKD_0 (fun k z => by have y := z.1.1; have w := z.2; omega) | exact MKD_0 (fun k z => exN_0 _ _ (by omega) z))
    · (first | omega | exact ⟨by omega, by omega⟩ | assumption)
    · (clear k0_ k1_; first | exact i4 | rfl | exact z22.trans i4 | exact z22b)
