set_option maxRecDepth 100000
set_option maxHeartbeats 4000000
theorem DX5_fits_0W : DD cX5_fits 0 1 1 (.iconst 0) := ⟨by decide +kernel, rfl⟩
theorem DX5_fits_1W : DD cX5_fits 1 1 2 (.istore_n 3) := ⟨by decide +kernel, rfl⟩
theorem DX5_fits_2W : DD cX5_fits 2 1 3 (.aload_n 0) := ⟨by decide +kernel, rfl⟩
theorem DX5_fits_3W : DD cX5_fits 3 3 6 (.getfield 3) := ⟨by decide +kernel, rfl⟩
theorem DX5_fits_6W : DD cX5_fits 6 3 9 (.getfield 226) := ⟨by decide +kernel, rfl⟩
theorem DX5_fits_9W : DD cX5_fits 9 1 10 (.iload_n 2) := ⟨by decide +kernel, rfl⟩
theorem DX5_fits_10W : DD cX5_fits 10 1 11 (.iaload) := ⟨by decide +kernel, rfl⟩
theorem DX5_fits_11W : DD cX5_fits 11 2 13 (.istore 4) := ⟨by decide +kernel, rfl⟩
theorem DX5_fits_13W : DD cX5_fits 13 2 15 (.iload 4) := ⟨by decide +kernel, rfl⟩
theorem DX5_fits_15W : DD cX5_fits 15 1 16 (.aload_n 0) := ⟨by decide +kernel, rfl⟩
theorem DX5_fits_16W : DD cX5_fits 16 3 19 (.getfield 3) := ⟨by decide +kernel, rfl⟩
theorem DX5_fits_19W : DD cX5_fits 19 3 22 (.getfield 226) := ⟨by decide +kernel, rfl⟩
theorem DX5_fits_22W : DD cX5_fits 22 1 23 (.iload_n 2) := ⟨by decide +kernel, rfl⟩
theorem DX5_fits_23W : DD cX5_fits 23 1 24 (.iaload) := ⟨by decide +kernel, rfl⟩
theorem DX5_fits_24W : DD cX5_fits 24 1 25 (.aload_n 0) := ⟨by decide +kernel, rfl⟩
theorem DX5_fits_25W : DD cX5_fits 25 3 28 (.getfield 3) := ⟨by decide +kernel, rfl⟩
theorem DX5_fits_28W : DD cX5_fits 28 3 31 (.getfield 229) := ⟨by decide +kernel, rfl⟩
theorem DX5_fits_31W : DD cX5_fits 31 1 32 (.iload_n 2) := ⟨by decide +kernel, rfl⟩
theorem DX5_fits_32W : DD cX5_fits 32 1 33 (.iaload) := ⟨by decide +kernel, rfl⟩
theorem DX5_fits_33W : DD cX5_fits 33 1 34 (.iadd) := ⟨by decide +kernel, rfl⟩
theorem DX5_fits_34W : DD cX5_fits 34 3 37 (.if_icmp .ge 176) := ⟨by decide +kernel, rfl⟩
theorem DX5_fits_37W : DD cX5_fits 37 1 38 (.iload_n 3) := ⟨by decide +kernel, rfl⟩
theorem DX5_fits_38W : DD cX5_fits 38 3 41 (.ifCond .ne 172) := ⟨by decide +kernel, rfl⟩
theorem DX5_fits_41W : DD cX5_fits 41 1 42 (.aload_n 0) := ⟨by decide +kernel, rfl⟩
theorem DX5_fits_42W : DD cX5_fits 42 3 45 (.getfield 3) := ⟨by decide +kernel, rfl⟩
theorem DX5_fits_45W : DD cX5_fits 45 3 48 (.getfield 208) := ⟨by decide +kernel, rfl⟩
theorem DX5_fits_48W : DD cX5_fits 48 2 50 (.iload 4) := ⟨by decide +kernel, rfl⟩
theorem DX5_fits_50W : DD cX5_fits 50 1 51 (.baload) := ⟨by decide +kernel, rfl⟩
theorem DX5_fits_51W : DD cX5_fits 51 1 52 (.aload_n 0) := ⟨by decide +kernel, rfl⟩
theorem DX5_fits_52W : DD cX5_fits 52 3 55 (.getfield 18) := ⟨by decide +kernel, rfl⟩
theorem DX5_fits_55W : DD cX5_fits 55 3 58 (.getfield 105) := ⟨by decide +kernel, rfl⟩
theorem DX5_fits_58W : DD cX5_fits 58 1 59 (.iload_n 1) := ⟨by decide +kernel, rfl⟩
theorem DX5_fits_59W : DD cX5_fits 59 1 60 (.iaload) := ⟨by decide +kernel, rfl⟩
theorem DX5_fits_60W : DD cX5_fits 60 3 63 (.if_icmp .eq 6) := ⟨by decide +kernel, rfl⟩
theorem DX5_fits_63W : DD cX5_fits 63 3 66 (.goto 141) := ⟨by decide +kernel, rfl⟩
theorem DX5_fits_66W : DD cX5_fits 66 1 67 (.aload_n 0) := ⟨by decide +kernel, rfl⟩
theorem DX5_fits_67W : DD cX5_fits 67 3 70 (.getfield 3) := ⟨by decide +kernel, rfl⟩
theorem DX5_fits_70W : DD cX5_fits 70 3 73 (.getfield 232) := ⟨by decide +kernel, rfl⟩
theorem DX5_fits_73W : DD cX5_fits 73 2 75 (.iload 4) := ⟨by decide +kernel, rfl⟩
theorem DX5_fits_75W : DD cX5_fits 75 1 76 (.laload) := ⟨by decide +kernel, rfl⟩
theorem DX5_fits_76W : DD cX5_fits 76 2 78 (.lstore 5) := ⟨by decide +kernel, rfl⟩
theorem DX5_fits_78W : DD cX5_fits 78 1 79 (.aload_n 0) := ⟨by decide +kernel, rfl⟩
theorem DX5_fits_79W : DD cX5_fits 79 3 82 (.getfield 18) := ⟨by decide +kernel, rfl⟩
theorem DX5_fits_82W : DD cX5_fits 82 3 85 (.getfield 95) := ⟨by decide +kernel, rfl⟩
theorem DX5_fits_85W : DD cX5_fits 85 1 86 (.iload_n 1) := ⟨by decide +kernel, rfl⟩
theorem DX5_fits_86W : DD cX5_fits 86 1 87 (.iaload) := ⟨by decide +kernel, rfl⟩
theorem DX5_fits_87W : DD cX5_fits 87 2 89 (.bipush 9) := ⟨by decide +kernel, rfl⟩
theorem DX5_fits_89W : DD cX5_fits 89 3 92 (.if_icmp .ne 42) := ⟨by decide +kernel, rfl⟩
theorem DX5_fits_92W : DD cX5_fits 92 2 94 (.lload 5) := ⟨by decide +kernel, rfl⟩
theorem DX5_fits_94W : DD cX5_fits 94 1 95 (.aload_n 0) := ⟨by decide +kernel, rfl⟩
theorem DX5_fits_95W : DD cX5_fits 95 3 98 (.getfield 18) := ⟨by decide +kernel, rfl⟩
theorem DX5_fits_98W : DD cX5_fits 98 3 101 (.getfield 235) := ⟨by decide +kernel, rfl⟩
theorem DX5_fits_101W : DD cX5_fits 101 1 102 (.iload_n 1) := ⟨by decide +kernel, rfl⟩
theorem DX5_fits_102W : DD cX5_fits 102 1 103 (.laload) := ⟨by decide +kernel, rfl⟩
theorem DX5_fits_103W : DD cX5_fits 103 1 104 (.lcmp) := ⟨by decide +kernel, rfl⟩
theorem DX5_fits_104W : DD cX5_fits 104 3 107 (.ifCond .lt 22) := ⟨by decide +kernel, rfl⟩
theorem DX5_fits_107W : DD cX5_fits 107 2 109 (.lload 5) := ⟨by decide +kernel, rfl⟩
theorem DX5_fits_109W : DD cX5_fits 109 1 110 (.aload_n 0) := ⟨by decide +kernel, rfl⟩
theorem DX5_fits_110W : DD cX5_fits 110 3 113 (.getfield 18) := ⟨by decide +kernel, rfl⟩
theorem DX5_fits_113W : DD cX5_fits 113 3 116 (.getfield 238) := ⟨by decide +kernel, rfl⟩
theorem DX5_fits_116W : DD cX5_fits 116 1 117 (.iload_n 1) := ⟨by decide +kernel, rfl⟩
theorem DX5_fits_117W : DD cX5_fits 117 1 118 (.laload) := ⟨by decide +kernel, rfl⟩
theorem DX5_fits_118W : DD cX5_fits 118 1 119 (.lcmp) := ⟨by decide +kernel, rfl⟩
theorem DX5_fits_119W : DD cX5_fits 119 3 122 (.ifCond .gt 7) := ⟨by decide +kernel, rfl⟩
theorem DX5_fits_122W : DD cX5_fits 122 1 123 (.iconst 1) := ⟨by decide +kernel, rfl⟩
theorem DX5_fits_123W : DD cX5_fits 123 3 126 (.goto 4) := ⟨by decide +kernel, rfl⟩
theorem DX5_fits_126W : DD cX5_fits 126 1 127 (.iconst 0) := ⟨by decide +kernel, rfl⟩
theorem DX5_fits_127W : DD cX5_fits 127 1 128 (.istore_n 3) := ⟨by decide +kernel, rfl⟩
theorem DX5_fits_128W : DD cX5_fits 128 3 131 (.goto 76) := ⟨by decide +kernel, rfl⟩
theorem DX5_fits_131W : DD cX5_fits 131 2 133 (.lload 5) := ⟨by decide +kernel, rfl⟩
theorem DX5_fits_133W : DD cX5_fits 133 2 135 (.bipush 32) := ⟨by decide +kernel, rfl⟩
theorem DX5_fits_135W : DD cX5_fits 135 1 136 (.lshr) := ⟨by decide +kernel, rfl⟩
theorem DX5_fits_136W : DD cX5_fits 136 1 137 (.aload_n 0) := ⟨by decide +kernel, rfl⟩
theorem DX5_fits_137W : DD cX5_fits 137 3 140 (.getfield 18) := ⟨by decide +kernel, rfl⟩
theorem DX5_fits_140W : DD cX5_fits 140 3 143 (.getfield 235) := ⟨by decide +kernel, rfl⟩
theorem DX5_fits_143W : DD cX5_fits 143 1 144 (.iload_n 1) := ⟨by decide +kernel, rfl⟩
theorem DX5_fits_144W : DD cX5_fits 144 1 145 (.laload) := ⟨by decide +kernel, rfl⟩
theorem DX5_fits_145W : DD cX5_fits 145 1 146 (.lsub) := ⟨by decide +kernel, rfl⟩
theorem DX5_fits_146W : DD cX5_fits 146 2 148 (.lstore 7) := ⟨by decide +kernel, rfl⟩
theorem DX5_fits_148W : DD cX5_fits 148 2 150 (.lload 5) := ⟨by decide +kernel, rfl⟩
theorem DX5_fits_150W : DD cX5_fits 150 1 151 (.l2i) := ⟨by decide +kernel, rfl⟩
theorem DX5_fits_151W : DD cX5_fits 151 1 152 (.i2l) := ⟨by decide +kernel, rfl⟩
theorem DX5_fits_152W : DD cX5_fits 152 1 153 (.aload_n 0) := ⟨by decide +kernel, rfl⟩
theorem DX5_fits_153W : DD cX5_fits 153 3 156 (.getfield 18) := ⟨by decide +kernel, rfl⟩
theorem DX5_fits_156W : DD cX5_fits 156 3 159 (.getfield 238) := ⟨by decide +kernel, rfl⟩
theorem DX5_fits_159W : DD cX5_fits 159 1 160 (.iload_n 1) := ⟨by decide +kernel, rfl⟩
theorem DX5_fits_160W : DD cX5_fits 160 1 161 (.laload) := ⟨by decide +kernel, rfl⟩
theorem DX5_fits_161W : DD cX5_fits 161 1 162 (.lsub) := ⟨by decide +kernel, rfl⟩
theorem DX5_fits_162W : DD cX5_fits 162 2 164 (.lstore 9) := ⟨by decide +kernel, rfl⟩
theorem DX5_fits_164W : DD cX5_fits 164 2 166 (.lload 7) := ⟨by decide +kernel, rfl⟩
theorem DX5_fits_166W : DD cX5_fits 166 2 168 (.lload 7) := ⟨by decide +kernel, rfl⟩
theorem DX5_fits_168W : DD cX5_fits 168 1 169 (.lmul) := ⟨by decide +kernel, rfl⟩
theorem DX5_fits_169W : DD cX5_fits 169 2 171 (.lload 9) := ⟨by decide +kernel, rfl⟩
theorem DX5_fits_171W : DD cX5_fits 171 2 173 (.lload 9) := ⟨by decide +kernel, rfl⟩
theorem DX5_fits_173W : DD cX5_fits 173 1 174 (.lmul) := ⟨by decide +kernel, rfl⟩
theorem DX5_fits_174W : DD cX5_fits 174 1 175 (.ladd) := ⟨by decide +kernel, rfl⟩
theorem DX5_fits_175W : DD cX5_fits 175 1 176 (.aload_n 0) := ⟨by decide +kernel, rfl⟩
theorem DX5_fits_176W : DD cX5_fits 176 3 179 (.getfield 18) := ⟨by decide +kernel, rfl⟩
theorem DX5_fits_179W : DD cX5_fits 179 3 182 (.getfield 241) := ⟨by decide +kernel, rfl⟩
theorem DX5_fits_182W : DD cX5_fits 182 1 183 (.iload_n 1) := ⟨by decide +kernel, rfl⟩
theorem DX5_fits_183W : DD cX5_fits 183 1 184 (.laload) := ⟨by decide +kernel, rfl⟩
theorem DX5_fits_184W : DD cX5_fits 184 1 185 (.aload_n 0) := ⟨by decide +kernel, rfl⟩
theorem DX5_fits_185W : DD cX5_fits 185 3 188 (.getfield 18) := ⟨by decide +kernel, rfl⟩
theorem DX5_fits_188W : DD cX5_fits 188 3 191 (.getfield 241) := ⟨by decide +kernel, rfl⟩
theorem DX5_fits_191W : DD cX5_fits 191 1 192 (.iload_n 1) := ⟨by decide +kernel, rfl⟩
theorem DX5_fits_192W : DD cX5_fits 192 1 193 (.laload) := ⟨by decide +kernel, rfl⟩
theorem DX5_fits_193W : DD cX5_fits 193 1 194 (.lmul) := ⟨by decide +kernel, rfl⟩
theorem DX5_fits_194W : DD cX5_fits 194 1 195 (.lcmp) := ⟨by decide +kernel, rfl⟩
theorem DX5_fits_195W : DD cX5_fits 195 3 198 (.ifCond .gt 7) := ⟨by decide +kernel, rfl⟩
theorem DX5_fits_198W : DD cX5_fits 198 1 199 (.iconst 1) := ⟨by decide +kernel, rfl⟩
theorem DX5_fits_199W : DD cX5_fits 199 3 202 (.goto 4) := ⟨by decide +kernel, rfl⟩
theorem DX5_fits_202W : DD cX5_fits 202 1 203 (.iconst 0) := ⟨by decide +kernel, rfl⟩
theorem DX5_fits_203W : DD cX5_fits 203 1 204 (.istore_n 3) := ⟨by decide +kernel, rfl⟩
theorem DX5_fits_204W : DD cX5_fits 204 3 207 (.iinc 4 1) := ⟨by decide +kernel, rfl⟩
theorem DX5_fits_207W : DD cX5_fits 207 3 210 (.goto (-194)) := ⟨by decide +kernel, rfl⟩
theorem DX5_fits_210W : DD cX5_fits 210 1 211 (.iload_n 3) := ⟨by decide +kernel, rfl⟩
theorem DX5_fits_211W : DD cX5_fits 211 1 212 (.ireturn) := ⟨by decide +kernel, rfl⟩
theorem ucX5_fits_0W {E : XE} {d : Nat} {σ : Sto} {Q : Res → Sto → Prop} {o0 : Nat} {x1 : Int} {x2 : Int} (hL : Lay σ) (ho0 : At5 σ o0) (h : 0 ≤ x2 ∧ x2 < 601 ∧ (inR (σ.I 42 x2) → VV E mX5_fits (d + 1) 13 [(0, aO o0), (1, aI (x1)), (2, aI (x2)), (3, aI (0)), (4, aI (σ.I 42 x2))] [] σ Q)) : VV E mX5_fits (d + 1) 0 [(0, aO o0), (1, aI (x1)), (2, aI (x2))] [] σ Q := by
  refine v_iconst DX5_fits_0W <| v_istore_n DX5_fits_1W rfl (by decide) rfl <| v_aload_n 1 DX5_fits_2W rfl rfl <| w_getR (ci := 5) (kf := 20) (kz := 20) DX5_fits_3W ho0.s rfl (by decide) rfl (Or.inl q908) (fun _ _ => rfl) ho0.r20 <| w_getR (ci := 0) (kf := 33) (kz := 33) DX5_fits_6W (s_0 hL) rfl (by decide) rfl (Or.inr ⟨_, q1060⟩) (fun _ _ => rfl) (r_0_33 hL) <| v_iload_n 3 DX5_fits_9W rfl rfl <| ?_
  obtain ⟨k1, k2, h⟩ := h
  refine v_iald DX5_fits_10W (s_42 hL) k1 k2 (fun f3 => ?_)
  have h := h f3
  refine v_istore DX5_fits_11W (by decide) rfl <| ?_
  exact v_pick [2, 3, 4, 1, 0] rfl h
theorem ucX5_fits_13W {E : XE} {d : Nat} {σ : Sto} {Q : Res → Sto → Prop} {o0 : Nat} {x1 : Int} {x2 : Int} {x3 : Int} {x4 : Int} (hL : Lay σ) (ho0 : At5 σ o0) (h : 0 ≤ x2 ∧ x2 < 601 ∧ (inR (σ.I 42 x2) → 0 ≤ x2 ∧ x2 < 601 ∧ (inR (σ.I 43 x2) → inR x4 ∧ inR ((σ.I 42 x2) + (σ.I 43 x2)) ∧ (((σ.I 42 x2) + (σ.I 43 x2)) ≤ x4 → (0 ≤ x3 ∧ x3 ≤ 1) ∧ Q (.inl (some (aI x3))) σ) ∧ (x4 < ((σ.I 42 x2) + (σ.I 43 x2)) → inR x3 ∧ (x3 ≠ 0 → (0 ≤ x3 ∧ x3 ≤ 1) ∧ Q (.inl (some (aI x3))) σ) ∧ (x3 = 0 → 0 ≤ x4 ∧ x4 < 6000 ∧ (-128 ≤ σ.I 26 x4 ∧ σ.I 26 x4 ≤ 127 → 0 ≤ x1 ∧ x1 < 200 ∧ (inR (σ.I ((o0 + 1) + 7) x1) → ((σ.I 26 x4) = (σ.I ((o0 + 1) + 7) x1) → 0 ≤ x4 ∧ x4 < 6000 ∧ (inL (σ.I 30 x4) → 0 ≤ x1 ∧ x1 < 200 ∧ (inR (σ.I ((o0 + 1) + 2) x1) → ((σ.I ((o0 + 1) + 2) x1) ≠ 9 → 0 ≤ x1 ∧ x1 < 200 ∧ (inL (σ.I ((o0 + 1) + 11) x1) → 0 ≤ x1 ∧ x1 < 200 ∧ (inL (σ.I ((o0 + 1) + 12) x1) → 0 ≤ x1 ∧ x1 < 200 ∧ (inL (σ.I ((o0 + 1) + 13) x1) → 0 ≤ x1 ∧ x1 < 200 ∧ inL ((((b64shr (σ.I 30 x4) 32) - (σ.I ((o0 + 1) + 11) x1)) * ((b64shr (σ.I 30 x4) 32) - (σ.I ((o0 + 1) + 11) x1))) + (((w32 (σ.I 30 x4)) - (σ.I ((o0 + 1) + 12) x1)) * ((w32 (σ.I 30 x4)) - (σ.I ((o0 + 1) + 12) x1)))) ∧ inL ((σ.I ((o0 + 1) + 13) x1) * (σ.I ((o0 + 1) + 13) x1)) ∧ (((σ.I ((o0 + 1) + 13) x1) * (σ.I ((o0 + 1) + 13) x1)) < ((((b64shr (σ.I 30 x4) 32) - (σ.I ((o0 + 1) + 11) x1)) * ((b64shr (σ.I 30 x4) 32) - (σ.I ((o0 + 1) + 11) x1))) + (((w32 (σ.I 30 x4)) - (σ.I ((o0 + 1) + 12) x1)) * ((w32 (σ.I 30 x4)) - (σ.I ((o0 + 1) + 12) x1)))) → VV E mX5_fits (d + 1) 13 [(0, aO o0), (1, aI (x1)), (2, aI (x2)), (3, aI (0)), (4, aI (x4 + 1))] [] σ Q) ∧ (((((b64shr (σ.I 30 x4) 32) - (σ.I ((o0 + 1) + 11) x1)) * ((b64shr (σ.I 30 x4) 32) - (σ.I ((o0 + 1) + 11) x1))) + (((w32 (σ.I 30 x4)) - (σ.I ((o0 + 1) + 12) x1)) * ((w32 (σ.I 30 x4)) - (σ.I ((o0 + 1) + 12) x1)))) ≤ ((σ.I ((o0 + 1) + 13) x1) * (σ.I ((o0 + 1) + 13) x1)) → VV E mX5_fits (d + 1) 13 [(0, aO o0), (1, aI (x1)), (2, aI (x2)), (3, aI (1)), (4, aI (x4 + 1))] [] σ Q))))) ∧ ((σ.I ((o0 + 1) + 2) x1) = 9 → 0 ≤ x1 ∧ x1 < 200 ∧ (inL (σ.I ((o0 + 1) + 11) x1) → ((σ.I 30 x4) < (σ.I ((o0 + 1) + 11) x1) → VV E mX5_fits (d + 1) 13 [(0, aO o0), (1, aI (x1)), (2, aI (x2)), (3, aI (0)), (4, aI (x4 + 1))] [] σ Q) ∧ ((σ.I ((o0 + 1) + 11) x1) ≤ (σ.I 30 x4) → 0 ≤ x1 ∧ x1 < 200 ∧ (inL (σ.I ((o0 + 1) + 12) x1) → ((σ.I ((o0 + 1) + 12) x1) < (σ.I 30 x4) → VV E mX5_fits (d + 1) 13 [(0, aO o0), (1, aI (x1)), (2, aI (x2)), (3, aI (0)), (4, aI (x4 + 1))] [] σ Q) ∧ ((σ.I 30 x4) ≤ (σ.I ((o0 + 1) + 12) x1) → VV E mX5_fits (d + 1) 13 [(0, aO o0), (1, aI (x1)), (2, aI (x2)), (3, aI (1)), (4, aI (x4 + 1))] [] σ Q)))))))) ∧ ((σ.I 26 x4) ≠ (σ.I ((o0 + 1) + 7) x1) → VV E mX5_fits (d + 1) 13 [(0, aO o0), (1, aI (x1)), (2, aI (x2)), (3, aI (x3)), (4, aI (x4 + 1))] [] σ Q)))))))) : VV E mX5_fits (d + 1) 13 [(0, aO o0), (1, aI (x1)), (2, aI (x2)), (3, aI (x3)), (4, aI (x4))] [] σ Q := by
  refine v_iload 4 DX5_fits_13W rfl <| v_aload_n 0 DX5_fits_15W rfl rfl <| w_getR (ci := 5) (kf := 20) (kz := 20) DX5_fits_16W ho0.s rfl (by decide) rfl (Or.inl q908) (fun _ _ => rfl) ho0.r20 <| w_getR (ci := 0) (kf := 33) (kz := 33) DX5_fits_19W (s_0 hL) rfl (by decide) rfl (Or.inr ⟨_, q1060⟩) (fun _ _ => rfl) (r_0_33 hL) <| v_iload_n 2 DX5_fits_22W rfl rfl <| ?_
  obtain ⟨k1, k2, h⟩ := h
  refine v_iald DX5_fits_23W (s_42 hL) k1 k2 (fun f3 => ?_)
  have h := h f3
  refine v_aload_n 0 DX5_fits_24W rfl rfl <| w_getR (ci := 5) (kf := 20) (kz := 20) DX5_fits_25W ho0.s rfl (by decide) rfl (Or.inl q908) (fun _ _ => rfl) ho0.r20 <| w_getR (ci := 0) (kf := 34) (kz := 34) DX5_fits_28W (s_0 hL) rfl (by decide) rfl (Or.inr ⟨_, q1064⟩) (fun _ _ => rfl) (r_0_34 hL) <| v_iload_n 2 DX5_fits_31W rfl rfl <| ?_
  obtain ⟨k4, k5, h⟩ := h
  refine v_iald DX5_fits_32W (s_43 hL) k4 k5 (fun f6 => ?_)
  have h := h f6
  refine v_iadd DX5_fits_33W <| ?_
  obtain ⟨k7, k8, h⟩ := h
  refine v_icmp_ge (tg := 210) DX5_fits_34W (by decide) k7 k8 (fun c9 => ?_) (fun c9 => ?_)
  · have h := h.1 c9
    refine v_iload_n 3 DX5_fits_210W rfl rfl <| ?_
    obtain ⟨k10, h⟩ := h
    exact v_iret DX5_fits_211W rfl (narZ k10) h
  · have h := h.2 c9
    refine v_iload_n 3 DX5_fits_37W rfl rfl <| ?_
    obtain ⟨k11, h⟩ := h
    refine v_if_ne (tg := 210) DX5_fits_38W (by decide) k11 (fun c12 => ?_) (fun c12 => ?_)
    · have h := h.1 c12
      refine v_iload_n 3 DX5_fits_210W rfl rfl <| ?_
      obtain ⟨k13, h⟩ := h
      exact v_iret DX5_fits_211W rfl (narZ k13) h
    · have h := h.2 c12
      refine v_aload_n 0 DX5_fits_41W rfl rfl <| w_getR (ci := 5) (kf := 20) (kz := 20) DX5_fits_42W ho0.s rfl (by decide) rfl (Or.inl q908) (fun _ _ => rfl) ho0.r20 <| w_getR (ci := 0) (kf := 11) (kz := 11) DX5_fits_45W (s_0 hL) rfl (by decide) rfl (Or.inr ⟨_, q1015⟩) (fun _ _ => rfl) (r_0_11 hL) <| v_iload 4 DX5_fits_48W rfl <| ?_
      obtain ⟨k14, k15, h⟩ := h
      refine v_bald DX5_fits_50W (s_26 hL) k14 k15 (fun f16 => ?_)
      have h := h f16
      refine v_aload_n 0 DX5_fits_51W rfl rfl <| w_getR (ci := 5) (kf := 0) (kz := 0) DX5_fits_52W ho0.s rfl (by decide) rfl (Or.inl q885) (fun _ _ => rfl) ho0.r0 <| w_getR (ci := 3) (kf := 10) (kz := 10) DX5_fits_55W ho0.a0.s rfl (by decide) rfl (Or.inr ⟨_, q750⟩) (fun _ _ => rfl) ho0.a0.r10 <| v_iload_n 1 DX5_fits_58W rfl rfl <| ?_
      obtain ⟨k17, k18, h⟩ := h
      refine v_iald DX5_fits_59W ho0.a0.s10 k17 k18 (fun f19 => ?_)
      have h := h f19
      refine v_icmp_eq (tg := 66) DX5_fits_60W (by decide) (inR_b f16) f19 (fun c20 => ?_) (fun c20 => ?_)
      · have h := h.1 c20
        refine v_aload_n 0 DX5_fits_66W rfl rfl <| w_getR (ci := 5) (kf := 20) (kz := 20) DX5_fits_67W ho0.s rfl (by decide) rfl (Or.inl q908) (fun _ _ => rfl) ho0.r20 <| w_getR (ci := 0) (kf := 15) (kz := 15) DX5_fits_70W (s_0 hL) rfl (by decide) rfl (Or.inr ⟨_, q1022⟩) (fun _ _ => rfl) (r_0_15 hL) <| v_iload 4 DX5_fits_73W rfl <| ?_
        obtain ⟨k21, k22, h⟩ := h
        refine v_lald DX5_fits_75W (s_30 hL) k21 k22 (fun f23 => ?_)
        have h := h f23
        refine v_lstore DX5_fits_76W (by decide) rfl <| v_aload_n 1 DX5_fits_78W rfl rfl <| w_getR (ci := 5) (kf := 0) (kz := 0) DX5_fits_79W ho0.s rfl (by decide) rfl (Or.inl q885) (fun _ _ => rfl) ho0.r0 <| w_getR (ci := 3) (kf := 5) (kz := 5) DX5_fits_82W ho0.a0.s rfl (by decide) rfl (Or.inr ⟨_, q735⟩) (fun _ _ => rfl) ho0.a0.r5 <| v_iload_n 2 DX5_fits_85W rfl rfl <| ?_
        obtain ⟨k24, k25, h⟩ := h
        refine v_iald DX5_fits_86W ho0.a0.s5 k24 k25 (fun f26 => ?_)
        have h := h f26
        refine v_bipush DX5_fits_87W ⟨by decide, by decide⟩ <| ?_
        refine v_icmp_ne (tg := 131) DX5_fits_89W (by decide) f26 ⟨by decide, by decide⟩ (fun c27 => ?_) (fun c27 => ?_)
        · have h := h.1 c27
          refine v_lload 0 DX5_fits_131W rfl <| v_bipush DX5_fits_133W ⟨by decide, by decide⟩ <| v_lshr DX5_fits_135W <| v_aload_n 1 DX5_fits_136W rfl rfl <| w_getR (ci := 5) (kf := 0) (kz := 0) DX5_fits_137W ho0.s rfl (by decide) rfl (Or.inl q885) (fun _ _ => rfl) ho0.r0 <| w_getR (ci := 3) (kf := 14) (kz := 14) DX5_fits_140W ho0.a0.s rfl (by decide) rfl (Or.inr ⟨_, q762⟩) (fun _ _ => rfl) ho0.a0.r14 <| v_iload_n 2 DX5_fits_143W rfl rfl <| ?_
          obtain ⟨k28, k29, h⟩ := h
          refine v_lald DX5_fits_144W ho0.a0.s14 k28 k29 (fun f30 => ?_)
          have h := h f30
          refine v_lsub DX5_fits_145W <| v_lstore DX5_fits_146W (by decide) rfl <| v_lload 1 DX5_fits_148W rfl <| v_l2i DX5_fits_150W <| v_w32 <| v_i2l DX5_fits_151W (w32_in _) <| v_aload_n 2 DX5_fits_152W rfl rfl <| w_getR (ci := 5) (kf := 0) (kz := 0) DX5_fits_153W ho0.s rfl (by decide) rfl (Or.inl q885) (fun _ _ => rfl) ho0.r0 <| w_getR (ci := 3) (kf := 15) (kz := 15) DX5_fits_156W ho0.a0.s rfl (by decide) rfl (Or.inr ⟨_, q765⟩) (fun _ _ => rfl) ho0.a0.r15 <| v_iload_n 3 DX5_fits_159W rfl rfl <| ?_
          obtain ⟨k31, k32, h⟩ := h
          refine v_lald DX5_fits_160W ho0.a0.s15 k31 k32 (fun f33 => ?_)
          have h := h f33
          refine v_lsub DX5_fits_161W <| v_lstore DX5_fits_162W (by decide) rfl <| v_lload 1 DX5_fits_164W rfl <| v_lload 1 DX5_fits_166W rfl <| v_lmul DX5_fits_168W <| v_lload 0 DX5_fits_169W rfl <| v_lload 0 DX5_fits_171W rfl <| v_lmul DX5_fits_173W <| v_ladd DX5_fits_174W <| v_aload_n 3 DX5_fits_175W rfl rfl <| w_getR (ci := 5) (kf := 0) (kz := 0) DX5_fits_176W ho0.s rfl (by decide) rfl (Or.inl q885) (fun _ _ => rfl) ho0.r0 <| w_getR (ci := 3) (kf := 16) (kz := 16) DX5_fits_179W ho0.a0.s rfl (by decide) rfl (Or.inr ⟨_, q768⟩) (fun _ _ => rfl) ho0.a0.r16 <| v_iload_n 4 DX5_fits_182W rfl rfl <| ?_
          obtain ⟨k34, k35, h⟩ := h
          refine v_lald DX5_fits_183W ho0.a0.s16 k34 k35 (fun f36 => ?_)
          have h := h f36
          refine v_aload_n 3 DX5_fits_184W rfl rfl <| w_getR (ci := 5) (kf := 0) (kz := 0) DX5_fits_185W ho0.s rfl (by decide) rfl (Or.inl q885) (fun _ _ => rfl) ho0.r0 <| w_getR (ci := 3) (kf := 16) (kz := 16) DX5_fits_188W ho0.a0.s rfl (by decide) rfl (Or.inr ⟨_, q768⟩) (fun _ _ => rfl) ho0.a0.r16 <| v_iload_n 4 DX5_fits_191W rfl rfl <| ?_
          obtain ⟨k37, k38, h⟩ := h
          refine v_lald DX5_fits_192W ho0.a0.s16 k37 k38 (fun _ => ?_)
          refine v_lmul DX5_fits_193W <| ?_
          obtain ⟨k40, k41, h⟩ := h
          refine v_lc_gt (tg := 202) DX5_fits_194W DX5_fits_195W (by decide) k40 k41 (fun c42 => ?_) (fun c42 => ?_)
          · have h := h.1 c42
            refine v_iconst DX5_fits_202W <| v_istore_n DX5_fits_203W rfl (by decide) rfl <| v_iinc 7 DX5_fits_204W rfl (by decide) rfl <| v_goto (pc' := 13) DX5_fits_207W.1 (by decide) <| ?_
            exact v_pick [5, 6, 7, 1, 0] rfl h
          · have h := h.2 c42
            refine v_iconst DX5_fits_198W <| v_goto (pc' := 203) DX5_fits_199W.1 (by decide) <| v_istore_n DX5_fits_203W rfl (by decide) rfl <| v_iinc 7 DX5_fits_204W rfl (by decide) rfl <| v_goto (pc' := 13) DX5_fits_207W.1 (by decide) <| ?_
            exact v_pick [5, 6, 7, 1, 0] rfl h
        · have h := h.2 c27
          refine v_lload 0 DX5_fits_92W rfl <| v_aload_n 1 DX5_fits_94W rfl rfl <| w_getR (ci := 5) (kf := 0) (kz := 0) DX5_fits_95W ho0.s rfl (by decide) rfl (Or.inl q885) (fun _ _ => rfl) ho0.r0 <| w_getR (ci := 3) (kf := 14) (kz := 14) DX5_fits_98W ho0.a0.s rfl (by decide) rfl (Or.inr ⟨_, q762⟩) (fun _ _ => rfl) ho0.a0.r14 <| v_iload_n 2 DX5_fits_101W rfl rfl <| ?_
          obtain ⟨k43, k44, h⟩ := h
          refine v_lald DX5_fits_102W ho0.a0.s14 k43 k44 (fun f45 => ?_)
          have h := h f45
          refine v_lc_lt (tg := 126) DX5_fits_103W DX5_fits_104W (by decide) f23 f45 (fun c46 => ?_) (fun c46 => ?_)
          · have h := h.1 c46
            refine v_iconst DX5_fits_126W <| v_istore_n DX5_fits_127W rfl (by decide) rfl <| v_goto (pc' := 204) DX5_fits_128W.1 (by decide) <| v_iinc 5 DX5_fits_204W rfl (by decide) rfl <| v_goto (pc' := 13) DX5_fits_207W.1 (by decide) <| ?_
            exact v_pick [3, 4, 5, 1, 0] rfl h
          · have h := h.2 c46
            refine v_lload 0 DX5_fits_107W rfl <| v_aload_n 1 DX5_fits_109W rfl rfl <| w_getR (ci := 5) (kf := 0) (kz := 0) DX5_fits_110W ho0.s rfl (by decide) rfl (Or.inl q885) (fun _ _ => rfl) ho0.r0 <| w_getR (ci := 3) (kf := 15) (kz := 15) DX5_fits_113W ho0.a0.s rfl (by decide) rfl (Or.inr ⟨_, q765⟩) (fun _ _ => rfl) ho0.a0.r15 <| v_iload_n 2 DX5_fits_116W rfl rfl <| ?_
            obtain ⟨k47, k48, h⟩ := h
            refine v_lald DX5_fits_117W ho0.a0.s15 k47 k48 (fun f49 => ?_)
            have h := h f49
            refine v_lc_gt (tg := 126) DX5_fits_118W DX5_fits_119W (by decide) f23 f49 (fun c50 => ?_) (fun c50 => ?_)
            · have h := h.1 c50
              refine v_iconst DX5_fits_126W <| v_istore_n DX5_fits_127W rfl (by decide) rfl <| v_goto (pc' := 204) DX5_fits_128W.1 (by decide) <| v_iinc 5 DX5_fits_204W rfl (by decide) rfl <| v_goto (pc' := 13) DX5_fits_207W.1 (by decide) <| ?_
              exact v_pick [3, 4, 5, 1, 0] rfl h
            · have h := h.2 c50
              refine v_iconst DX5_fits_122W <| v_goto (pc' := 127) DX5_fits_123W.1 (by decide) <| v_istore_n DX5_fits_127W rfl (by decide) rfl <| v_goto (pc' := 204) DX5_fits_128W.1 (by decide) <| v_iinc 5 DX5_fits_204W rfl (by decide) rfl <| v_goto (pc' := 13) DX5_fits_207W.1 (by decide) <| ?_
              exact v_pick [3, 4, 5, 1, 0] rfl h
      · have h := h.2 c20
        refine v_goto (pc' := 204) DX5_fits_63W.1 (by decide) <| v_iinc 4 DX5_fits_204W rfl (by decide) rfl <| v_goto (pc' := 13) DX5_fits_207W.1 (by decide) <| ?_
        exact v_pick [1, 2, 3, 4, 0] rfl h
theorem sp_X5_fitsW {E : XE} {d : Nat} {σ : Sto} {o0 : Nat} {x1 : Int} {x2 : Int} (hd : 2 ≤ d) (hL : Lay σ) (ho0 : At5 σ o0) (p0 : 0 ≤ x1 ∧ x1 < 200) (p1 : 0 ≤ x2 ∧ x2 < 601) (p2 : OB σ 42 43) (p3 : σ.I (o0 + 3) x1 ≠ 9 → (-1000000000 ≤ σ.I (o0 + 12) x1 ∧ σ.I (o0 + 12) x1 ≤ 1000000000) ∧ (-1000000000 ≤ σ.I (o0 + 13) x1 ∧ σ.I (o0 + 13) x1 ≤ 1000000000) ∧ (0 ≤ σ.I (o0 + 14) x1 ∧ σ.I (o0 + 14) x1 ≤ 1000000000)) (p4 : σ.I (o0 + 3) x1 ≠ 9 → PTX σ (σ.I (o0 + 8) x1)) (p5 : σ.I (o0 + 3) x1 ≠ 9 → σ.I 42 x2 + σ.I 43 x2 ≤ σ.I 0 20) : CC E mX5_fits d [aO o0, aI (x1), aI (x2)] σ (RZ σ (exN (fun j => lvX σ o0 x1 ((σ.I 42 x2) + j)) (σ.I 43 x2))) := by
  obtain ⟨d, rfl⟩ : ∃ e, d = e + 1 := ⟨d - 1, by omega⟩
  have hob0 := p2 x2 p1.1 p1.2
  have key : ∀ wa wb wc : Nat, (∀ (x3 : Int) (x4 : Int), ((0 ≤ x3 ∧ x3 ≤ 1) ∧ ((σ.I 42 x2) ≤ x4 ∧ x4 ≤ (σ.I 42 x2) + (σ.I 43 x2)) ∧ (x3 = 1 ↔ exN (fun j => lvX σ o0 x1 ((σ.I 42 x2) + j)) (x4 - (σ.I 42 x2)))) → wa = ((σ.I 42 x2) + (σ.I 43 x2) - x4).toNat → wb = 0 → wc = 0 → VV E mX5_fits (d + 1) 13 [(0, aO o0), (1, aI (x1)), (2, aI (x2)), (3, aI (x3)), (4, aI (x4))] [] σ (RZ σ (exN (fun j => lvX σ o0 x1 ((σ.I 42 x2) + j)) (σ.I 43 x2)))) := by
    refine lex3 (fun wa wb wc ih => ?_)
    have ih0 : ∀ (x3 : Int) (x4 : Int), ((0 ≤ x3 ∧ x3 ≤ 1) ∧ ((σ.I 42 x2) ≤ x4 ∧ x4 ≤ (σ.I 42 x2) + (σ.I 43 x2)) ∧ (x3 = 1 ↔ exN (fun j => lvX σ o0 x1 ((σ.I 42 x2) + j)) (x4 - (σ.I 42 x2)))) → lt3 (((σ.I 42 x2) + (σ.I 43 x2) - x4).toNat) 0 0 wa wb wc → VV E mX5_fits (d + 1) 13 [(0, aO o0), (1, aI (x1)), (2, aI (x2)), (3, aI (x3)), (4, aI (x4))] [] σ (RZ σ (exN (fun j => lvX σ o0 x1 ((σ.I 42 x2) + j)) (σ.I 43 x2))) := fun z0 z1 h0 hlt => (ih _ _ _ hlt) z0 z1 h0 rfl rfl rfl
    clear ih
    skip
    · rintro x3 x4 ⟨i0, i1, i2⟩ ha hb hc
      subst ha hb hc
      have hst : exN (fun j => lvX σ o0 x1 ((σ.I 42 x2) + j)) (x4 + 1 - (σ.I 42 x2)) ↔ exN (fun j => lvX σ o0 x1 ((σ.I 42 x2) + j)) (x4 - (σ.I 42 x2)) ∨ lvX σ o0 x1 x4 := (by have z := exN_s (fun j => lvX σ o0 x1 ((σ.I 42 x2) + j)) (x4 - (σ.I 42 x2)) (x4 + 1 - (σ.I 42 x2)) (by omega) (by omega); rw [show (σ.I 42 x2) + (x4 - (σ.I 42 x2)) = x4 by omega] at z; exact z)
      have hob := p2 x2 p1.1 p1.2
      have h9 := fun h => lvX_9 (σ := σ) (o := o0) (x := x1) (v := x4) h
      have h0 : σ.I (o0 + 3) x1 ≠ 9 → (lvX σ o0 x1 x4 ↔ σ.I 26 x4 = σ.I (o0 + 8) x1 ∧ (b64shr (σ.I 30 x4) 32 - σ.I (o0 + 1 + 11) x1) * (b64shr (σ.I 30 x4) 32 - σ.I (o0 + 1 + 11) x1) + (w32 (σ.I 30 x4) - σ.I (o0 + 1 + 12) x1) * (w32 (σ.I 30 x4) - σ.I (o0 + 1 + 12) x1) ≤ σ.I (o0 + 1 + 13) x1 * σ.I (o0 + 1 + 13) x1) := fun h => lvX_0 h
      have hvf : ¬ σ.I 26 x4 = σ.I (o0 + 8) x1 → ¬ lvX σ o0 x1 x4 := fun h z => h z.1
      have hpt := fun (h : x4 < (σ.I 42 x2) + (σ.I 43 x2)) (hk : σ.I (o0 + 3) x1 ≠ 9) (hv : σ.I 26 x4 = σ.I (o0 + 8) x1) => (p4 hk) x4 (by omega) (by have z := p5 hk; omega) hv
      have q8 : σ.I (o0 + 1 + 7) x1 = σ.I (o0 + 8) x1 := rfl
      have q12 : σ.I (o0 + 1 + 11) x1 = σ.I (o0 + 12) x1 := rfl
      have q13 : σ.I (o0 + 1 + 12) x1 = σ.I (o0 + 13) x1 := rfl
      have q14 : σ.I (o0 + 1 + 13) x1 = σ.I (o0 + 14) x1 := rfl
      refine ucX5_fits_13W  hL ho0 ?_
      refine ⟨?_, ?_⟩
      · (first | omega | (clear ih0; grind (splits := 16) (ematch := 30) (gen := 30) [-Prod, inR, inL, exN_m]))
      refine ⟨?_, ?_⟩
      · (first | omega | (clear ih0; grind (splits := 16) (ematch := 30) (gen := 30) [-Prod, inR, inL, exN_m]))
      rintro ⟨f1, f1q⟩
      refine ⟨?_, ?_⟩
      · (first | omega | (clear ih0; grind (splits := 16) (ematch := 30) (gen := 30) [-Prod, inR, inL, exN_m]))
      refine ⟨?_, ?_⟩
      · (first | omega | (clear ih0; grind (splits := 16) (ematch := 30) (gen := 30) [-Prod, inR, inL, exN_m]))
      rintro ⟨f2, f2q⟩
      refine ⟨?_, ?_⟩
      · (first | exact ⟨by omega, by omega⟩ | (clear ih0; grind (splits := 16) (ematch := 30) (gen := 30) [-Prod, inR, inL, exN_m]))
      refine ⟨?_, ?_⟩
      · (first | exact ⟨by omega, by omega⟩ | (clear ih0; grind (splits := 16) (ematch := 30) (gen := 30) [-Prod, inR, inL, exN_m]))
      refine ⟨fun c3 => ?_, fun c4 => ?_⟩
      · refine ⟨?_, ?_⟩
        · (first | omega | (clear ih0; grind (splits := 16) (ematch := 30) (gen := 30) [-Prod, inR, inL, exN_m]))
        refine RZ_mk ?_ ?_
        · (clear ih0; first | omega | (have hx : x4 - (σ.I 42 x2) = (σ.I 43 x2) := (by omega); rw [hx] at i2; exact ⟨fun z => i2.mp (by omega), fun z => (by have y := i2.mpr z; omega)⟩) | (refine ⟨fun z => exN_m _ _ _ (i2.mp (by omega)) (by omega), fun z => (by omega)⟩))
        · (clear ih0; first | omega | (have hx : x4 - (σ.I 42 x2) = (σ.I 43 x2) := (by omega); rw [hx] at i2; exact ⟨fun z => i2.mp (by omega), fun z => (by have y := i2.mpr z; omega)⟩) | (refine ⟨fun z => exN_m _ _ _ (i2.mp (by omega)) (by omega), fun z => (by omega)⟩))
      · refine ⟨?_, ?_⟩
        · (first | exact ⟨by omega, by omega⟩ | (clear ih0; grind (splits := 16) (ematch := 30) (gen := 30) [-Prod, inR, inL, exN_m]))
        refine ⟨fun c5 => ?_, fun c6 => ?_⟩
        · refine ⟨?_, ?_⟩
          · (first | omega | (clear ih0; grind (splits := 16) (ematch := 30) (gen := 30) [-Prod, inR, inL, exN_m]))
          refine RZ_mk ?_ ?_
          · (clear ih0; first | omega | (have hx : x4 - (σ.I 42 x2) = (σ.I 43 x2) := (by omega); rw [hx] at i2; exact ⟨fun z => i2.mp (by omega), fun z => (by have y := i2.mpr z; omega)⟩) | (refine ⟨fun z => exN_m _ _ _ (i2.mp (by omega)) (by omega), fun z => (by omega)⟩))
          · (clear ih0; first | omega | (have hx : x4 - (σ.I 42 x2) = (σ.I 43 x2) := (by omega); rw [hx] at i2; exact ⟨fun z => i2.mp (by omega), fun z => (by have y := i2.mpr z; omega)⟩) | (refine ⟨fun z => exN_m _ _ _ (i2.mp (by omega)) (by omega), fun z => (by omega)⟩))
        · refine ⟨?_, ?_⟩
          · (first | omega | (clear ih0; grind (splits := 16) (ematch := 30) (gen := 30) [-Prod, inR, inL, exN_m]))
          refine ⟨?_, ?_⟩
          · (first | omega | (clear ih0; grind (splits := 16) (ematch := 30) (gen := 30) [-Prod, inR, inL, exN_m]))
          rintro ⟨f7, f7q⟩
          refine ⟨?_, ?_⟩
          · (first | omega | (clear ih0; grind (splits := 16) (ematch := 30) (gen := 30) [-Prod, inR, inL, exN_m]))
          refine ⟨?_, ?_⟩
          · (first | omega | (clear ih0; grind (splits := 16) (ematch := 30) (gen := 30) [-Prod, inR, inL, exN_m]))
          rintro ⟨f8, f8q⟩
          refine ⟨fun c9 => ?_, fun c10 => ?_⟩
          · refine ⟨?_, ?_⟩
            · (first | omega | (clear ih0; grind (splits := 16) (ematch := 30) (gen := 30) [-Prod, inR, inL, exN_m]))
            refine ⟨?_, ?_⟩
            · (first | omega | (clear ih0; grind (splits := 16) (ematch := 30) (gen := 30) [-Prod, inR, inL, exN_m]))
            rintro ⟨f11, f11q⟩
            refine ⟨?_, ?_⟩
            · (first | omega | (clear ih0; grind (splits := 16) (ematch := 30) (gen := 30) [-Prod, inR, inL, exN_m]))
            refine ⟨?_, ?_⟩
            · (first | omega | (clear ih0; grind (splits := 16) (ematch := 30) (gen := 30) [-Prod, inR, inL, exN_m]))
            rintro ⟨f12, f12q⟩
            refine ⟨fun c13 => ?_, fun c14 => ?_⟩
            · refine ⟨?_, ?_⟩
              · (first | omega | (clear ih0; grind (splits := 16) (ematch := 30) (gen := 30) [-Prod, inR, inL, exN_m]))
              refine ⟨?_, ?_⟩
              · (first | omega | (clear ih0; grind (splits := 16) (ematch := 30) (gen := 30) [-Prod, inR, inL, exN_m]))
              rintro ⟨f15, f15q⟩
              refine ⟨?_, ?_⟩
              · (first | omega | (clear ih0; grind (splits := 16) (ematch := 30) (gen := 30) [-Prod, inR, inL, exN_m]))
              refine ⟨?_, ?_⟩
              · (first | omega | (clear ih0; grind (splits := 16) (ematch := 30) (gen := 30) [-Prod, inR, inL, exN_m]))
              rintro ⟨f16, f16q⟩
              refine ⟨?_, ?_⟩
              · (first | omega | (clear ih0; grind (splits := 16) (ematch := 30) (gen := 30) [-Prod, inR, inL, exN_m]))
              refine ⟨?_, ?_⟩
              · (first | omega | (clear ih0; grind (splits := 16) (ematch := 30) (gen := 30) [-Prod, inR, inL, exN_m]))
              rintro ⟨f17, f17q⟩
              refine ⟨?_, ?_⟩
              · (first | omega | (clear ih0; grind (splits := 16) (ematch := 30) (gen := 30) [-Prod, inR, inL, exN_m]))
              refine ⟨?_, ?_⟩
              · (first | omega | (clear ih0; grind (splits := 16) (ematch := 30) (gen := 30) [-Prod, inR, inL, exN_m]))
              refine ⟨?_, ?_⟩
              · (clear ih0; (have z1 := hpt (by omega) (by omega) (by omega); have z2 := p3 (by omega); have s1 := sq_bd (x := (b64shr (σ.I 30 x4) 32 - σ.I (o0 + 1 + 11) x1)) (b := 2000000000) (by omega) (by omega); have s2 := sq_bd (x := (w32 (σ.I 30 x4) - σ.I (o0 + 1 + 12) x1)) (b := 2000000000) (by omega) (by omega); have s3 := sq_bd (x := σ.I (o0 + 1 + 13) x1) (b := 2000000000) (by omega) (by omega); exact ⟨by omega, by omega⟩))
              refine ⟨?_, ?_⟩
              · (clear ih0; (have z1 := hpt (by omega) (by omega) (by omega); have z2 := p3 (by omega); have s1 := sq_bd (x := (b64shr (σ.I 30 x4) 32 - σ.I (o0 + 1 + 11) x1)) (b := 2000000000) (by omega) (by omega); have s2 := sq_bd (x := (w32 (σ.I 30 x4) - σ.I (o0 + 1 + 12) x1)) (b := 2000000000) (by omega) (by omega); have s3 := sq_bd (x := σ.I (o0 + 1 + 13) x1) (b := 2000000000) (by omega) (by omega); exact ⟨by omega, by omega⟩))
              refine ⟨fun c18 => ?_, fun c19 => ?_⟩
              · refine ih0 _ _ ⟨?_, ?_, ?_⟩ ?_
                · (first | omega | (clear ih0; grind (splits := 16) (ematch := 30) (gen := 30) [-Prod, inR, inL, exN_m]))
                · (first | omega | (clear ih0; grind (splits := 16) (ematch := 30) (gen := 30) [-Prod, inR, inL, exN_m]))
                · (clear ih0; (rw [hst]; first | (have z := hvf (by omega); have z2 := i2; constructor <;> intro y; (exact Or.inl (z2.mp y)); (exact z2.mpr (y.elim id (fun w => absurd w z)))) | (rw [h9 (by omega)]; constructor <;> intro y; (first | (exfalso; omega) | exact Or.inr ⟨by omega, by omega, by omega⟩); (first | rfl | (exfalso; rcases y with y | y; (have z := i2.mpr y; omega); omega))) | (rw [h0 (by omega)]; constructor <;> intro y; (first | (exfalso; omega) | exact Or.inr ⟨by omega, by omega⟩); (first | rfl | (exfalso; rcases y with y | y; (have z := i2.mpr y; omega); omega)))))
                · (unfold lt3; first | omega | (clear ih0; grind (splits := 16) (ematch := 30) (gen := 30) [-Prod, inR, inL, exN_m]))
              · refine ih0 _ _ ⟨?_, ?_, ?_⟩ ?_
                · (first | omega | (clear ih0; grind (splits := 16) (ematch := 30) (gen := 30) [-Prod, inR, inL, exN_m]))
                · (first | omega | (clear ih0; grind (splits := 16) (ematch := 30) (gen := 30) [-Prod, inR, inL, exN_m]))
                · (clear ih0; (rw [hst]; first | (have z := hvf (by omega); have z2 := i2; constructor <;> intro y; (exact Or.inl (z2.mp y)); (exact z2.mpr (y.elim id (fun w => absurd w z)))) | (rw [h9 (by omega)]; constructor <;> intro y; (first | (exfalso; omega) | exact Or.inr ⟨by omega, by omega, by omega⟩); (first | rfl | (exfalso; rcases y with y | y; (have z := i2.mpr y; omega); omega))) | (rw [h0 (by omega)]; constructor <;> intro y; (first | (exfalso; omega) | exact Or.inr ⟨by omega, by omega⟩); (first | rfl | (exfalso; rcases y with y | y; (have z := i2.mpr y; omega); omega)))))
                · (unfold lt3; first | omega | (clear ih0; grind (splits := 16) (ematch := 30) (gen := 30) [-Prod, inR, inL, exN_m]))
            · refine ⟨?_, ?_⟩
              · (first | omega | (clear ih0; grind (splits := 16) (ematch := 30) (gen := 30) [-Prod, inR, inL, exN_m]))
              refine ⟨?_, ?_⟩
              · (first | omega | (clear ih0; grind (splits := 16) (ematch := 30) (gen := 30) [-Prod, inR, inL, exN_m]))
              rintro ⟨f20, f20q⟩
              refine ⟨fun c21 => ?_, fun c22 => ?_⟩
              · refine ih0 _ _ ⟨?_, ?_, ?_⟩ ?_
                · (first | omega | (clear ih0; grind (splits := 16) (ematch := 30) (gen := 30) [-Prod, inR, inL, exN_m]))
                · (first | omega | (clear ih0; grind (splits := 16) (ematch := 30) (gen := 30) [-Prod, inR, inL, exN_m]))
                · (clear ih0; (rw [hst]; first | (have z := hvf (by omega); have z2 := i2; constructor <;> intro y; (exact Or.inl (z2.mp y)); (exact z2.mpr (y.elim id (fun w => absurd w z)))) | (rw [h9 (by omega)]; constructor <;> intro y; (first | (exfalso; omega) | exact Or.inr ⟨by omega, by omega, by omega⟩); (first | rfl | (exfalso; rcases y with y | y; (have z := i2.mpr y; omega); omega))) | (rw [h0 (by omega)]; constructor <;> intro y; (first | (exfalso; omega) | exact Or.inr ⟨by omega, by omega⟩); (first | rfl | (exfalso; rcases y with y | y; (have z := i2.mpr y; omega); omega)))))
                · (unfold lt3; first | omega | (clear ih0; grind (splits := 16) (ematch := 30) (gen := 30) [-Prod, inR, inL, exN_m]))
              · refine ⟨?_, ?_⟩
                · (first | omega | (clear ih0; grind (splits := 16) (ematch := 30) (gen := 30) [-Prod, inR, inL, exN_m]))
                refine ⟨?_, ?_⟩
                · (first | omega | (clear ih0; grind (splits := 16) (ematch := 30) (gen := 30) [-Prod, inR, inL, exN_m]))
                rintro ⟨f23, f23q⟩
                refine ⟨fun c24 => ?_, fun c25 => ?_⟩
                · refine ih0 _ _ ⟨?_, ?_, ?_⟩ ?_
                  · (first | omega | (clear ih0; grind (splits := 16) (ematch := 30) (gen := 30) [-Prod, inR, inL, exN_m]))
                  · (first | omega | (clear ih0; grind (splits := 16) (ematch := 30) (gen := 30) [-Prod, inR, inL, exN_m]))
                  · (clear ih0; (rw [hst]; first | (have z := hvf (by omega); have z2 := i2; constructor <;> intro y; (exact Or.inl (z2.mp y)); (exact z2.mpr (y.elim id (fun w => absurd w z)))) | (rw [h9 (by omega)]; constructor <;> intro y; (first | (exfalso; omega) | exact Or.inr ⟨by omega, by omega, by omega⟩); (first | rfl | (exfalso; rcases y with y | y; (have z := i2.mpr y; omega); omega))) | (rw [h0 (by omega)]; constructor <;> intro y; (first | (exfalso; omega) | exact Or.inr ⟨by omega, by omega⟩); (first | rfl | (exfalso; rcases y with y | y; (have z := i2.mpr y; omega); omega)))))
                  · (unfold lt3; first | omega | (clear ih0; grind (splits := 16) (ematch := 30) (gen := 30) [-Prod, inR, inL, exN_m]))
                · refine ih0 _ _ ⟨?_, ?_, ?_⟩ ?_
                  · (first | omega | (clear ih0; grind (splits := 16) (ematch := 30) (gen := 30) [-Prod, inR, inL, exN_m]))
                  · (first | omega | (clear ih0; grind (splits := 16) (ematch := 30) (gen := 30) [-Prod, inR, inL, exN_m]))
                  · (clear ih0; (rw [hst]; first | (have z := hvf (by omega); have z2 := i2; constructor <;> intro y; (exact Or.inl (z2.mp y)); (exact z2.mpr (y.elim id (fun w => absurd w z)))) | (rw [h9 (by omega)]; constructor <;> intro y; (first | (exfalso; omega) | exact Or.inr ⟨by omega, by omega, by omega⟩); (first | rfl | (exfalso; rcases y with y | y; (have z := i2.mpr y; omega); omega))) | (rw [h0 (by omega)]; constructor <;> intro y; (first | (exfalso; omega) | exact Or.inr ⟨by omega, by omega⟩); (first | rfl | (exfalso; rcases y with y | y; (have z := i2.mpr y; omega); omega)))))
                  · (unfold lt3; first | omega | (clear ih0; grind (splits := 16) (ematch := 30) (gen := 30) [-Prod, inR, inL, exN_m]))
          · refine ih0 _ _ ⟨?_, ?_, ?_⟩ ?_
            · (first | omega | (clear ih0; grind (splits := 16) (ematch := 30) (gen := 30) [-Prod, inR, inL, exN_m]))
            · (first | omega | (clear ih0; grind (splits := 16) (ematch := 30) (gen := 30) [-Prod, inR, inL, exN_m]))
            · (clear ih0; (rw [hst]; first | (have z := hvf (by omega); have z2 := i2; constructor <;> intro y; (exact Or.inl (z2.mp y)); (exact z2.mpr (y.elim id (fun w => absurd w z)))) | (rw [h9 (by omega)]; constructor <;> intro y; (first | (exfalso; omega) | exact Or.inr ⟨by omega, by omega, by omega⟩); (first | rfl | (exfalso; rcases y with y | y; (have z := i2.mpr y; omega); omega))) | (rw [h0 (by omega)]; constructor <;> intro y; (first | (exfalso; omega) | exact Or.inr ⟨by omega, by omega⟩); (first | rfl | (exfalso; rcases y with y | y; (have z := i2.mpr y; omega); omega)))))
            · (unfold lt3; first | omega | (clear ih0; grind (splits := 16) (ematch := 30) (gen := 30) [-Prod, inR, inL, exN_m]))
  have k0_ : ∀ (x3 : Int) (x4 : Int), ((0 ≤ x3 ∧ x3 ≤ 1) ∧ ((σ.I 42 x2) ≤ x4 ∧ x4 ≤ (σ.I 42 x2) + (σ.I 43 x2)) ∧ (x3 = 1 ↔ exN (fun j => lvX σ o0 x1 ((σ.I 42 x2) + j)) (x4 - (σ.I 42 x2)))) → VV E mX5_fits (d + 1) 13 [(0, aO o0), (1, aI (x1)), (2, aI (x2)), (3, aI (x3)), (4, aI (x4))] [] σ (RZ σ (exN (fun j => lvX σ o0 x1 ((σ.I 42 x2) + j)) (σ.I 43 x2))) := fun z0 z1 h0 => (key _ _ _) z0 z1 h0 rfl rfl rfl
  clear key
  refine ucX5_fits_0W  hL ho0 ?_
  refine ⟨?_, ?_⟩
  · (first | omega | (clear k0_; grind (splits := 16) (ematch := 30) (gen := 30) [-Prod, inR, inL, exN_m]))
  refine ⟨?_, ?_⟩
  · (first | omega | (clear k0_; grind (splits := 16) (ematch := 30) (gen := 30) [-Prod, inR, inL, exN_m]))
  rintro ⟨f1, f1q⟩
  refine k0_ _ _ ⟨?_, ?_, ?_⟩
  · (first | omega | (clear k0_; grind (splits := 16) (ematch := 30) (gen := 30) [-Prod, inR, inL, exN_m]))
  · (first | omega | (clear k0_; grind (splits := 16) (ematch := 30) (gen := 30) [-Prod, inR, inL, exN_m]))
  · (clear k0_; exact ⟨fun z => absurd z (by decide), fun z => absurd z (exN_0 _ _ (by omega))⟩)
