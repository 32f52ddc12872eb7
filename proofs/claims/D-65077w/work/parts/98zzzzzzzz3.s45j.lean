set_option maxRecDepth 100000
set_option maxHeartbeats 4000000
theorem DX9_textOf_0W : DD cX9_textOf 0 1 1 (.aload_n 0) := ⟨by decide +kernel, rfl⟩
theorem DX9_textOf_1W : DD cX9_textOf 1 1 2 (.iload_n 1) := ⟨by decide +kernel, rfl⟩
theorem DX9_textOf_2W : DD cX9_textOf 2 1 3 (.iconst 0) := ⟨by decide +kernel, rfl⟩
theorem DX9_textOf_3W : DD cX9_textOf 3 3 6 (.invokevirtual 583) := ⟨by decide +kernel, rfl⟩
theorem DX9_textOf_6W : DD cX9_textOf 6 2 8 (.istore 5) := ⟨by decide +kernel, rfl⟩
theorem DX9_textOf_8W : DD cX9_textOf 8 2 10 (.iload 5) := ⟨by decide +kernel, rfl⟩
theorem DX9_textOf_10W : DD cX9_textOf 10 3 13 (.ifCond .ne 12) := ⟨by decide +kernel, rfl⟩
theorem DX9_textOf_13W : DD cX9_textOf 13 1 14 (.aload_n 0) := ⟨by decide +kernel, rfl⟩
theorem DX9_textOf_14W : DD cX9_textOf 14 1 15 (.iload_n 1) := ⟨by decide +kernel, rfl⟩
theorem DX9_textOf_15W : DD cX9_textOf 15 1 16 (.iconst 1) := ⟨by decide +kernel, rfl⟩
theorem DX9_textOf_16W : DD cX9_textOf 16 3 19 (.invokevirtual 583) := ⟨by decide +kernel, rfl⟩
theorem DX9_textOf_19W : DD cX9_textOf 19 3 22 (.ifCond .eq 21) := ⟨by decide +kernel, rfl⟩
theorem DX9_textOf_22W : DD cX9_textOf 22 2 24 (.iload 4) := ⟨by decide +kernel, rfl⟩
theorem DX9_textOf_24W : DD cX9_textOf 24 3 27 (.sipush 1000) := ⟨by decide +kernel, rfl⟩
theorem DX9_textOf_27W : DD cX9_textOf 27 3 30 (.if_icmp .gt 13) := ⟨by decide +kernel, rfl⟩
theorem DX9_textOf_30W : DD cX9_textOf 30 2 32 (.iload 5) := ⟨by decide +kernel, rfl⟩
theorem DX9_textOf_32W : DD cX9_textOf 32 3 35 (.ifCond .ne 10) := ⟨by decide +kernel, rfl⟩
theorem DX9_textOf_35W : DD cX9_textOf 35 2 37 (.iload 4) := ⟨by decide +kernel, rfl⟩
theorem DX9_textOf_37W : DD cX9_textOf 37 3 40 (.ifCond .ne 5) := ⟨by decide +kernel, rfl⟩
theorem DX9_textOf_40W : DD cX9_textOf 40 1 41 (.iconst (-1)) := ⟨by decide +kernel, rfl⟩
theorem DX9_textOf_41W : DD cX9_textOf 41 1 42 (.ireturn) := ⟨by decide +kernel, rfl⟩
theorem DX9_textOf_42W : DD cX9_textOf 42 2 44 (.iload 5) := ⟨by decide +kernel, rfl⟩
theorem DX9_textOf_44W : DD cX9_textOf 44 3 47 (.ifCond .eq 19) := ⟨by decide +kernel, rfl⟩
theorem DX9_textOf_47W : DD cX9_textOf 47 1 48 (.aload_n 0) := ⟨by decide +kernel, rfl⟩
theorem DX9_textOf_48W : DD cX9_textOf 48 1 49 (.aload_n 0) := ⟨by decide +kernel, rfl⟩
theorem DX9_textOf_49W : DD cX9_textOf 49 3 52 (.getfield 87) := ⟨by decide +kernel, rfl⟩
theorem DX9_textOf_52W : DD cX9_textOf 52 1 53 (.iload_n 1) := ⟨by decide +kernel, rfl⟩
theorem DX9_textOf_53W : DD cX9_textOf 53 1 54 (.iaload) := ⟨by decide +kernel, rfl⟩
theorem DX9_textOf_54W : DD cX9_textOf 54 1 55 (.aload_n 2) := ⟨by decide +kernel, rfl⟩
theorem DX9_textOf_55W : DD cX9_textOf 55 1 56 (.iload_n 3) := ⟨by decide +kernel, rfl⟩
theorem DX9_textOf_56W : DD cX9_textOf 56 1 57 (.iload_n 3) := ⟨by decide +kernel, rfl⟩
theorem DX9_textOf_57W : DD cX9_textOf 57 2 59 (.iload 4) := ⟨by decide +kernel, rfl⟩
theorem DX9_textOf_59W : DD cX9_textOf 59 1 60 (.iadd) := ⟨by decide +kernel, rfl⟩
theorem DX9_textOf_60W : DD cX9_textOf 60 3 63 (.invokevirtual 559) := ⟨by decide +kernel, rfl⟩
theorem DX9_textOf_63W : DD cX9_textOf 63 1 64 (.aload_n 0) := ⟨by decide +kernel, rfl⟩
theorem DX9_textOf_64W : DD cX9_textOf 64 2 66 (.iload 4) := ⟨by decide +kernel, rfl⟩
theorem DX9_textOf_66W : DD cX9_textOf 66 2 68 (.iload 5) := ⟨by decide +kernel, rfl⟩
theorem DX9_textOf_68W : DD cX9_textOf 68 3 71 (.ifCond .eq 10) := ⟨by decide +kernel, rfl⟩
theorem DX9_textOf_71W : DD cX9_textOf 71 1 72 (.aload_n 0) := ⟨by decide +kernel, rfl⟩
theorem DX9_textOf_72W : DD cX9_textOf 72 3 75 (.getfield 549) := ⟨by decide +kernel, rfl⟩
theorem DX9_textOf_75W : DD cX9_textOf 75 3 78 (.goto 4) := ⟨by decide +kernel, rfl⟩
theorem DX9_textOf_78W : DD cX9_textOf 78 1 79 (.iconst 1) := ⟨by decide +kernel, rfl⟩
theorem DX9_textOf_79W : DD cX9_textOf 79 3 82 (.invokevirtual 586) := ⟨by decide +kernel, rfl⟩
theorem DX9_textOf_82W : DD cX9_textOf 82 3 85 (.ifCond .eq 6) := ⟨by decide +kernel, rfl⟩
theorem DX9_textOf_85W : DD cX9_textOf 85 2 87 (.bipush (-3)) := ⟨by decide +kernel, rfl⟩
theorem DX9_textOf_87W : DD cX9_textOf 87 1 88 (.ireturn) := ⟨by decide +kernel, rfl⟩
theorem DX9_textOf_88W : DD cX9_textOf 88 1 89 (.aload_n 0) := ⟨by decide +kernel, rfl⟩
theorem DX9_textOf_89W : DD cX9_textOf 89 1 90 (.iload_n 1) := ⟨by decide +kernel, rfl⟩
theorem DX9_textOf_90W : DD cX9_textOf 90 3 93 (.invokevirtual 589) := ⟨by decide +kernel, rfl⟩
theorem DX9_textOf_93W : DD cX9_textOf 93 1 94 (.iconst 0) := ⟨by decide +kernel, rfl⟩
theorem DX9_textOf_94W : DD cX9_textOf 94 2 96 (.istore 6) := ⟨by decide +kernel, rfl⟩
theorem DX9_textOf_96W : DD cX9_textOf 96 2 98 (.iload 6) := ⟨by decide +kernel, rfl⟩
theorem DX9_textOf_98W : DD cX9_textOf 98 2 100 (.iload 4) := ⟨by decide +kernel, rfl⟩
theorem DX9_textOf_100W : DD cX9_textOf 100 3 103 (.if_icmp .ge 27) := ⟨by decide +kernel, rfl⟩
theorem DX9_textOf_103W : DD cX9_textOf 103 1 104 (.aload_n 0) := ⟨by decide +kernel, rfl⟩
theorem DX9_textOf_104W : DD cX9_textOf 104 3 107 (.getfield 110) := ⟨by decide +kernel, rfl⟩
theorem DX9_textOf_107W : DD cX9_textOf 107 1 108 (.aload_n 0) := ⟨by decide +kernel, rfl⟩
theorem DX9_textOf_108W : DD cX9_textOf 108 3 111 (.getfield 577) := ⟨by decide +kernel, rfl⟩
theorem DX9_textOf_111W : DD cX9_textOf 111 2 113 (.iload 6) := ⟨by decide +kernel, rfl⟩
theorem DX9_textOf_113W : DD cX9_textOf 113 1 114 (.iadd) := ⟨by decide +kernel, rfl⟩
theorem DX9_textOf_114W : DD cX9_textOf 114 1 115 (.aload_n 2) := ⟨by decide +kernel, rfl⟩
theorem DX9_textOf_115W : DD cX9_textOf 115 1 116 (.iload_n 3) := ⟨by decide +kernel, rfl⟩
theorem DX9_textOf_116W : DD cX9_textOf 116 2 118 (.iload 6) := ⟨by decide +kernel, rfl⟩
theorem DX9_textOf_118W : DD cX9_textOf 118 1 119 (.iadd) := ⟨by decide +kernel, rfl⟩
theorem DX9_textOf_119W : DD cX9_textOf 119 1 120 (.baload) := ⟨by decide +kernel, rfl⟩
theorem DX9_textOf_120W : DD cX9_textOf 120 1 121 (.bastore) := ⟨by decide +kernel, rfl⟩
theorem DX9_textOf_121W : DD cX9_textOf 121 3 124 (.iinc 6 1) := ⟨by decide +kernel, rfl⟩
theorem DX9_textOf_124W : DD cX9_textOf 124 3 127 (.goto (-28)) := ⟨by decide +kernel, rfl⟩
theorem DX9_textOf_127W : DD cX9_textOf 127 1 128 (.aload_n 0) := ⟨by decide +kernel, rfl⟩
theorem DX9_textOf_128W : DD cX9_textOf 128 1 129 (.dup) := ⟨by decide +kernel, rfl⟩
theorem DX9_textOf_129W : DD cX9_textOf 129 3 132 (.getfield 577) := ⟨by decide +kernel, rfl⟩
theorem DX9_textOf_132W : DD cX9_textOf 132 2 134 (.iload 4) := ⟨by decide +kernel, rfl⟩
theorem DX9_textOf_134W : DD cX9_textOf 134 1 135 (.iadd) := ⟨by decide +kernel, rfl⟩
theorem DX9_textOf_135W : DD cX9_textOf 135 3 138 (.putfield 577) := ⟨by decide +kernel, rfl⟩
theorem DX9_textOf_138W : DD cX9_textOf 138 1 139 (.aload_n 0) := ⟨by decide +kernel, rfl⟩
theorem DX9_textOf_139W : DD cX9_textOf 139 3 142 (.getfield 96) := ⟨by decide +kernel, rfl⟩
theorem DX9_textOf_142W : DD cX9_textOf 142 1 143 (.aload_n 0) := ⟨by decide +kernel, rfl⟩
theorem DX9_textOf_143W : DD cX9_textOf 143 3 146 (.getfield 571) := ⟨by decide +kernel, rfl⟩
theorem DX9_textOf_146W : DD cX9_textOf 146 2 148 (.iload 4) := ⟨by decide +kernel, rfl⟩
theorem DX9_textOf_148W : DD cX9_textOf 148 1 149 (.iastore) := ⟨by decide +kernel, rfl⟩
theorem DX9_textOf_149W : DD cX9_textOf 149 2 151 (.iload 5) := ⟨by decide +kernel, rfl⟩
theorem DX9_textOf_151W : DD cX9_textOf 151 3 154 (.ifCond .eq 65) := ⟨by decide +kernel, rfl⟩
theorem DX9_textOf_154W : DD cX9_textOf 154 1 155 (.iconst 0) := ⟨by decide +kernel, rfl⟩
theorem DX9_textOf_155W : DD cX9_textOf 155 2 157 (.istore 6) := ⟨by decide +kernel, rfl⟩
theorem DX9_textOf_157W : DD cX9_textOf 157 2 159 (.iload 6) := ⟨by decide +kernel, rfl⟩
theorem DX9_textOf_159W : DD cX9_textOf 159 1 160 (.aload_n 0) := ⟨by decide +kernel, rfl⟩
theorem DX9_textOf_160W : DD cX9_textOf 160 3 163 (.getfield 549) := ⟨by decide +kernel, rfl⟩
theorem DX9_textOf_163W : DD cX9_textOf 163 3 166 (.if_icmp .ge 50) := ⟨by decide +kernel, rfl⟩
theorem DX9_textOf_166W : DD cX9_textOf 166 1 167 (.aload_n 0) := ⟨by decide +kernel, rfl⟩
theorem DX9_textOf_167W : DD cX9_textOf 167 1 168 (.aload_n 0) := ⟨by decide +kernel, rfl⟩
theorem DX9_textOf_168W : DD cX9_textOf 168 3 171 (.getfield 54) := ⟨by decide +kernel, rfl⟩
theorem DX9_textOf_171W : DD cX9_textOf 171 2 173 (.bipush 20) := ⟨by decide +kernel, rfl⟩
theorem DX9_textOf_173W : DD cX9_textOf 173 2 175 (.iload 6) := ⟨by decide +kernel, rfl⟩
theorem DX9_textOf_175W : DD cX9_textOf 175 1 176 (.imul) := ⟨by decide +kernel, rfl⟩
theorem DX9_textOf_176W : DD cX9_textOf 176 1 177 (.aload_n 0) := ⟨by decide +kernel, rfl⟩
theorem DX9_textOf_177W : DD cX9_textOf 177 3 180 (.getfield 57) := ⟨by decide +kernel, rfl⟩
theorem DX9_textOf_180W : DD cX9_textOf 180 2 182 (.iload 6) := ⟨by decide +kernel, rfl⟩
theorem DX9_textOf_182W : DD cX9_textOf 182 1 183 (.iaload) := ⟨by decide +kernel, rfl⟩
theorem DX9_textOf_183W : DD cX9_textOf 183 1 184 (.aload_n 0) := ⟨by decide +kernel, rfl⟩
theorem DX9_textOf_184W : DD cX9_textOf 184 3 187 (.getfield 60) := ⟨by decide +kernel, rfl⟩
theorem DX9_textOf_187W : DD cX9_textOf 187 2 189 (.iload 6) := ⟨by decide +kernel, rfl⟩
theorem DX9_textOf_189W : DD cX9_textOf 189 1 190 (.iaload) := ⟨by decide +kernel, rfl⟩
theorem DX9_textOf_190W : DD cX9_textOf 190 1 191 (.aload_n 0) := ⟨by decide +kernel, rfl⟩
theorem DX9_textOf_191W : DD cX9_textOf 191 3 194 (.getfield 63) := ⟨by decide +kernel, rfl⟩
theorem DX9_textOf_194W : DD cX9_textOf 194 2 196 (.iload 6) := ⟨by decide +kernel, rfl⟩
theorem DX9_textOf_196W : DD cX9_textOf 196 1 197 (.iaload) := ⟨by decide +kernel, rfl⟩
theorem DX9_textOf_197W : DD cX9_textOf 197 1 198 (.aload_n 0) := ⟨by decide +kernel, rfl⟩
theorem DX9_textOf_198W : DD cX9_textOf 198 3 201 (.getfield 66) := ⟨by decide +kernel, rfl⟩
theorem DX9_textOf_201W : DD cX9_textOf 201 2 203 (.iload 6) := ⟨by decide +kernel, rfl⟩
theorem DX9_textOf_203W : DD cX9_textOf 203 1 204 (.iaload) := ⟨by decide +kernel, rfl⟩
theorem DX9_textOf_204W : DD cX9_textOf 204 3 207 (.invokevirtual 593) := ⟨by decide +kernel, rfl⟩
theorem DX9_textOf_207W : DD cX9_textOf 207 3 210 (.iinc 6 1) := ⟨by decide +kernel, rfl⟩
theorem DX9_textOf_210W : DD cX9_textOf 210 3 213 (.goto (-53)) := ⟨by decide +kernel, rfl⟩
theorem DX9_textOf_213W : DD cX9_textOf 213 3 216 (.goto 20) := ⟨by decide +kernel, rfl⟩
theorem DX9_textOf_216W : DD cX9_textOf 216 1 217 (.aload_n 0) := ⟨by decide +kernel, rfl⟩
theorem DX9_textOf_217W : DD cX9_textOf 217 1 218 (.aload_n 2) := ⟨by decide +kernel, rfl⟩
theorem DX9_textOf_218W : DD cX9_textOf 218 1 219 (.iload_n 3) := ⟨by decide +kernel, rfl⟩
theorem DX9_textOf_219W : DD cX9_textOf 219 2 221 (.iload 4) := ⟨by decide +kernel, rfl⟩
theorem DX9_textOf_221W : DD cX9_textOf 221 2 223 (.bipush 20) := ⟨by decide +kernel, rfl⟩
theorem DX9_textOf_223W : DD cX9_textOf 223 3 226 (.invokestatic 524) := ⟨by decide +kernel, rfl⟩
theorem DX9_textOf_226W : DD cX9_textOf 226 1 227 (.iconst 0) := ⟨by decide +kernel, rfl⟩
theorem DX9_textOf_227W : DD cX9_textOf 227 2 229 (.iload 4) := ⟨by decide +kernel, rfl⟩
theorem DX9_textOf_229W : DD cX9_textOf 229 1 230 (.iconst 0) := ⟨by decide +kernel, rfl⟩
theorem DX9_textOf_230W : DD cX9_textOf 230 3 233 (.invokevirtual 593) := ⟨by decide +kernel, rfl⟩
theorem DX9_textOf_233W : DD cX9_textOf 233 1 234 (.aload_n 0) := ⟨by decide +kernel, rfl⟩
theorem DX9_textOf_234W : DD cX9_textOf 234 3 237 (.invokevirtual 597) := ⟨by decide +kernel, rfl⟩
theorem DX9_textOf_237W : DD cX9_textOf 237 1 238 (.ireturn) := ⟨by decide +kernel, rfl⟩
theorem ucX9_textOf_0W {E : XE} {d : Nat} {σ : Sto} {Q : Res → Sto → Prop} {x1 : Int} {o2 : Nat} {n2 : Nat} {x3 : Int} {x4 : Int} (hL : Lay σ) (ho2 : σ.sh o2 = (1, n2)) (h : 2 ≤ d ∧ (inR x1) ∧ (inR (0 : Int)) ∧ (0 ≤ σ.I 555 27 ∧ σ.I 555 27 ≤ 12) ∧ (∀ y5 : Int, 0 ≤ y5 ∧ y5 ≤ 1 → (y5 = 1 ↔ ((0 ≤ x1 ∧ x1 < σ.I 555 27) ∧ σ.I 577 x1 = (0 : Int))) → (y5 ≠ 0 → VV E mX9_textOf (d + 1) 22 [(0, aO 555), (1, aI (x1)), (2, aO o2), (3, aI (x3)), (4, aI (x4)), (5, aI (y5))] [] σ Q) ∧ (y5 = 0 → 2 ≤ d ∧ (inR x1) ∧ (inR (1 : Int)) ∧ (0 ≤ σ.I 555 27 ∧ σ.I 555 27 ≤ 12) ∧ (((0 ≤ x1 ∧ x1 < σ.I 555 27) ∧ σ.I 577 x1 = (1 : Int)) → VV E mX9_textOf (d + 1) 22 [(0, aO 555), (1, aI (x1)), (2, aO o2), (3, aI (x3)), (4, aI (x4)), (5, aI (y5))] [] σ Q) ∧ (¬ ((0 ≤ x1 ∧ x1 < σ.I 555 27) ∧ σ.I 577 x1 = (1 : Int)) → Q (.inl (some (aI (-1)))) σ)))) : VV E mX9_textOf (d + 1) 0 [(0, aO 555), (1, aI (x1)), (2, aO o2), (3, aI (x3)), (4, aI (x4))] [] σ Q := by
  refine v_aload_n 0 DX9_textOf_0W rfl rfl <| v_iload_n 1 DX9_textOf_1W rfl rfl <| v_iconst DX9_textOf_2W <| ?_
  obtain ⟨k1, h⟩ := h
  obtain ⟨k2, k3, k4, h⟩ := h
  refine v_invV (ci := 9) (as := [aI (x1), aI (0)]) (st := []) DX9_textOf_3W rfl okX9_isOf (Or.inl q2891) q2893 (s_555 hL) rfl qs132 npX9_isOf (sp_X9_isOf (σ := σ) (x1 := x1) (x2 := (0 : Int)) k1 hL k2 k3 k4) (Nat.le_of_ble_eq_true rfl) (Nat.le_refl _) (Nat.le_of_ble_eq_true rfl) (RZ_retv (fun y5 y5f y5e => ?_)) RZ_thr
  have h := h y5 y5f y5e
  refine v_istore DX9_textOf_6W (by decide) rfl <| v_iload 0 DX9_textOf_8W rfl <| ?_
  refine v_if_ne (tg := 22) DX9_textOf_10W (by decide) (inR_z y5f) (fun c6 => ?_) (fun c6 => ?_)
  · have h := h.1 c6
    exact v_pick [1, 2, 3, 4, 5, 0] rfl h
  · have h := h.2 c6
    refine v_aload_n 1 DX9_textOf_13W rfl rfl <| v_iload_n 2 DX9_textOf_14W rfl rfl <| v_iconst DX9_textOf_15W <| ?_
    obtain ⟨k7, h⟩ := h
    obtain ⟨k8, k9, k10, h⟩ := h
    refine v_invV (ci := 9) (as := [aI (x1), aI (1)]) (st := []) DX9_textOf_16W rfl okX9_isOf (Or.inl q2891) q2893 (s_555 hL) rfl qs132 npX9_isOf (sp_X9_isOf (σ := σ) (x1 := x1) (x2 := (1 : Int)) k7 hL k8 k9 k10) (Nat.le_of_ble_eq_true rfl) (Nat.le_refl _) (Nat.le_of_ble_eq_true rfl) (RZ_ret (fun c11 => ?_) (fun c11 => ?_)) RZ_thr
    · have h := h.1 c11
      refine v_if_eq (tg := 40) DX9_textOf_19W (by decide) ⟨by decide, by decide⟩ (fun c12 => absurd c12 (by decide)) (fun c12 => ?_)
      exact v_pick [1, 2, 3, 4, 5, 0] rfl h
    · have h := h.2 c11
      refine v_if_eq (tg := 40) DX9_textOf_19W (by decide) ⟨by decide, by decide⟩ (fun c13 => ?_) (fun c13 => absurd c13 (by decide))
      refine v_iconst DX9_textOf_40W <| ?_
      exact v_iret DX9_textOf_41W rfl rfl h
theorem ucX9_textOf_22W {E : XE} {d : Nat} {σ : Sto} {Q : Res → Sto → Prop} {x1 : Int} {o2 : Nat} {n2 : Nat} {x3 : Int} {x4 : Int} {x5 : Int} (hL : Lay σ) (ho2 : σ.sh o2 = (1, n2)) (h : inR x4 ∧ (1000 < x4 → Q (.inl (some (aI (-1)))) σ) ∧ (x4 ≤ 1000 → inR x5 ∧ (x5 ≠ 0 → VV E mX9_textOf (d + 1) 42 [(0, aO 555), (1, aI (x1)), (2, aO o2), (3, aI (x3)), (4, aI (x4)), (5, aI (x5))] [] σ Q) ∧ (x5 = 0 → (x4 ≠ 0 → VV E mX9_textOf (d + 1) 42 [(0, aO 555), (1, aI (x1)), (2, aO o2), (3, aI (x3)), (4, aI (x4)), (5, aI (x5))] [] σ Q) ∧ (x4 = 0 → Q (.inl (some (aI (-1)))) σ)))) : VV E mX9_textOf (d + 1) 22 [(0, aO 555), (1, aI (x1)), (2, aO o2), (3, aI (x3)), (4, aI (x4)), (5, aI (x5))] [] σ Q := by
  refine v_iload 4 DX9_textOf_22W rfl <| v_sipush DX9_textOf_24W ⟨by decide, by decide⟩ <| ?_
  obtain ⟨k1, h⟩ := h
  refine v_icmp_gt (tg := 40) DX9_textOf_27W (by decide) k1 ⟨by decide, by decide⟩ (fun c2 => ?_) (fun c2 => ?_)
  · have h := h.1 c2
    refine v_iconst DX9_textOf_40W <| ?_
    exact v_iret DX9_textOf_41W rfl rfl h
  · have h := h.2 c2
    refine v_iload 5 DX9_textOf_30W rfl <| ?_
    obtain ⟨k3, h⟩ := h
    refine v_if_ne (tg := 42) DX9_textOf_32W (by decide) k3 (fun c4 => ?_) (fun c4 => ?_)
    · have h := h.1 c4
      exact v_pick [0, 1, 2, 3, 4, 5] rfl h
    · have h := h.2 c4
      refine v_iload 4 DX9_textOf_35W rfl <| ?_
      refine v_if_ne (tg := 42) DX9_textOf_37W (by decide) k1 (fun c5 => ?_) (fun c5 => ?_)
      · have h := h.1 c5
        exact v_pick [0, 1, 2, 3, 4, 5] rfl h
      · have h := h.2 c5
        refine v_iconst DX9_textOf_40W <| ?_
        exact v_iret DX9_textOf_41W rfl rfl h
theorem ucX9_textOf_42W {E : XE} {d : Nat} {σ : Sto} {Q : Res → Sto → Prop} {x1 : Int} {o2 : Nat} {n2 : Nat} {x3 : Int} {x4 : Int} {x5 : Int} (hL : Lay σ) (ho2 : σ.sh o2 = (1, n2)) (h : inR x5 ∧ (x5 = 0 → 1 ≤ d ∧ (0 ≤ σ.I 555 45 ∧ σ.I 555 45 ≤ σ.I 555 30) ∧ (σ.I 555 30 ≤ 6000 ∧ σ.I 555 30 ≤ σ.I 555 45 + 24) ∧ (0 ≤ σ.I 555 38 ∧ σ.I 555 38 ≤ 60000) ∧ (0 ≤ σ.I 555 44 ∧ σ.I 555 44 ≤ 24000) ∧ (0 ≤ x4 ∧ x4 ≤ 100000) ∧ (0 ≤ (1 : Int) ∧ (1 : Int) ≤ 100000) ∧ ((σ.I 555 30 - σ.I 555 45 = 24 ∨ 60000 < σ.I 555 38 + x4 ∨ 24000 < σ.I 555 44 + (1 : Int) ∨ σ.I 555 30 = 6000) → Q (.inl (some (aI (-3)))) σ) ∧ (¬ (σ.I 555 30 - σ.I 555 45 = 24 ∨ 60000 < σ.I 555 38 + x4 ∨ 24000 < σ.I 555 44 + (1 : Int) ∨ σ.I 555 30 = 6000) → 1 ≤ d ∧ (0 ≤ σ.I 555 30 ∧ σ.I 555 30 < 6000) ∧ (inR x1) ∧ (∀ σ17 : Sto, SF σ σ17 → (RD σ σ17 (fun c i => if at2 c i 579 (σ.I 555 30) then x1 else if at2 c i 580 (σ.I 555 30) then σ.I 555 38 else if at2 c i 581 (σ.I 555 30) then 0 else if at2 c i 582 (σ.I 555 30) then σ.I 555 44 else if at2 c i 583 (σ.I 555 30) then 0 else σ.I c i)) → VV E mX9_textOf (d + 1) 96 [(0, aO 555), (2, aO o2), (3, aI (x3)), (4, aI (x4)), (5, aI (x5)), (6, aI (0))] [] σ17 Q))) ∧ (x5 ≠ 0 → 0 ≤ x1 ∧ x1 < 12 ∧ (inR (σ.I 578 x1) → 16 ≤ d ∧ (0 ≤ (σ.I 578 x1) ∧ (σ.I 578 x1) < 6) ∧ (0 ≤ x3 ∧ x3 ≤ (x3 + x4) ∧ (x3 + x4) ≤ n2 ∧ (x3 + x4) ≤ x3 + 30000) ∧ (o2 = 557 ∨ (603 ≤ o2 ∧ o2 ≤ 607) ∨ o2 = 640) ∧ (AC σ) ∧ (bd_0_20 σ 573 300) ∧ ((n2 : Int) ≤ 1000000) ∧ (∀ σ28 : Sto, SF σ σ28 → ((TLM σ28 (tk σ (σ.I 578 x1) (σ.I o2) x3 (x3 + x4) x3 0 tl0)) ∧ (bd_0_20 σ28 573 300) ∧ (KB σ σ28)) → (inR (σ28.I 555 19) → 1 ≤ d ∧ (0 ≤ σ28.I 555 45 ∧ σ28.I 555 45 ≤ σ28.I 555 30) ∧ (σ28.I 555 30 ≤ 6000 ∧ σ28.I 555 30 ≤ σ28.I 555 45 + 24) ∧ (0 ≤ σ28.I 555 38 ∧ σ28.I 555 38 ≤ 60000) ∧ (0 ≤ σ28.I 555 44 ∧ σ28.I 555 44 ≤ 24000) ∧ (0 ≤ x4 ∧ x4 ≤ 100000) ∧ (0 ≤ (σ28.I 555 19) ∧ (σ28.I 555 19) ≤ 100000) ∧ ((σ28.I 555 30 - σ28.I 555 45 = 24 ∨ 60000 < σ28.I 555 38 + x4 ∨ 24000 < σ28.I 555 44 + (σ28.I 555 19) ∨ σ28.I 555 30 = 6000) → Q (.inl (some (aI (-3)))) σ28) ∧ (¬ (σ28.I 555 30 - σ28.I 555 45 = 24 ∨ 60000 < σ28.I 555 38 + x4 ∨ 24000 < σ28.I 555 44 + (σ28.I 555 19) ∨ σ28.I 555 30 = 6000) → 1 ≤ d ∧ (0 ≤ σ28.I 555 30 ∧ σ28.I 555 30 < 6000) ∧ (inR x1) ∧ (∀ σ44 : Sto, SF σ28 σ44 → (RD σ28 σ44 (fun c i => if at2 c i 579 (σ28.I 555 30) then x1 else if at2 c i 580 (σ28.I 555 30) then σ28.I 555 38 else if at2 c i 581 (σ28.I 555 30) then 0 else if at2 c i 582 (σ28.I 555 30) then σ28.I 555 44 else if at2 c i 583 (σ28.I 555 30) then 0 else σ28.I c i)) → VV E mX9_textOf (d + 1) 96 [(0, aO 555), (2, aO o2), (3, aI (x3)), (4, aI (x4)), (5, aI (x5)), (6, aI (0))] [] σ44 Q))))))) : VV E mX9_textOf (d + 1) 42 [(0, aO 555), (1, aI (x1)), (2, aO o2), (3, aI (x3)), (4, aI (x4)), (5, aI (x5))] [] σ Q := by
  refine v_iload 5 DX9_textOf_42W rfl <| ?_
  obtain ⟨k1, h⟩ := h
  refine v_if_eq (tg := 63) DX9_textOf_44W (by decide) k1 (fun c2 => ?_) (fun c2 => ?_)
  · have h := h.1 c2
    refine v_aload_n 0 DX9_textOf_63W rfl rfl <| v_iload 4 DX9_textOf_64W rfl <| v_iload 5 DX9_textOf_66W rfl <| ?_
    refine v_if_eq (tg := 78) DX9_textOf_68W (by decide) k1 (fun c3 => ?_) (fun c3 => absurd c3 (by omega))
    refine v_iconst DX9_textOf_78W <| ?_
    obtain ⟨k4, h⟩ := h
    obtain ⟨k5, k6, k7, k8, k9, k10, h⟩ := h
    refine v_invV (ci := 9) (as := [aI (x4), aI (1)]) (st := []) DX9_textOf_79W rfl okX9_isFull (Or.inl q2899) q2901 (s_555 hL) rfl qs134 npX9_isFull (sp_X9_isFull (σ := σ) (x1 := x4) (x2 := (1 : Int)) k4 hL k5 k6 k7 k8 k9 k10) (Nat.le_of_ble_eq_true rfl) (Nat.le_refl _) (Nat.le_of_ble_eq_true rfl) (RZ_ret (fun c11 => ?_) (fun c11 => ?_)) RZ_thr
    · have h := h.1 c11
      refine v_if_eq (tg := 88) DX9_textOf_82W (by decide) ⟨by decide, by decide⟩ (fun c12 => absurd c12 (by decide)) (fun c12 => ?_)
      refine v_bipush DX9_textOf_85W ⟨by decide, by decide⟩ <| ?_
      exact v_iret DX9_textOf_87W rfl rfl h
    · have h := h.2 c11
      refine v_if_eq (tg := 88) DX9_textOf_82W (by decide) ⟨by decide, by decide⟩ (fun c13 => ?_) (fun c13 => absurd c13 (by decide))
      refine v_aload_n 0 DX9_textOf_88W rfl rfl <| v_iload_n 1 DX9_textOf_89W rfl rfl <| ?_
      obtain ⟨k14, h⟩ := h
      obtain ⟨k15, k16, h⟩ := h
      refine v_invV (ci := 9) (as := [aI (x1)]) (st := []) DX9_textOf_90W rfl okX9_begin (Or.inl q2903) q2905 (s_555 hL) rfl qs135 npX9_begin (sp_X9_begin (σ := σ) (x1 := x1) k14 hL k15 k16) (Nat.le_of_ble_eq_true rfl) (Nat.le_refl _) (Nat.le_of_ble_eq_true rfl) (RV_ret (fun σ17 gσ17 eσ17 => ?_)) RV_thr
      have h := h σ17 gσ17 eσ17
      refine v_iconst DX9_textOf_93W <| v_istore DX9_textOf_94W (by decide) rfl <| ?_
      exact v_pick [1, 3, 4, 5, 6, 0] rfl h
  · have h := h.2 c2
    refine v_aload_n 0 DX9_textOf_47W rfl rfl <| v_aload_n 0 DX9_textOf_48W rfl rfl <| w_getR (ci := 9) (kf := 29) (kz := 29) DX9_textOf_49W (s_555 hL) rfl (by decide) rfl (Or.inl q2253) (fun _ _ => rfl) (r_555_29 hL) <| v_iload_n 1 DX9_textOf_52W rfl rfl <| ?_
    obtain ⟨k18, k19, h⟩ := h
    refine v_iald DX9_textOf_53W (s_578 hL) k18 k19 (fun f20 => ?_)
    have h := h f20
    refine v_aload_n 2 DX9_textOf_54W rfl rfl <| v_iload_n 3 DX9_textOf_55W rfl rfl <| v_iload_n 3 DX9_textOf_56W rfl rfl <| v_iload 4 DX9_textOf_57W rfl <| v_iadd DX9_textOf_59W <| ?_
    obtain ⟨k21, h⟩ := h
    obtain ⟨k22, k23, k24, k25, k26, k27, h⟩ := h
    refine v_invV (ci := 9) (as := [aI (σ.I 578 x1), aO o2, aI (x3), aI (x3 + x4)]) (st := []) DX9_textOf_60W rfl okX9_analyseRow (Or.inl q2779) q2781 (s_555 hL) rfl qs116 npX9_analyseRow (sp_X9_analyseRow (σ := σ) (x1 := σ.I 578 x1) (o2 := o2) (n2 := n2) (x3 := x3) (x4 := x3 + x4) k21 hL ho2 k22 k23 k24 k25 k26 k27) (Nat.le_of_ble_eq_true rfl) (Nat.le_refl _) (Nat.le_of_ble_eq_true rfl) (RV_ret (fun σ28 gσ28 eσ28 => ?_)) RV_thr
    have h := h σ28 gσ28 eσ28
    refine v_aload_n 0 DX9_textOf_63W rfl rfl <| v_iload 4 DX9_textOf_64W rfl <| v_iload 5 DX9_textOf_66W rfl <| ?_
    refine v_if_eq (tg := 78) DX9_textOf_68W (by decide) k1 (fun c29 => absurd c29 (by omega)) (fun c29 => ?_)
    refine v_aload_n 0 DX9_textOf_71W rfl rfl <| ?_
    refine w_getI (ci := 9) (kf := 19) (kz := 19) DX9_textOf_72W (s_555 (hL.sf gσ28)) rfl (by decide) rfl (Or.inl q2243) (fun _ _ => rfl) (fun f30 => ?_)
    have h := h f30
    refine v_goto (pc' := 79) DX9_textOf_75W.1 (by decide) <| ?_
    obtain ⟨k31, h⟩ := h
    obtain ⟨k32, k33, k34, k35, k36, k37, h⟩ := h
    refine v_invV (ci := 9) (as := [aI (x4), aI (σ28.I 555 19)]) (st := []) DX9_textOf_79W rfl okX9_isFull (Or.inl q2899) q2901 (s_555 (hL.sf gσ28)) rfl qs134 npX9_isFull (sp_X9_isFull (σ := σ28) (x1 := x4) (x2 := σ28.I 555 19) k31 (hL.sf gσ28) k32 k33 k34 k35 k36 k37) (Nat.le_of_ble_eq_true rfl) (Nat.le_refl _) (Nat.le_of_ble_eq_true rfl) (RZ_ret (fun c38 => ?_) (fun c38 => ?_)) RZ_thr
    · have h := h.1 c38
      refine v_if_eq (tg := 88) DX9_textOf_82W (by decide) ⟨by decide, by decide⟩ (fun c39 => absurd c39 (by decide)) (fun c39 => ?_)
      refine v_bipush DX9_textOf_85W ⟨by decide, by decide⟩ <| ?_
      exact v_iret DX9_textOf_87W rfl rfl h
    · have h := h.2 c38
      refine v_if_eq (tg := 88) DX9_textOf_82W (by decide) ⟨by decide, by decide⟩ (fun c40 => ?_) (fun c40 => absurd c40 (by decide))
      refine v_aload_n 0 DX9_textOf_88W rfl rfl <| v_iload_n 1 DX9_textOf_89W rfl rfl <| ?_
      obtain ⟨k41, h⟩ := h
      obtain ⟨k42, k43, h⟩ := h
      refine v_invV (ci := 9) (as := [aI (x1)]) (st := []) DX9_textOf_90W rfl okX9_begin (Or.inl q2903) q2905 (s_555 (hL.sf gσ28)) rfl qs135 npX9_begin (sp_X9_begin (σ := σ28) (x1 := x1) k41 (hL.sf gσ28) k42 k43) (Nat.le_of_ble_eq_true rfl) (Nat.le_refl _) (Nat.le_of_ble_eq_true rfl) (RV_ret (fun σ44 gσ44 eσ44 => ?_)) RV_thr
      have h := h σ44 gσ44 eσ44
      refine v_iconst DX9_textOf_93W <| v_istore DX9_textOf_94W (by decide) rfl <| ?_
      exact v_pick [1, 3, 4, 5, 6, 0] rfl h
theorem ucX9_textOf_96W {E : XE} {d : Nat} {σ : Sto} {Q : Res → Sto → Prop} {o2 : Nat} {n2 : Nat} {x3 : Int} {x4 : Int} {x5 : Int} {x6 : Int} (hL : Lay σ) (ho2 : σ.sh o2 = (1, n2)) (h : inR x6 ∧ inR x4 ∧ (x4 ≤ x6 → (inR (σ.I 555 38) → inR ((σ.I 555 38) + x4) ∧ (∀ σ6 : Sto, σ6 = σ.wI 555 38 ((σ.I 555 38) + x4) → SF σ σ6 → (inR (σ6.I 555 30) → 0 ≤ (σ6.I 555 30) ∧ (σ6.I 555 30) < 6000 ∧ (∀ σ10 : Sto, σ10 = σ6.wI 581 (σ6.I 555 30) x4 → SF σ6 σ10 → inR x5 ∧ (x5 = 0 → 1 ≤ d ∧ (0 ≤ σ10.I 555 44 ∧ σ10.I 555 44 < 24000) ∧ (0 ≤ (min x4 20) ∧ (min x4 20) ≤ 20) ∧ (0 ≤ x3 ∧ x3 + (min x4 20) ≤ n2) ∧ (inR (0 : Int)) ∧ (inR x4) ∧ (inR (0 : Int)) ∧ (o2 ≠ 586 ∧ o2 ≠ 587) ∧ (∀ σ21 : Sto, SF σ10 σ21 → (RD σ10 σ21 (fun c i => if at2 c i 587 (σ10.I 555 44) then (min x4 20) else if rg c i 586 (20 * σ10.I 555 44) (20 * σ10.I 555 44 + (min x4 20)) then σ10.I o2 (x3 + (i - 20 * σ10.I 555 44)) else if at2 c i 588 (σ10.I 555 44) then (0 : Int) else if at2 c i 589 (σ10.I 555 44) then x4 else if at2 c i 590 (σ10.I 555 44) then (0 : Int) else if at2 c i 555 44 then σ10.I 555 44 + 1 else σ10.I c i)) → 1 ≤ d ∧ (0 ≤ σ21.I 555 30 ∧ σ21.I 555 30 < 6000) ∧ (0 ≤ σ21.I 555 45 ∧ σ21.I 555 45 ≤ σ21.I 555 30) ∧ (∀ (y26 : Int) (σ25 : Sto), inR y26 → SF σ21 σ25 → ((y26 = σ21.I 555 30 + 1 - σ21.I 555 45) ∧ (RD σ21 σ25 (fun c i => if at2 c i 582 (σ21.I 555 30 + 1) then σ21.I 555 44 else if at2 c i 555 30 then σ21.I 555 30 + 1 else σ21.I c i))) → Q (.inl (some (aI y26))) σ25))) ∧ (x5 ≠ 0 → VV E mX9_textOf (d + 1) 157 [(0, aO 555), (6, aI (0))] [] σ10 Q)))))) ∧ (x6 < x4 → (inR (σ.I 555 38) → 0 ≤ (x3 + x6) ∧ (x3 + x6) < n2 ∧ (-128 ≤ σ.I o2 (x3 + x6) ∧ σ.I o2 (x3 + x6) ≤ 127 → 0 ≤ ((σ.I 555 38) + x6) ∧ ((σ.I 555 38) + x6) < 60000 ∧ (∀ σ33 : Sto, σ33 = σ.wI 585 ((σ.I 555 38) + x6) (sx8 (σ.I o2 (x3 + x6))) → SF σ σ33 → VV E mX9_textOf (d + 1) 96 [(0, aO 555), (2, aO o2), (3, aI (x3)), (4, aI (x4)), (5, aI (x5)), (6, aI (x6 + 1))] [] σ33 Q))))) : VV E mX9_textOf (d + 1) 96 [(0, aO 555), (2, aO o2), (3, aI (x3)), (4, aI (x4)), (5, aI (x5)), (6, aI (x6))] [] σ Q := by
  refine v_iload 5 DX9_textOf_96W rfl <| v_iload 3 DX9_textOf_98W rfl <| ?_
  obtain ⟨k1, k2, h⟩ := h
  refine v_icmp_ge (tg := 127) DX9_textOf_100W (by decide) k1 k2 (fun c3 => ?_) (fun c3 => ?_)
  · have h := h.1 c3
    refine v_aload_n 0 DX9_textOf_127W rfl rfl <| v_dup DX9_textOf_128W rfl <| ?_
    refine w_getI (ci := 9) (kf := 38) (kz := 38) DX9_textOf_129W (s_555 hL) rfl (by decide) rfl (Or.inl q2262) (fun _ _ => rfl) (fun f4 => ?_)
    have h := h f4
    refine v_iload 3 DX9_textOf_132W rfl <| v_iadd DX9_textOf_134W <| ?_
    obtain ⟨k5, h⟩ := h
    refine w_putI (ci := 9) (kf := 38) (kz := 38) DX9_textOf_135W (s_555 hL) rfl (by decide) rfl (Or.inl ⟨rfl, q2262⟩) (fun _ _ => rfl) k5 rfl rfl (fun σ6 eσ6 gσ6 => ?_)
    have h := h σ6 eσ6 gσ6
    refine v_aload_n 0 DX9_textOf_138W rfl rfl <| w_getR (ci := 9) (kf := 33) (kz := 33) DX9_textOf_139W (s_555 (hL.sf gσ6)) rfl (by decide) rfl (Or.inl q2257) (fun _ _ => rfl) (r_555_33 (hL.sf gσ6)) <| v_aload_n 0 DX9_textOf_142W rfl rfl <| ?_
    refine w_getI (ci := 9) (kf := 30) (kz := 30) DX9_textOf_143W (s_555 (hL.sf gσ6)) rfl (by decide) rfl (Or.inl q2254) (fun _ _ => rfl) (fun f7 => ?_)
    have h := h f7
    refine v_iload 3 DX9_textOf_146W rfl <| ?_
    obtain ⟨k8, k9, h⟩ := h
    refine w_iast DX9_textOf_148W (s_581 (hL.sf gσ6)) k8 k9 k2 (fun σ10 eσ10 gσ10 => ?_)
    have h := h σ10 eσ10 gσ10
    refine v_iload 4 DX9_textOf_149W rfl <| ?_
    obtain ⟨k11, h⟩ := h
    refine v_if_eq (tg := 216) DX9_textOf_151W (by decide) k11 (fun c12 => ?_) (fun c12 => ?_)
    · have h := h.1 c12
      refine v_aload_n 0 DX9_textOf_216W rfl rfl <| v_aload_n 1 DX9_textOf_217W rfl rfl <| v_iload_n 2 DX9_textOf_218W rfl rfl <| v_iload 3 DX9_textOf_219W rfl <| v_bipush DX9_textOf_221W ⟨by decide, by decide⟩ <| v_imin DX9_textOf_223W q2863 q554 q274 q555 k2 ⟨by decide, by decide⟩ (Nat.le_add_left 1 d) (Nat.le_of_ble_eq_true rfl) <| v_iconst DX9_textOf_226W <| v_iload 3 DX9_textOf_227W rfl <| v_iconst DX9_textOf_229W <| ?_
      obtain ⟨k13, h⟩ := h
      obtain ⟨k14, k15, k16, k17, k18, k19, k20, h⟩ := h
      refine v_invV (ci := 9) (as := [aO o2, aI (x3), aI (min x4 20), aI (0), aI (x4), aI (0)]) (st := []) DX9_textOf_230W rfl okX9_layTerm (Or.inl q2907) q2909 (s_555 ((hL.sf gσ6).sf gσ10)) rfl qs136 npX9_layTerm (sp_X9_layTerm (σ := σ10) (o1 := o2) (n1 := n2) (x2 := x3) (x3 := min x4 20) (x4 := (0 : Int)) (x5 := x4) (x6 := (0 : Int)) k13 ((hL.sf gσ6).sf gσ10) (SF.s gσ10 (SF.s gσ6 ho2 (by decide)) (by decide)) k14 k15 k16 k17 k18 k19 k20) (Nat.le_of_ble_eq_true rfl) (Nat.le_refl _) (Nat.le_of_ble_eq_true rfl) (RV_ret (fun σ21 gσ21 eσ21 => ?_)) RV_thr
      have h := h σ21 gσ21 eσ21
      refine v_aload_n 0 DX9_textOf_233W rfl rfl <| ?_
      obtain ⟨k22, h⟩ := h
      obtain ⟨k23, k24, h⟩ := h
      refine v_invV (ci := 9) (as := []) (st := []) DX9_textOf_234W rfl okX9_end (Or.inl q2911) q2913 (s_555 (((hL.sf gσ6).sf gσ10).sf gσ21)) rfl qs137 npX9_end (sp_X9_end (σ := σ21)  k22 (((hL.sf gσ6).sf gσ10).sf gσ21) k23 k24) (Nat.le_of_ble_eq_true rfl) (Nat.le_refl _) (Nat.le_of_ble_eq_true rfl) (RVI_ret (fun y26 σ25 y26f gσ25 eσ25 => ?_)) RVI_thr
      have h := h y26 σ25 y26f gσ25 eσ25
      exact v_iret DX9_textOf_237W rfl rfl h
    · have h := h.2 c12
      refine v_iconst DX9_textOf_154W <| v_istore DX9_textOf_155W (by decide) rfl <| ?_
      exact v_pick [1, 0] rfl h
  · have h := h.2 c3
    refine v_aload_n 0 DX9_textOf_103W rfl rfl <| w_getR (ci := 9) (kf := 37) (kz := 37) DX9_textOf_104W (s_555 hL) rfl (by decide) rfl (Or.inl q2261) (fun _ _ => rfl) (r_555_37 hL) <| v_aload_n 0 DX9_textOf_107W rfl rfl <| ?_
    refine w_getI (ci := 9) (kf := 38) (kz := 38) DX9_textOf_108W (s_555 hL) rfl (by decide) rfl (Or.inl q2262) (fun _ _ => rfl) (fun f27 => ?_)
    have h := h f27
    refine v_iload 5 DX9_textOf_111W rfl <| v_iadd DX9_textOf_113W <| v_aload_n 1 DX9_textOf_114W rfl rfl <| v_iload_n 2 DX9_textOf_115W rfl rfl <| v_iload 5 DX9_textOf_116W rfl <| v_iadd DX9_textOf_118W <| ?_
    obtain ⟨k28, k29, h⟩ := h
    refine v_bald DX9_textOf_119W ho2 k28 k29 (fun f30 => ?_)
    have h := h f30
    obtain ⟨k31, k32, h⟩ := h
    refine w_bast DX9_textOf_120W (s_585 hL) k31 k32 (fun σ33 eσ33 gσ33 => ?_)
    have h := h σ33 eσ33 gσ33
    refine v_iinc 5 DX9_textOf_121W rfl (by decide) rfl <| v_goto (pc' := 96) DX9_textOf_124W.1 (by decide) <| ?_
    exact v_pick [1, 2, 3, 4, 5, 0] rfl h
theorem ucX9_textOf_157W {E : XE} {d : Nat} {σ : Sto} {Q : Res → Sto → Prop} {x6 : Int} (hL : Lay σ)  (h : (inR (σ.I 555 19) → inR x6 ∧ ((σ.I 555 19) ≤ x6 → 1 ≤ d ∧ (0 ≤ σ.I 555 30 ∧ σ.I 555 30 < 6000) ∧ (0 ≤ σ.I 555 45 ∧ σ.I 555 45 ≤ σ.I 555 30) ∧ (∀ (y8 : Int) (σ7 : Sto), inR y8 → SF σ σ7 → ((y8 = σ.I 555 30 + 1 - σ.I 555 45) ∧ (RD σ σ7 (fun c i => if at2 c i 582 (σ.I 555 30 + 1) then σ.I 555 44 else if at2 c i 555 30 then σ.I 555 30 + 1 else σ.I c i))) → Q (.inl (some (aI y8))) σ7)) ∧ (x6 < (σ.I 555 19) → 0 ≤ x6 ∧ x6 < 300 ∧ (inR (σ.I 568 x6) → 0 ≤ x6 ∧ x6 < 300 ∧ (inR (σ.I 569 x6) → 0 ≤ x6 ∧ x6 < 300 ∧ (inR (σ.I 570 x6) → 0 ≤ x6 ∧ x6 < 300 ∧ (inR (σ.I 571 x6) → 1 ≤ d ∧ (0 ≤ σ.I 555 44 ∧ σ.I 555 44 < 24000) ∧ (0 ≤ (σ.I 568 x6) ∧ (σ.I 568 x6) ≤ 20) ∧ (0 ≤ (20 * x6) ∧ (20 * x6) + (σ.I 568 x6) ≤ 6000) ∧ (inR (σ.I 569 x6)) ∧ (inR (σ.I 570 x6)) ∧ (inR (σ.I 571 x6)) ∧ (567 ≠ 586 ∧ 567 ≠ 587) ∧ (∀ σ29 : Sto, SF σ σ29 → (RD σ σ29 (fun c i => if at2 c i 587 (σ.I 555 44) then (σ.I 568 x6) else if rg c i 586 (20 * σ.I 555 44) (20 * σ.I 555 44 + (σ.I 568 x6)) then σ.I 567 ((20 * x6) + (i - 20 * σ.I 555 44)) else if at2 c i 588 (σ.I 555 44) then (σ.I 569 x6) else if at2 c i 589 (σ.I 555 44) then (σ.I 570 x6) else if at2 c i 590 (σ.I 555 44) then (σ.I 571 x6) else if at2 c i 555 44 then σ.I 555 44 + 1 else σ.I c i)) → VV E mX9_textOf (d + 1) 157 [(0, aO 555), (6, aI (x6 + 1))] [] σ29 Q)))))))) : VV E mX9_textOf (d + 1) 157 [(0, aO 555), (6, aI (x6))] [] σ Q := by
  refine v_iload 1 DX9_textOf_157W rfl <| v_aload_n 0 DX9_textOf_159W rfl rfl <| ?_
  refine w_getI (ci := 9) (kf := 19) (kz := 19) DX9_textOf_160W (s_555 hL) rfl (by decide) rfl (Or.inl q2243) (fun _ _ => rfl) (fun f1 => ?_)
  have h := h f1
  obtain ⟨k2, h⟩ := h
  refine v_icmp_ge (tg := 213) DX9_textOf_163W (by decide) k2 f1 (fun c3 => ?_) (fun c3 => ?_)
  · have h := h.1 c3
    refine v_goto (pc' := 233) DX9_textOf_213W.1 (by decide) <| v_aload_n 0 DX9_textOf_233W rfl rfl <| ?_
    obtain ⟨k4, h⟩ := h
    obtain ⟨k5, k6, h⟩ := h
    refine v_invV (ci := 9) (as := []) (st := []) DX9_textOf_234W rfl okX9_end (Or.inl q2911) q2913 (s_555 hL) rfl qs137 npX9_end (sp_X9_end (σ := σ)  k4 hL k5 k6) (Nat.le_of_ble_eq_true rfl) (Nat.le_refl _) (Nat.le_of_ble_eq_true rfl) (RVI_ret (fun y8 σ7 y8f gσ7 eσ7 => ?_)) RVI_thr
    have h := h y8 σ7 y8f gσ7 eσ7
    exact v_iret DX9_textOf_237W rfl rfl h
  · have h := h.2 c3
    refine v_aload_n 0 DX9_textOf_166W rfl rfl <| v_aload_n 0 DX9_textOf_167W rfl rfl <| w_getR (ci := 9) (kf := 14) (kz := 14) DX9_textOf_168W (s_555 hL) rfl (by decide) rfl (Or.inl q2238) (fun _ _ => rfl) (r_555_14 hL) <| v_bipush DX9_textOf_171W ⟨by decide, by decide⟩ <| v_iload 1 DX9_textOf_173W rfl <| v_imul DX9_textOf_175W <| v_aload_n 0 DX9_textOf_176W rfl rfl <| w_getR (ci := 9) (kf := 15) (kz := 15) DX9_textOf_177W (s_555 hL) rfl (by decide) rfl (Or.inl q2239) (fun _ _ => rfl) (r_555_15 hL) <| v_iload 1 DX9_textOf_180W rfl <| ?_
    obtain ⟨k9, k10, h⟩ := h
    refine v_iald DX9_textOf_182W (s_568 hL) k9 k10 (fun f11 => ?_)
    have h := h f11
    refine v_aload_n 0 DX9_textOf_183W rfl rfl <| w_getR (ci := 9) (kf := 16) (kz := 16) DX9_textOf_184W (s_555 hL) rfl (by decide) rfl (Or.inl q2240) (fun _ _ => rfl) (r_555_16 hL) <| v_iload 1 DX9_textOf_187W rfl <| ?_
    obtain ⟨k12, k13, h⟩ := h
    refine v_iald DX9_textOf_189W (s_569 hL) k12 k13 (fun f14 => ?_)
    have h := h f14
    refine v_aload_n 0 DX9_textOf_190W rfl rfl <| w_getR (ci := 9) (kf := 17) (kz := 17) DX9_textOf_191W (s_555 hL) rfl (by decide) rfl (Or.inl q2241) (fun _ _ => rfl) (r_555_17 hL) <| v_iload 1 DX9_textOf_194W rfl <| ?_
    obtain ⟨k15, k16, h⟩ := h
    refine v_iald DX9_textOf_196W (s_570 hL) k15 k16 (fun f17 => ?_)
    have h := h f17
    refine v_aload_n 0 DX9_textOf_197W rfl rfl <| w_getR (ci := 9) (kf := 18) (kz := 18) DX9_textOf_198W (s_555 hL) rfl (by decide) rfl (Or.inl q2242) (fun _ _ => rfl) (r_555_18 hL) <| v_iload 1 DX9_textOf_201W rfl <| ?_
    obtain ⟨k18, k19, h⟩ := h
    refine v_iald DX9_textOf_203W (s_571 hL) k18 k19 (fun f20 => ?_)
    have h := h f20
    obtain ⟨k21, h⟩ := h
    obtain ⟨k22, k23, k24, k25, k26, k27, k28, h⟩ := h
    refine v_invV (ci := 9) (as := [aO 567, aI (20 * x6), aI (σ.I 568 x6), aI (σ.I 569 x6), aI (σ.I 570 x6), aI (σ.I 571 x6)]) (st := []) DX9_textOf_204W rfl okX9_layTerm (Or.inl q2907) q2909 (s_555 hL) rfl qs136 npX9_layTerm (sp_X9_layTerm (σ := σ) (o1 := 567) (n1 := 6000) (x2 := 20 * x6) (x3 := σ.I 568 x6) (x4 := σ.I 569 x6) (x5 := σ.I 570 x6) (x6 := σ.I 571 x6) k21 hL (s_567 hL) k22 k23 k24 k25 k26 k27 k28) (Nat.le_of_ble_eq_true rfl) (Nat.le_refl _) (Nat.le_of_ble_eq_true rfl) (RV_ret (fun σ29 gσ29 eσ29 => ?_)) RV_thr
    have h := h σ29 gσ29 eσ29
    refine v_iinc 1 DX9_textOf_207W rfl (by decide) rfl <| v_goto (pc' := 157) DX9_textOf_210W.1 (by decide) <| ?_
    exact v_pick [1, 0] rfl h
theorem sp_X9_textOfW {E : XE} {d : Nat} {σ : Sto} {x1 : Int} {o2 : Nat} {n2 : Nat} {x3 : Int} {x4 : Int} (hd : 20 ≤ d) (hL : Lay σ) (ho2 : σ.sh o2 = (1, n2)) (p0 : 0 ≤ σ.I 555 45 ∧ σ.I 555 45 ≤ σ.I 555 30) (p1 : σ.I 555 30 ≤ 6000 ∧ σ.I 555 30 ≤ σ.I 555 45 + 24) (p2 : 0 ≤ σ.I 555 38 ∧ σ.I 555 38 ≤ 60000) (p3 : 0 ≤ σ.I 555 44 ∧ σ.I 555 44 ≤ 24000) (p4 : inR x1) (p5 : o2 = 557) (p6 : 0 ≤ x3 ∧ 0 ≤ x4 ∧ x3 + x4 ≤ 30000) (p7 : 0 ≤ σ.I 555 27 ∧ σ.I 555 27 ≤ 12) (p8 : AC σ) (p9 : bd_0_20 σ 573 300) (p10 : bd_0_20 σ 587 24000) (p11 : (0 ≤ x1 ∧ x1 < σ.I 555 27 ∧ σ.I 577 x1 = 0) → 0 ≤ σ.I 578 x1 ∧ σ.I 578 x1 < 6) (p12 : x3 + x4 ≤ n2 ∧ (n2 : Int) ≤ 1000000) : CC E mX9_textOf d [aO 555, aI (x1), aO o2, aI (x3), aI (x4)] σ (RVI (fun y τ => ((¬ (((0 ≤ x1 ∧ x1 < σ.I 555 27 ∧ σ.I 577 x1 = 0) ∨ ((0 ≤ x1 ∧ x1 < σ.I 555 27 ∧ σ.I 577 x1 = 1) ∧ x4 ≠ 0)) ∧ x4 ≤ 1000) ∧ y = -1 ∧ τ = σ) ∨ ((((0 ≤ x1 ∧ x1 < σ.I 555 27 ∧ σ.I 577 x1 = 0) ∨ ((0 ≤ x1 ∧ x1 < σ.I 555 27 ∧ σ.I 577 x1 = 1) ∧ x4 ≠ 0)) ∧ x4 ≤ 1000) ∧ (σ.I 555 30 - σ.I 555 45 = 24 ∨ 60000 < σ.I 555 38 + x4 ∨ 24000 < σ.I 555 44 + (lT σ x1 (σ.I o2) x3 x4).1 ∨ σ.I 555 30 = 6000) ∧ y = -3 ∧ KB σ τ) ∨ ((((0 ≤ x1 ∧ x1 < σ.I 555 27 ∧ σ.I 577 x1 = 0) ∨ ((0 ≤ x1 ∧ x1 < σ.I 555 27 ∧ σ.I 577 x1 = 1) ∧ x4 ≠ 0)) ∧ x4 ≤ 1000) ∧ ¬ (σ.I 555 30 - σ.I 555 45 = 24 ∨ 60000 < σ.I 555 38 + x4 ∨ 24000 < σ.I 555 44 + (lT σ x1 (σ.I o2) x3 x4).1 ∨ σ.I 555 30 = 6000) ∧ y = σ.I 555 30 + 1 - σ.I 555 45 ∧ TXM σ τ x1 (σ.I o2) x3 x4 (lT σ x1 (σ.I o2) x3 x4))) ∧ (bd_0_20 τ 573 300) ∧ (bd_0_20 τ 587 24000))) := by
  obtain ⟨d, rfl⟩ : ∃ e, d = e + 1 := ⟨d - 1, by omega⟩
  have p4a := p4.1; have p4b := p4.2
  have hLw : ¬ σ.I 577 x1 = 0 → (lT σ x1 (σ.I o2) x3 x4) = wdT (σ.I o2) x3 x4 := fun h => if_neg h
  have hLt : σ.I 577 x1 = 0 → (lT σ x1 (σ.I o2) x3 x4) = (tk σ (σ.I 578 x1) (σ.I o2) x3 (x3 + x4) x3 0 tl0) := fun h => if_pos h
  have key : ∀ wa wb wc : Nat, (∀ (x5 : Int) (τ : Sto), SF σ τ → ((τ = σ) ∧ (0 ≤ x5 ∧ x5 ≤ 1) ∧ (x5 = 1 ↔ (0 ≤ x1 ∧ x1 < σ.I 555 27 ∧ σ.I 577 x1 = 0)) ∧ ((0 ≤ x1 ∧ x1 < σ.I 555 27 ∧ σ.I 577 x1 = 0) ∨ (0 ≤ x1 ∧ x1 < σ.I 555 27 ∧ σ.I 577 x1 = 1))) → wa = 9 → wb = 0 → wc = 0 → VV E mX9_textOf (d + 1) 22 [(0, aO 555), (1, aI (x1)), (2, aO o2), (3, aI (x3)), (4, aI (x4)), (5, aI (x5))] [] τ (RVI (fun y τ => ((¬ (((0 ≤ x1 ∧ x1 < σ.I 555 27 ∧ σ.I 577 x1 = 0) ∨ ((0 ≤ x1 ∧ x1 < σ.I 555 27 ∧ σ.I 577 x1 = 1) ∧ x4 ≠ 0)) ∧ x4 ≤ 1000) ∧ y = -1 ∧ τ = σ) ∨ ((((0 ≤ x1 ∧ x1 < σ.I 555 27 ∧ σ.I 577 x1 = 0) ∨ ((0 ≤ x1 ∧ x1 < σ.I 555 27 ∧ σ.I 577 x1 = 1) ∧ x4 ≠ 0)) ∧ x4 ≤ 1000) ∧ (σ.I 555 30 - σ.I 555 45 = 24 ∨ 60000 < σ.I 555 38 + x4 ∨ 24000 < σ.I 555 44 + (lT σ x1 (σ.I o2) x3 x4).1 ∨ σ.I 555 30 = 6000) ∧ y = -3 ∧ KB σ τ) ∨ ((((0 ≤ x1 ∧ x1 < σ.I 555 27 ∧ σ.I 577 x1 = 0) ∨ ((0 ≤ x1 ∧ x1 < σ.I 555 27 ∧ σ.I 577 x1 = 1) ∧ x4 ≠ 0)) ∧ x4 ≤ 1000) ∧ ¬ (σ.I 555 30 - σ.I 555 45 = 24 ∨ 60000 < σ.I 555 38 + x4 ∨ 24000 < σ.I 555 44 + (lT σ x1 (σ.I o2) x3 x4).1 ∨ σ.I 555 30 = 6000) ∧ y = σ.I 555 30 + 1 - σ.I 555 45 ∧ TXM σ τ x1 (σ.I o2) x3 x4 (lT σ x1 (σ.I o2) x3 x4))) ∧ (bd_0_20 τ 573 300) ∧ (bd_0_20 τ 587 24000)))) ∧ (∀ (x5 : Int) (τ : Sto), SF σ τ → ((τ = σ) ∧ (0 ≤ x5 ∧ x5 ≤ 1) ∧ (x5 = 1 ↔ (0 ≤ x1 ∧ x1 < σ.I 555 27 ∧ σ.I 577 x1 = 0)) ∧ ((((0 ≤ x1 ∧ x1 < σ.I 555 27 ∧ σ.I 577 x1 = 0) ∨ ((0 ≤ x1 ∧ x1 < σ.I 555 27 ∧ σ.I 577 x1 = 1) ∧ x4 ≠ 0)) ∧ x4 ≤ 1000))) → wa = 8 → wb = 0 → wc = 0 → VV E mX9_textOf (d + 1) 42 [(0, aO 555), (1, aI (x1)), (2, aO o2), (3, aI (x3)), (4, aI (x4)), (5, aI (x5))] [] τ (RVI (fun y τ => ((¬ (((0 ≤ x1 ∧ x1 < σ.I 555 27 ∧ σ.I 577 x1 = 0) ∨ ((0 ≤ x1 ∧ x1 < σ.I 555 27 ∧ σ.I 577 x1 = 1) ∧ x4 ≠ 0)) ∧ x4 ≤ 1000) ∧ y = -1 ∧ τ = σ) ∨ ((((0 ≤ x1 ∧ x1 < σ.I 555 27 ∧ σ.I 577 x1 = 0) ∨ ((0 ≤ x1 ∧ x1 < σ.I 555 27 ∧ σ.I 577 x1 = 1) ∧ x4 ≠ 0)) ∧ x4 ≤ 1000) ∧ (σ.I 555 30 - σ.I 555 45 = 24 ∨ 60000 < σ.I 555 38 + x4 ∨ 24000 < σ.I 555 44 + (lT σ x1 (σ.I o2) x3 x4).1 ∨ σ.I 555 30 = 6000) ∧ y = -3 ∧ KB σ τ) ∨ ((((0 ≤ x1 ∧ x1 < σ.I 555 27 ∧ σ.I 577 x1 = 0) ∨ ((0 ≤ x1 ∧ x1 < σ.I 555 27 ∧ σ.I 577 x1 = 1) ∧ x4 ≠ 0)) ∧ x4 ≤ 1000) ∧ ¬ (σ.I 555 30 - σ.I 555 45 = 24 ∨ 60000 < σ.I 555 38 + x4 ∨ 24000 < σ.I 555 44 + (lT σ x1 (σ.I o2) x3 x4).1 ∨ σ.I 555 30 = 6000) ∧ y = σ.I 555 30 + 1 - σ.I 555 45 ∧ TXM σ τ x1 (σ.I o2) x3 x4 (lT σ x1 (σ.I o2) x3 x4))) ∧ (bd_0_20 τ 573 300) ∧ (bd_0_20 τ 587 24000)))) ∧ (∀ (x5 : Int) (x6 : Int) (τ : Sto), SF σ τ → ((KAM (σ.I 555 30) (σ.I 555 38) (σ.I 555 44) σ τ) ∧ ((0 ≤ x5 ∧ x5 ≤ 1) ∧ (x5 = 1 ↔ (0 ≤ x1 ∧ x1 < σ.I 555 27 ∧ σ.I 577 x1 = 0))) ∧ ((((0 ≤ x1 ∧ x1 < σ.I 555 27 ∧ σ.I 577 x1 = 0) ∨ ((0 ≤ x1 ∧ x1 < σ.I 555 27 ∧ σ.I 577 x1 = 1) ∧ x4 ≠ 0)) ∧ x4 ≤ 1000)) ∧ (¬ (σ.I 555 30 - σ.I 555 45 = 24 ∨ 60000 < σ.I 555 38 + x4 ∨ 24000 < σ.I 555 44 + (lT σ x1 (σ.I o2) x3 x4).1 ∨ σ.I 555 30 = 6000)) ∧ (x5 = 1 → TLM τ (lT σ x1 (σ.I o2) x3 x4)) ∧ (τ.I 579 (σ.I 555 30) = x1 ∧ τ.I 580 (σ.I 555 30) = σ.I 555 38 ∧ τ.I 582 (σ.I 555 30) = σ.I 555 44 ∧ τ.I 583 (σ.I 555 30) = 0) ∧ (τ.I 555 30 = σ.I 555 30 ∧ τ.I 555 38 = σ.I 555 38 ∧ τ.I 555 44 = σ.I 555 44) ∧ (0 ≤ x6 ∧ x6 ≤ x4) ∧ (alN (fun k => τ.I 585 (σ.I 555 38 + k) = (σ.I o2) (x3 + k)) x6) ∧ (bd_0_20 τ 573 300) ∧ (bd_0_20 τ 587 24000) ∧ (RSM σ τ (σ.I 555 44))) → wa = 7 → wb = (x4 - x6).toNat → wc = 0 → VV E mX9_textOf (d + 1) 96 [(0, aO 555), (2, aO o2), (3, aI (x3)), (4, aI (x4)), (5, aI (x5)), (6, aI (x6))] [] τ (RVI (fun y τ => ((¬ (((0 ≤ x1 ∧ x1 < σ.I 555 27 ∧ σ.I 577 x1 = 0) ∨ ((0 ≤ x1 ∧ x1 < σ.I 555 27 ∧ σ.I 577 x1 = 1) ∧ x4 ≠ 0)) ∧ x4 ≤ 1000) ∧ y = -1 ∧ τ = σ) ∨ ((((0 ≤ x1 ∧ x1 < σ.I 555 27 ∧ σ.I 577 x1 = 0) ∨ ((0 ≤ x1 ∧ x1 < σ.I 555 27 ∧ σ.I 577 x1 = 1) ∧ x4 ≠ 0)) ∧ x4 ≤ 1000) ∧ (σ.I 555 30 - σ.I 555 45 = 24 ∨ 60000 < σ.I 555 38 + x4 ∨ 24000 < σ.I 555 44 + (lT σ x1 (σ.I o2) x3 x4).1 ∨ σ.I 555 30 = 6000) ∧ y = -3 ∧ KB σ τ) ∨ ((((0 ≤ x1 ∧ x1 < σ.I 555 27 ∧ σ.I 577 x1 = 0) ∨ ((0 ≤ x1 ∧ x1 < σ.I 555 27 ∧ σ.I 577 x1 = 1) ∧ x4 ≠ 0)) ∧ x4 ≤ 1000) ∧ ¬ (σ.I 555 30 - σ.I 555 45 = 24 ∨ 60000 < σ.I 555 38 + x4 ∨ 24000 < σ.I 555 44 + (lT σ x1 (σ.I o2) x3 x4).1 ∨ σ.I 555 30 = 6000) ∧ y = σ.I 555 30 + 1 - σ.I 555 45 ∧ TXM σ τ x1 (σ.I o2) x3 x4 (lT σ x1 (σ.I o2) x3 x4))) ∧ (bd_0_20 τ 573 300) ∧ (bd_0_20 τ 587 24000)))) ∧ (∀ (x6 : Int) (τ : Sto), SF σ τ → ((KAM (σ.I 555 30) (σ.I 555 38) (σ.I 555 44) σ τ) ∧ ((0 ≤ x1 ∧ x1 < σ.I 555 27 ∧ σ.I 577 x1 = 0)) ∧ ((((0 ≤ x1 ∧ x1 < σ.I 555 27 ∧ σ.I 577 x1 = 0) ∨ ((0 ≤ x1 ∧ x1 < σ.I 555 27 ∧ σ.I 577 x1 = 1) ∧ x4 ≠ 0)) ∧ x4 ≤ 1000)) ∧ (¬ (σ.I 555 30 - σ.I 555 45 = 24 ∨ 60000 < σ.I 555 38 + x4 ∨ 24000 < σ.I 555 44 + (lT σ x1 (σ.I o2) x3 x4).1 ∨ σ.I 555 30 = 6000)) ∧ (TLM τ (lT σ x1 (σ.I o2) x3 x4)) ∧ (τ.I 579 (σ.I 555 30) = x1 ∧ τ.I 580 (σ.I 555 30) = σ.I 555 38 ∧ τ.I 582 (σ.I 555 30) = σ.I 555 44 ∧ τ.I 583 (σ.I 555 30) = 0) ∧ (τ.I 555 30 = σ.I 555 30 ∧ τ.I 555 38 = σ.I 555 38 + x4 ∧ τ.I 555 44 = σ.I 555 44 + x6) ∧ (0 ≤ x6 ∧ x6 ≤ (lT σ x1 (σ.I o2) x3 x4).1) ∧ (alN (fun k => τ.I 585 (σ.I 555 38 + k) = (σ.I o2) (x3 + k)) x4) ∧ (τ.I 581 (σ.I 555 30) = x4) ∧ (LTN τ (σ.I 555 44) (lT σ x1 (σ.I o2) x3 x4) x6) ∧ (bd_0_20 τ 573 300) ∧ (bd_0_20 τ 587 24000) ∧ (RSM σ τ ((σ.I 555 44) + x6))) → wa = 6 → wb = ((lT σ x1 (σ.I o2) x3 x4).1 - x6).toNat → wc = 0 → VV E mX9_textOf (d + 1) 157 [(0, aO 555), (6, aI (x6))] [] τ (RVI (fun y τ => ((¬ (((0 ≤ x1 ∧ x1 < σ.I 555 27 ∧ σ.I 577 x1 = 0) ∨ ((0 ≤ x1 ∧ x1 < σ.I 555 27 ∧ σ.I 577 x1 = 1) ∧ x4 ≠ 0)) ∧ x4 ≤ 1000) ∧ y = -1 ∧ τ = σ) ∨ ((((0 ≤ x1 ∧ x1 < σ.I 555 27 ∧ σ.I 577 x1 = 0) ∨ ((0 ≤ x1 ∧ x1 < σ.I 555 27 ∧ σ.I 577 x1 = 1) ∧ x4 ≠ 0)) ∧ x4 ≤ 1000) ∧ (σ.I 555 30 - σ.I 555 45 = 24 ∨ 60000 < σ.I 555 38 + x4 ∨ 24000 < σ.I 555 44 + (lT σ x1 (σ.I o2) x3 x4).1 ∨ σ.I 555 30 = 6000) ∧ y = -3 ∧ KB σ τ) ∨ ((((0 ≤ x1 ∧ x1 < σ.I 555 27 ∧ σ.I 577 x1 = 0) ∨ ((0 ≤ x1 ∧ x1 < σ.I 555 27 ∧ σ.I 577 x1 = 1) ∧ x4 ≠ 0)) ∧ x4 ≤ 1000) ∧ ¬ (σ.I 555 30 - σ.I 555 45 = 24 ∨ 60000 < σ.I 555 38 + x4 ∨ 24000 < σ.I 555 44 + (lT σ x1 (σ.I o2) x3 x4).1 ∨ σ.I 555 30 = 6000) ∧ y = σ.I 555 30 + 1 - σ.I 555 45 ∧ TXM σ τ x1 (σ.I o2) x3 x4 (lT σ x1 (σ.I o2) x3 x4))) ∧ (bd_0_20 τ 573 300) ∧ (bd_0_20 τ 587 24000)))) := by
    refine lex3 (fun wa wb wc ih => ?_)
    have ih0 : ∀ (x5 : Int) (τ : Sto), SF σ τ → ((τ = σ) ∧ (0 ≤ x5 ∧ x5 ≤ 1) ∧ (x5 = 1 ↔ (0 ≤ x1 ∧ x1 < σ.I 555 27 ∧ σ.I 577 x1 = 0)) ∧ ((0 ≤ x1 ∧ x1 < σ.I 555 27 ∧ σ.I 577 x1 = 0) ∨ (0 ≤ x1 ∧ x1 < σ.I 555 27 ∧ σ.I 577 x1 = 1))) → lt3 9 0 0 wa wb wc → VV E mX9_textOf (d + 1) 22 [(0, aO 555), (1, aI (x1)), (2, aO o2), (3, aI (x3)), (4, aI (x4)), (5, aI (x5))] [] τ (RVI (fun y τ => ((¬ (((0 ≤ x1 ∧ x1 < σ.I 555 27 ∧ σ.I 577 x1 = 0) ∨ ((0 ≤ x1 ∧ x1 < σ.I 555 27 ∧ σ.I 577 x1 = 1) ∧ x4 ≠ 0)) ∧ x4 ≤ 1000) ∧ y = -1 ∧ τ = σ) ∨ ((((0 ≤ x1 ∧ x1 < σ.I 555 27 ∧ σ.I 577 x1 = 0) ∨ ((0 ≤ x1 ∧ x1 < σ.I 555 27 ∧ σ.I 577 x1 = 1) ∧ x4 ≠ 0)) ∧ x4 ≤ 1000) ∧ (σ.I 555 30 - σ.I 555 45 = 24 ∨ 60000 < σ.I 555 38 + x4 ∨ 24000 < σ.I 555 44 + (lT σ x1 (σ.I o2) x3 x4).1 ∨ σ.I 555 30 = 6000) ∧ y = -3 ∧ KB σ τ) ∨ ((((0 ≤ x1 ∧ x1 < σ.I 555 27 ∧ σ.I 577 x1 = 0) ∨ ((0 ≤ x1 ∧ x1 < σ.I 555 27 ∧ σ.I 577 x1 = 1) ∧ x4 ≠ 0)) ∧ x4 ≤ 1000) ∧ ¬ (σ.I 555 30 - σ.I 555 45 = 24 ∨ 60000 < σ.I 555 38 + x4 ∨ 24000 < σ.I 555 44 + (lT σ x1 (σ.I o2) x3 x4).1 ∨ σ.I 555 30 = 6000) ∧ y = σ.I 555 30 + 1 - σ.I 555 45 ∧ TXM σ τ x1 (σ.I o2) x3 x4 (lT σ x1 (σ.I o2) x3 x4))) ∧ (bd_0_20 τ 573 300) ∧ (bd_0_20 τ 587 24000))) := fun z0 z1 h0 h1 hlt => (ih _ _ _ hlt).1 z0 z1 h0 h1 rfl rfl rfl
    have ih1 : ∀ (x5 : Int) (τ : Sto), SF σ τ → ((τ = σ) ∧ (0 ≤ x5 ∧ x5 ≤ 1) ∧ (x5 = 1 ↔ (0 ≤ x1 ∧ x1 < σ.I 555 27 ∧ σ.I 577 x1 = 0)) ∧ ((((0 ≤ x1 ∧ x1 < σ.I 555 27 ∧ σ.I 577 x1 = 0) ∨ ((0 ≤ x1 ∧ x1 < σ.I 555 27 ∧ σ.I 577 x1 = 1) ∧ x4 ≠ 0)) ∧ x4 ≤ 1000))) → lt3 8 0 0 wa wb wc → VV E mX9_textOf (d + 1) 42 [(0, aO 555), (1, aI (x1)), (2, aO o2), (3, aI (x3)), (4, aI (x4)), (5, aI (x5))] [] τ (RVI (fun y τ => ((¬ (((0 ≤ x1 ∧ x1 < σ.I 555 27 ∧ σ.I 577 x1 = 0) ∨ ((0 ≤ x1 ∧ x1 < σ.I 555 27 ∧ σ.I 577 x1 = 1) ∧ x4 ≠ 0)) ∧ x4 ≤ 1000) ∧ y = -1 ∧ τ = σ) ∨ ((((0 ≤ x1 ∧ x1 < σ.I 555 27 ∧ σ.I 577 x1 = 0) ∨ ((0 ≤ x1 ∧ x1 < σ.I 555 27 ∧ σ.I 577 x1 = 1) ∧ x4 ≠ 0)) ∧ x4 ≤ 1000) ∧ (σ.I 555 30 - σ.I 555 45 = 24 ∨ 60000 < σ.I 555 38 + x4 ∨ 24000 < σ.I 555 44 + (lT σ x1 (σ.I o2) x3 x4).1 ∨ σ.I 555 30 = 6000) ∧ y = -3 ∧ KB σ τ) ∨ ((((0 ≤ x1 ∧ x1 < σ.I 555 27 ∧ σ.I 577 x1 = 0) ∨ ((0 ≤ x1 ∧ x1 < σ.I 555 27 ∧ σ.I 577 x1 = 1) ∧ x4 ≠ 0)) ∧ x4 ≤ 1000) ∧ ¬ (σ.I 555 30 - σ.I 555 45 = 24 ∨ 60000 < σ.I 555 38 + x4 ∨ 24000 < σ.I 555 44 + (lT σ x1 (σ.I o2) x3 x4).1 ∨ σ.I 555 30 = 6000) ∧ y = σ.I 555 30 + 1 - σ.I 555 45 ∧ TXM σ τ x1 (σ.I o2) x3 x4 (lT σ x1 (σ.I o2) x3 x4))) ∧ (bd_0_20 τ 573 300) ∧ (bd_0_20 τ 587 24000))) := fun z0 z1 h0 h1 hlt => (ih _ _ _ hlt).2.1 z0 z1 h0 h1 rfl rfl rfl
    have ih2 : ∀ (x5 : Int) (x6 : Int) (τ : Sto), SF σ τ → ((KAM (σ.I 555 30) (σ.I 555 38) (σ.I 555 44) σ τ) ∧ ((0 ≤ x5 ∧ x5 ≤ 1) ∧ (x5 = 1 ↔ (0 ≤ x1 ∧ x1 < σ.I 555 27 ∧ σ.I 577 x1 = 0))) ∧ ((((0 ≤ x1 ∧ x1 < σ.I 555 27 ∧ σ.I 577 x1 = 0) ∨ ((0 ≤ x1 ∧ x1 < σ.I 555 27 ∧ σ.I 577 x1 = 1) ∧ x4 ≠ 0)) ∧ x4 ≤ 1000)) ∧ (¬ (σ.I 555 30 - σ.I 555 45 = 24 ∨ 60000 < σ.I 555 38 + x4 ∨ 24000 < σ.I 555 44 + (lT σ x1 (σ.I o2) x3 x4).1 ∨ σ.I 555 30 = 6000)) ∧ (x5 = 1 → TLM τ (lT σ x1 (σ.I o2) x3 x4)) ∧ (τ.I 579 (σ.I 555 30) = x1 ∧ τ.I 580 (σ.I 555 30) = σ.I 555 38 ∧ τ.I 582 (σ.I 555 30) = σ.I 555 44 ∧ τ.I 583 (σ.I 555 30) = 0) ∧ (τ.I 555 30 = σ.I 555 30 ∧ τ.I 555 38 = σ.I 555 38 ∧ τ.I 555 44 = σ.I 555 44) ∧ (0 ≤ x6 ∧ x6 ≤ x4) ∧ (alN (fun k => τ.I 585 (σ.I 555 38 + k) = (σ.I o2) (x3 + k)) x6) ∧ (bd_0_20 τ 573 300) ∧ (bd_0_20 τ 587 24000) ∧ (RSM σ τ (σ.I 555 44))) → lt3 7 ((x4 - x6).toNat) 0 wa wb wc → VV E mX9_textOf (d + 1) 96 [(0, aO 555), (2, aO o2), (3, aI (x3)), (4, aI (x4)), (5, aI (x5)), (6, aI (x6))] [] τ (RVI (fun y τ => ((¬ (((0 ≤ x1 ∧ x1 < σ.I 555 27 ∧ σ.I 577 x1 = 0) ∨ ((0 ≤ x1 ∧ x1 < σ.I 555 27 ∧ σ.I 577 x1 = 1) ∧ x4 ≠ 0)) ∧ x4 ≤ 1000) ∧ y = -1 ∧ τ = σ) ∨ ((((0 ≤ x1 ∧ x1 < σ.I 555 27 ∧ σ.I 577 x1 = 0) ∨ ((0 ≤ x1 ∧ x1 < σ.I 555 27 ∧ σ.I 577 x1 = 1) ∧ x4 ≠ 0)) ∧ x4 ≤ 1000) ∧ (σ.I 555 30 - σ.I 555 45 = 24 ∨ 60000 < σ.I 555 38 + x4 ∨ 24000 < σ.I 555 44 + (lT σ x1 (σ.I o2) x3 x4).1 ∨ σ.I 555 30 = 6000) ∧ y = -3 ∧ KB σ τ) ∨ ((((0 ≤ x1 ∧ x1 < σ.I 555 27 ∧ σ.I 577 x1 = 0) ∨ ((0 ≤ x1 ∧ x1 < σ.I 555 27 ∧ σ.I 577 x1 = 1) ∧ x4 ≠ 0)) ∧ x4 ≤ 1000) ∧ ¬ (σ.I 555 30 - σ.I 555 45 = 24 ∨ 60000 < σ.I 555 38 + x4 ∨ 24000 < σ.I 555 44 + (lT σ x1 (σ.I o2) x3 x4).1 ∨ σ.I 555 30 = 6000) ∧ y = σ.I 555 30 + 1 - σ.I 555 45 ∧ TXM σ τ x1 (σ.I o2) x3 x4 (lT σ x1 (σ.I o2) x3 x4))) ∧ (bd_0_20 τ 573 300) ∧ (bd_0_20 τ 587 24000))) := fun z0 z1 z2 h0 h1 hlt => (ih _ _ _ hlt).2.2.1 z0 z1 z2 h0 h1 rfl rfl rfl
    have ih3 : ∀ (x6 : Int) (τ : Sto), SF σ τ → ((KAM (σ.I 555 30) (σ.I 555 38) (σ.I 555 44) σ τ) ∧ ((0 ≤ x1 ∧ x1 < σ.I 555 27 ∧ σ.I 577 x1 = 0)) ∧ ((((0 ≤ x1 ∧ x1 < σ.I 555 27 ∧ σ.I 577 x1 = 0) ∨ ((0 ≤ x1 ∧ x1 < σ.I 555 27 ∧ σ.I 577 x1 = 1) ∧ x4 ≠ 0)) ∧ x4 ≤ 1000)) ∧ (¬ (σ.I 555 30 - σ.I 555 45 = 24 ∨ 60000 < σ.I 555 38 + x4 ∨ 24000 < σ.I 555 44 + (lT σ x1 (σ.I o2) x3 x4).1 ∨ σ.I 555 30 = 6000)) ∧ (TLM τ (lT σ x1 (σ.I o2) x3 x4)) ∧ (τ.I 579 (σ.I 555 30) = x1 ∧ τ.I 580 (σ.I 555 30) = σ.I 555 38 ∧ τ.I 582 (σ.I 555 30) = σ.I 555 44 ∧ τ.I 583 (σ.I 555 30) = 0) ∧ (τ.I 555 30 = σ.I 555 30 ∧ τ.I 555 38 = σ.I 555 38 + x4 ∧ τ.I 555 44 = σ.I 555 44 + x6) ∧ (0 ≤ x6 ∧ x6 ≤ (lT σ x1 (σ.I o2) x3 x4).1) ∧ (alN (fun k => τ.I 585 (σ.I 555 38 + k) = (σ.I o2) (x3 + k)) x4) ∧ (τ.I 581 (σ.I 555 30) = x4) ∧ (LTN τ (σ.I 555 44) (lT σ x1 (σ.I o2) x3 x4) x6) ∧ (bd_0_20 τ 573 300) ∧ (bd_0_20 τ 587 24000) ∧ (RSM σ τ ((σ.I 555 44) + x6))) → lt3 6 (((lT σ x1 (σ.I o2) x3 x4).1 - x6).toNat) 0 wa wb wc → VV E mX9_textOf (d + 1) 157 [(0, aO 555), (6, aI (x6))] [] τ (RVI (fun y τ => ((¬ (((0 ≤ x1 ∧ x1 < σ.I 555 27 ∧ σ.I 577 x1 = 0) ∨ ((0 ≤ x1 ∧ x1 < σ.I 555 27 ∧ σ.I 577 x1 = 1) ∧ x4 ≠ 0)) ∧ x4 ≤ 1000) ∧ y = -1 ∧ τ = σ) ∨ ((((0 ≤ x1 ∧ x1 < σ.I 555 27 ∧ σ.I 577 x1 = 0) ∨ ((0 ≤ x1 ∧ x1 < σ.I 555 27 ∧ σ.I 577 x1 = 1) ∧ x4 ≠ 0)) ∧ x4 ≤ 1000) ∧ (σ.I 555 30 - σ.I 555 45 = 24 ∨ 60000 < σ.I 555 38 + x4 ∨ 24000 < σ.I 555 44 + (lT σ x1 (σ.I o2) x3 x4).1 ∨ σ.I 555 30 = 6000) ∧ y = -3 ∧ KB σ τ) ∨ ((((0 ≤ x1 ∧ x1 < σ.I 555 27 ∧ σ.I 577 x1 = 0) ∨ ((0 ≤ x1 ∧ x1 < σ.I 555 27 ∧ σ.I 577 x1 = 1) ∧ x4 ≠ 0)) ∧ x4 ≤ 1000) ∧ ¬ (σ.I 555 30 - σ.I 555 45 = 24 ∨ 60000 < σ.I 555 38 + x4 ∨ 24000 < σ.I 555 44 + (lT σ x1 (σ.I o2) x3 x4).1 ∨ σ.I 555 30 = 6000) ∧ y = σ.I 555 30 + 1 - σ.I 555 45 ∧ TXM σ τ x1 (σ.I o2) x3 x4 (lT σ x1 (σ.I o2) x3 x4))) ∧ (bd_0_20 τ 573 300) ∧ (bd_0_20 τ 587 24000))) := fun z0 z1 h0 h1 hlt => (ih _ _ _ hlt).2.2.2 z0 z1 h0 h1 rfl rfl rfl
    clear ih
    refine ⟨?_, ?_, ?_, ?_⟩
    · rintro x5 τ gτ ⟨i0, i1, i2, i3⟩ ha hb hc
      subst ha hb hc
      refine ucX9_textOf_22W  (hL.sf gτ) (SF.s gτ ho2 (by decide)) ?_
      refine ⟨?_, ?_⟩
      · (first | exact ⟨by omega, by omega⟩ | (clear ih0 ih1 ih2 ih3; grind (splits := 16) (ematch := 30) (gen := 30) [-Prod, inR, inL, bd_0_20_at, = fI_wI, = sx8_sx8, = R_wI, = sh_wI, = n_wI]))
      refine ⟨fun c1 => ?_, fun c2 => ?_⟩
      · refine RVI_mk ?_ ?_
        · (first | exact ⟨by omega, by omega⟩ | (clear ih0 ih1 ih2 ih3; grind (splits := 16) (ematch := 30) (gen := 30) [-Prod, inR, inL, bd_0_20_at, = fI_wI, = sx8_sx8, = R_wI, = sh_wI, = n_wI]))
        · refine ⟨?_, ?_, ?_⟩
          · (clear ih0 ih1 ih2 ih3; first | exact Or.inl ⟨by omega, rfl, i0⟩)
          · (clear ih0 ih1 ih2 ih3; (rw [i0]; first | exact p9 | exact p10))
          · (clear ih0 ih1 ih2 ih3; (rw [i0]; first | exact p9 | exact p10))
      · refine ⟨?_, ?_⟩
        · (first | exact ⟨by omega, by omega⟩ | (clear ih0 ih1 ih2 ih3; grind (splits := 16) (ematch := 30) (gen := 30) [-Prod, inR, inL, bd_0_20_at, = fI_wI, = sx8_sx8, = R_wI, = sh_wI, = n_wI]))
        refine ⟨fun c3 => ?_, fun c4 => ?_⟩
        · refine ih1 _ _ gτ ⟨?_, ?_, ?_, ?_⟩ ?_
          · (first | omega | (clear ih0 ih1 ih2 ih3; grind (splits := 16) (ematch := 30) (gen := 30) [-Prod, inR, inL, bd_0_20_at, = fI_wI, = sx8_sx8, = R_wI, = sh_wI, = n_wI]))
          · (first | omega | (clear ih0 ih1 ih2 ih3; grind (splits := 16) (ematch := 30) (gen := 30) [-Prod, inR, inL, bd_0_20_at, = fI_wI, = sx8_sx8, = R_wI, = sh_wI, = n_wI]))
          · (first | omega | (clear ih0 ih1 ih2 ih3; grind (splits := 16) (ematch := 30) (gen := 30) [-Prod, inR, inL, bd_0_20_at, = fI_wI, = sx8_sx8, = R_wI, = sh_wI, = n_wI]))
          · (first | omega | (clear ih0 ih1 ih2 ih3; grind (splits := 16) (ematch := 30) (gen := 30) [-Prod, inR, inL, bd_0_20_at, = fI_wI, = sx8_sx8, = R_wI, = sh_wI, = n_wI]))
          · (unfold lt3; first | omega | (clear ih0 ih1 ih2 ih3; grind (splits := 16) (ematch := 30) (gen := 30) [-Prod, inR, inL, bd_0_20_at, = fI_wI, = sx8_sx8, = R_wI, = sh_wI, = n_wI]))
        · refine ⟨fun c5 => ?_, fun c6 => ?_⟩
          · refine ih1 _ _ gτ ⟨?_, ?_, ?_, ?_⟩ ?_
            · (first | omega | (clear ih0 ih1 ih2 ih3; grind (splits := 16) (ematch := 30) (gen := 30) [-Prod, inR, inL, bd_0_20_at, = fI_wI, = sx8_sx8, = R_wI, = sh_wI, = n_wI]))
            · (first | omega | (clear ih0 ih1 ih2 ih3; grind (splits := 16) (ematch := 30) (gen := 30) [-Prod, inR, inL, bd_0_20_at, = fI_wI, = sx8_sx8, = R_wI, = sh_wI, = n_wI]))
            · (first | omega | (clear ih0 ih1 ih2 ih3; grind (splits := 16) (ematch := 30) (gen := 30) [-Prod, inR, inL, bd_0_20_at, = fI_wI, = sx8_sx8, = R_wI, = sh_wI, = n_wI]))
            · (first | omega | (clear ih0 ih1 ih2 ih3; grind (splits := 16) (ematch := 30) (gen := 30) [-Prod, inR, inL, bd_0_20_at, = fI_wI, = sx8_sx8, = R_wI, = sh_wI, = n_wI]))
            · (unfold lt3; first | omega | (clear ih0 ih1 ih2 ih3; grind (splits := 16) (ematch := 30) (gen := 30) [-Prod, inR, inL, bd_0_20_at, = fI_wI, = sx8_sx8, = R_wI, = sh_wI, = n_wI]))
          · refine RVI_mk ?_ ?_
            · (first | exact ⟨by omega, by omega⟩ | (clear ih0 ih1 ih2 ih3; grind (splits := 16) (ematch := 30) (gen := 30) [-Prod, inR, inL, bd_0_20_at, = fI_wI, = sx8_sx8, = R_wI, = sh_wI, = n_wI]))
            · refine ⟨?_, ?_, ?_⟩
              · (clear ih0 ih1 ih2 ih3; first | exact Or.inl ⟨by omega, rfl, i0⟩)
              · (clear ih0 ih1 ih2 ih3; (rw [i0]; first | exact p9 | exact p10))
              · (clear ih0 ih1 ih2 ih3; (rw [i0]; first | exact p9 | exact p10))
    · rintro x5 τ gτ ⟨i0, i1, i2, i3⟩ ha hb hc
      subst ha hb hc
      have i9_ := i0.symm
      subst i9_
      let τ : Sto := σ
      refine ucX9_textOf_42W  (hL.sf gτ) (SF.s gτ ho2 (by decide)) ?_
      refine ⟨?_, ?_⟩
      · (first | exact ⟨by omega, by omega⟩ | (clear ih0 ih1 ih2 ih3; grind (splits := 16) (ematch := 30) (gen := 30) [-Prod, inR, inL, bd_0_20_at, = fI_wI, = sx8_sx8, = R_wI, = sh_wI, = n_wI]))
      refine ⟨fun c1 => ?_, fun c2 => ?_⟩
      · refine ⟨?_, ?_⟩
        · omega
        refine ⟨?_, ?_⟩
        · (first | omega | (clear ih0 ih1 ih2 ih3; grind (splits := 16) (ematch := 30) (gen := 30) [-Prod, inR, inL, bd_0_20_at, = fI_wI, = sx8_sx8, = R_wI, = sh_wI, = n_wI]))
        refine ⟨?_, ?_⟩
        · (first | omega | (clear ih0 ih1 ih2 ih3; grind (splits := 16) (ematch := 30) (gen := 30) [-Prod, inR, inL, bd_0_20_at, = fI_wI, = sx8_sx8, = R_wI, = sh_wI, = n_wI]))
        refine ⟨?_, ?_⟩
        · (first | omega | (clear ih0 ih1 ih2 ih3; grind (splits := 16) (ematch := 30) (gen := 30) [-Prod, inR, inL, bd_0_20_at, = fI_wI, = sx8_sx8, = R_wI, = sh_wI, = n_wI]))
        refine ⟨?_, ?_⟩
        · (first | omega | (clear ih0 ih1 ih2 ih3; grind (splits := 16) (ematch := 30) (gen := 30) [-Prod, inR, inL, bd_0_20_at, = fI_wI, = sx8_sx8, = R_wI, = sh_wI, = n_wI]))
        refine ⟨?_, ?_⟩
        · (first | omega | (clear ih0 ih1 ih2 ih3; grind (splits := 16) (ematch := 30) (gen := 30) [-Prod, inR, inL, bd_0_20_at, = fI_wI, = sx8_sx8, = R_wI, = sh_wI, = n_wI]))
        refine ⟨?_, ?_⟩
        · (first | omega | (clear ih0 ih1 ih2 ih3; grind (splits := 16) (ematch := 30) (gen := 30) [-Prod, inR, inL, bd_0_20_at, = fI_wI, = sx8_sx8, = R_wI, = sh_wI, = n_wI]))
        refine ⟨fun c3 => ?_, fun c4 => ?_⟩
        · refine RVI_mk ?_ ?_
          · (first | exact ⟨by omega, by omega⟩ | (clear ih0 ih1 ih2 ih3; grind (splits := 16) (ematch := 30) (gen := 30) [-Prod, inR, inL, bd_0_20_at, = fI_wI, = sx8_sx8, = R_wI, = sh_wI, = n_wI]))
          · refine ⟨?_, ?_, ?_⟩
            · (clear ih0 ih1 ih2 ih3; first | (exfalso; omega) | exact Or.inr (Or.inl ⟨i3, (by rw [hLw (by omega)]; show _ ∨ _ ∨ 24000 < _ + (1 : Int) ∨ _; omega), rfl, KB_rf⟩) | exact Or.inr (Or.inl ⟨i3, (by omega), rfl, eσ28_2⟩))
            · (clear ih0 ih1 ih2 ih3; first | (exfalso; omega) | (intro i h0 h1; first | (rw [hn _ _ (by decide) (by decide) (by decide) (by decide) (by decide)]; first | exact p9 i h0 h1 | exact p10 i h0 h1 | exact eσ28_1 i h0 h1 | (rw [kmp_587 (KM_of_KB eσ28_2)]; exact p10 i h0 h1)) | exact p9 i h0 h1 | exact p10 i h0 h1 | exact eσ28_1 i h0 h1 | (rw [kmp_587 (KM_of_KB eσ28_2)]; exact p10 i h0 h1)))
            · (clear ih0 ih1 ih2 ih3; first | (exfalso; omega) | (intro i h0 h1; first | (rw [hn _ _ (by decide) (by decide) (by decide) (by decide) (by decide)]; first | exact p9 i h0 h1 | exact p10 i h0 h1 | exact eσ28_1 i h0 h1 | (rw [kmp_587 (KM_of_KB eσ28_2)]; exact p10 i h0 h1)) | exact p9 i h0 h1 | exact p10 i h0 h1 | exact eσ28_1 i h0 h1 | (rw [kmp_587 (KM_of_KB eσ28_2)]; exact p10 i h0 h1)))
        · refine ⟨?_, ?_⟩
          · omega
          refine ⟨?_, ?_⟩
          · (first | omega | (clear ih0 ih1 ih2 ih3; grind (splits := 16) (ematch := 30) (gen := 30) [-Prod, inR, inL, bd_0_20_at, = fI_wI, = sx8_sx8, = R_wI, = sh_wI, = n_wI]))
          refine ⟨?_, ?_⟩
          · (first | omega | (clear ih0 ih1 ih2 ih3; grind (splits := 16) (ematch := 30) (gen := 30) [-Prod, inR, inL, bd_0_20_at, = fI_wI, = sx8_sx8, = R_wI, = sh_wI, = n_wI]))
          rintro σ17 gσ17 ⟨⟨eσ17r, eσ17s, eσ17n⟩, eσ17⟩
          have kσ17 : KAM (σ.I 555 30) (σ.I 555 38) (σ.I 555 44) τ σ17 := KAM_rd eσ17r eσ17s eσ17n eσ17 (fun c i hP => by unfold wsAM at hP; first | grind | grind (splits := 40))
          have hn : ∀ c i, c ≠ 579 → c ≠ 580 → c ≠ 581 → c ≠ 582 → c ≠ 583 → σ17.I c i = τ.I c i := fun c i a1 a2 a3 a4 a5 => (by rw [eσ17]; show (if at2 c i _ _ then _ else if at2 c i _ _ then _ else if at2 c i _ _ then _ else if at2 c i _ _ then _ else if at2 c i _ _ then _ else _) = _; rw [if_neg (fun z => a1 z.1), if_neg (fun z => a2 z.1), if_neg (fun z => a3 z.1), if_neg (fun z => a4 z.1), if_neg (fun z => a5 z.1)])
          refine ih2 _ _ _ (gτ.tr gσ17) ⟨?_, ?_, ?_, ?_, ?_, ?_, ?_, ?_, ?_, ?_, ?_, ?_⟩ ?_
          · exact kσ17
          · (first | omega | (clear ih0 ih1 ih2 ih3; grind (splits := 16) (ematch := 30) (gen := 30) [-Prod, inR, inL, bd_0_20_at, = fI_wI, = sx8_sx8, = R_wI, = sh_wI, = n_wI]))
          · (first | omega | (clear ih0 ih1 ih2 ih3; grind (splits := 16) (ematch := 30) (gen := 30) [-Prod, inR, inL, bd_0_20_at, = fI_wI, = sx8_sx8, = R_wI, = sh_wI, = n_wI]))
          · (clear ih0 ih1 ih2 ih3; first | (exfalso; omega) | exact (by first | omega | (rw [hLw (by omega)]; show ¬ (_ ∨ _ ∨ 24000 < _ + (1 : Int) ∨ _); omega)))
          · (clear ih0 ih1 ih2 ih3; first | (intro h; exfalso; omega) | (intro _; exact TLM_fr eσ28_0 (hn _ _ (by decide) (by decide) (by decide) (by decide) (by decide)) (fun c a b => funext fun i => hn _ _ (by omega) (by omega) (by omega) (by omega) (by omega))))
          · (first | omega | (clear ih0 ih1 ih2 ih3; grind (splits := 16) (ematch := 30) (gen := 30) [-Prod, inR, inL, bd_0_20_at, = fI_wI, = sx8_sx8, = R_wI, = sh_wI, = n_wI]))
          · (first | omega | (clear ih0 ih1 ih2 ih3; grind (splits := 16) (ematch := 30) (gen := 30) [-Prod, inR, inL, bd_0_20_at, = fI_wI, = sx8_sx8, = R_wI, = sh_wI, = n_wI]))
          · (first | omega | (clear ih0 ih1 ih2 ih3; grind (splits := 16) (ematch := 30) (gen := 30) [-Prod, inR, inL, bd_0_20_at, = fI_wI, = sx8_sx8, = R_wI, = sh_wI, = n_wI]))
          · (clear ih0 ih1 ih2 ih3; exact alN_0 _ _ (Int.le_refl _))
          · (clear ih0 ih1 ih2 ih3; first | (exfalso; omega) | (intro i h0 h1; first | (rw [hn _ _ (by decide) (by decide) (by decide) (by decide) (by decide)]; first | exact p9 i h0 h1 | exact p10 i h0 h1 | exact eσ28_1 i h0 h1 | (rw [kmp_587 (KM_of_KB eσ28_2)]; exact p10 i h0 h1)) | exact p9 i h0 h1 | exact p10 i h0 h1 | exact eσ28_1 i h0 h1 | (rw [kmp_587 (KM_of_KB eσ28_2)]; exact p10 i h0 h1)))
          · (clear ih0 ih1 ih2 ih3; first | (exfalso; omega) | (intro i h0 h1; first | (rw [hn _ _ (by decide) (by decide) (by decide) (by decide) (by decide)]; first | exact p9 i h0 h1 | exact p10 i h0 h1 | exact eσ28_1 i h0 h1 | (rw [kmp_587 (KM_of_KB eσ28_2)]; exact p10 i h0 h1)) | exact p9 i h0 h1 | exact p10 i h0 h1 | exact eσ28_1 i h0 h1 | (rw [kmp_587 (KM_of_KB eσ28_2)]; exact p10 i h0 h1)))
          · (clear ih0 ih1 ih2 ih3; first | (exfalso; omega) | exact (fun c i a b d => hn c i (by omega) (by omega) (by omega) (by omega) (by omega)) | exact (fun c i a b d => (hn c i (by omega) (by omega) (by omega) (by omega) (by omega)).trans (eσ28_2.2 c i (by unfold wsB; omega))))
          · (unfold lt3; first | omega | (clear ih0 ih1 ih2 ih3; grind (splits := 16) (ematch := 30) (gen := 30) [-Prod, inR, inL, bd_0_20_at, = fI_wI, = sx8_sx8, = R_wI, = sh_wI, = n_wI]))
      · refine ⟨?_, ?_⟩
        · (first | omega | (clear ih0 ih1 ih2 ih3; grind (splits := 16) (ematch := 30) (gen := 30) [-Prod, inR, inL, bd_0_20_at, = fI_wI, = sx8_sx8, = R_wI, = sh_wI, = n_wI]))
        refine ⟨?_, ?_⟩
        · (first | omega | (clear ih0 ih1 ih2 ih3; grind (splits := 16) (ematch := 30) (gen := 30) [-Prod, inR, inL, bd_0_20_at, = fI_wI, = sx8_sx8, = R_wI, = sh_wI, = n_wI]))
        rintro ⟨f5, f5q⟩
        refine ⟨?_, ?_⟩
        · omega
        refine ⟨?_, ?_⟩
        · (first | omega | (clear ih0 ih1 ih2 ih3; grind (splits := 16) (ematch := 30) (gen := 30) [-Prod, inR, inL, bd_0_20_at, = fI_wI, = sx8_sx8, = R_wI, = sh_wI, = n_wI]))
        refine ⟨?_, ?_⟩
        · (first | omega | (clear ih0 ih1 ih2 ih3; grind (splits := 16) (ematch := 30) (gen := 30) [-Prod, inR, inL, bd_0_20_at, = fI_wI, = sx8_sx8, = R_wI, = sh_wI, = n_wI]))
        refine ⟨?_, ?_⟩
        · (first | omega | (clear ih0 ih1 ih2 ih3; grind (splits := 16) (ematch := 30) (gen := 30) [-Prod, inR, inL, bd_0_20_at, = fI_wI, = sx8_sx8, = R_wI, = sh_wI, = n_wI]))
        refine ⟨?_, ?_⟩
        · (first | omega | (clear ih0 ih1 ih2 ih3; grind (splits := 16) (ematch := 30) (gen := 30) [-Prod, inR, inL, bd_0_20_at, = fI_wI, = sx8_sx8, = R_wI, = sh_wI, = n_wI]))
        refine ⟨?_, ?_⟩
        · (first | assumption | (clear ih0 ih1 ih2 ih3; intro i h0 h1; grind (splits := 16) (ematch := 30) (gen := 30) [-Prod, inR, inL, bd_0_20_at, = fI_wI, = sx8_sx8, = R_wI, = sh_wI, = n_wI]))
        refine ⟨?_, ?_⟩
        · (first | omega | (clear ih0 ih1 ih2 ih3; grind (splits := 16) (ematch := 30) (gen := 30) [-Prod, inR, inL, bd_0_20_at, = fI_wI, = sx8_sx8, = R_wI, = sh_wI, = n_wI]))
        rintro σ28 gσ28 ⟨eσ28_0, eσ28_1, eσ28_2⟩
        have kσ28 : KAM (σ.I 555 30) (σ.I 555 38) (σ.I 555 44) τ σ28 := KAM_of_KB eσ28_2
        have kσ28r := eσ28_2.1.1
        have hA43 : σ28.I 555 19 = (lT σ x1 (σ.I o2) x3 x4).1 := (by rw [hLt (by omega)]; exact eσ28_0.1)
        have v43 : σ28.I 555 30 = σ.I 555 30 := kmf_30 (KM_of_KB eσ28_2)
        have b43 : σ28.I 555 38 = σ.I 555 38 := kmf_38 (KM_of_KB eσ28_2)
        have t43 : σ28.I 555 44 = σ.I 555 44 := kmf_44 (KM_of_KB eσ28_2)
        have d43 : σ28.I 555 45 = σ.I 555 45 := kmf_45 (KM_of_KB eσ28_2)
        have hl43 := eσ28_0.2.1
        rw [← hLt (by omega)] at eσ28_0
        rintro ⟨f6, f6q⟩
        refine ⟨?_, ?_⟩
        · omega
        refine ⟨?_, ?_⟩
        · (first | omega | (clear ih0 ih1 ih2 ih3; grind (splits := 16) (ematch := 30) (gen := 30) [-Prod, inR, inL, bd_0_20_at, = fI_wI, = sx8_sx8, = R_wI, = sh_wI, = n_wI]))
        refine ⟨?_, ?_⟩
        · (first | omega | (clear ih0 ih1 ih2 ih3; grind (splits := 16) (ematch := 30) (gen := 30) [-Prod, inR, inL, bd_0_20_at, = fI_wI, = sx8_sx8, = R_wI, = sh_wI, = n_wI]))
        refine ⟨?_, ?_⟩
        · (first | omega | (clear ih0 ih1 ih2 ih3; grind (splits := 16) (ematch := 30) (gen := 30) [-Prod, inR, inL, bd_0_20_at, = fI_wI, = sx8_sx8, = R_wI, = sh_wI, = n_wI]))
        refine ⟨?_, ?_⟩
        · (first | omega | (clear ih0 ih1 ih2 ih3; grind (splits := 16) (ematch := 30) (gen := 30) [-Prod, inR, inL, bd_0_20_at, = fI_wI, = sx8_sx8, = R_wI, = sh_wI, = n_wI]))
        refine ⟨?_, ?_⟩
        · (first | omega | (clear ih0 ih1 ih2 ih3; grind (splits := 16) (ematch := 30) (gen := 30) [-Prod, inR, inL, bd_0_20_at, = fI_wI, = sx8_sx8, = R_wI, = sh_wI, = n_wI]))
        refine ⟨?_, ?_⟩
        · (first | omega | (clear ih0 ih1 ih2 ih3; grind (splits := 16) (ematch := 30) (gen := 30) [-Prod, inR, inL, bd_0_20_at, = fI_wI, = sx8_sx8, = R_wI, = sh_wI, = n_wI]))
        refine ⟨fun c7 => ?_, fun c8 => ?_⟩
        · refine RVI_mk ?_ ?_
          · (first | exact ⟨by omega, by omega⟩ | (clear ih0 ih1 ih2 ih3; grind (splits := 16) (ematch := 30) (gen := 30) [-Prod, inR, inL, bd_0_20_at, = fI_wI, = sx8_sx8, = R_wI, = sh_wI, = n_wI]))
          · refine ⟨?_, ?_, ?_⟩
            · (clear ih0 ih1 ih2 ih3; first | (exfalso; omega) | exact Or.inr (Or.inl ⟨i3, (by rw [hLw (by omega)]; show _ ∨ _ ∨ 24000 < _ + (1 : Int) ∨ _; omega), rfl, KB_rf⟩) | exact Or.inr (Or.inl ⟨i3, (by omega), rfl, eσ28_2⟩))
            · (clear ih0 ih1 ih2 ih3; first | (exfalso; omega) | (intro i h0 h1; first | (rw [hn _ _ (by decide) (by decide) (by decide) (by decide) (by decide)]; first | exact p9 i h0 h1 | exact p10 i h0 h1 | exact eσ28_1 i h0 h1 | (rw [kmp_587 (KM_of_KB eσ28_2)]; exact p10 i h0 h1)) | exact p9 i h0 h1 | exact p10 i h0 h1 | exact eσ28_1 i h0 h1 | (rw [kmp_587 (KM_of_KB eσ28_2)]; exact p10 i h0 h1)))
            · (clear ih0 ih1 ih2 ih3; first | (exfalso; omega) | (intro i h0 h1; first | (rw [hn _ _ (by decide) (by decide) (by decide) (by decide) (by decide)]; first | exact p9 i h0 h1 | exact p10 i h0 h1 | exact eσ28_1 i h0 h1 | (rw [kmp_587 (KM_of_KB eσ28_2)]; exact p10 i h0 h1)) | exact p9 i h0 h1 | exact p10 i h0 h1 | exact eσ28_1 i h0 h1 | (rw [kmp_587 (KM_of_KB eσ28_2)]; exact p10 i h0 h1)))
        · refine ⟨?_, ?_⟩
          · omega
          refine ⟨?_, ?_⟩
          · (first | omega | (clear ih0 ih1 ih2 ih3; grind (splits := 16) (ematch := 30) (gen := 30) [-Prod, inR, inL, bd_0_20_at, = fI_wI, = sx8_sx8, = R_wI, = sh_wI, = n_wI]))
          refine ⟨?_, ?_⟩
          · (first | omega | (clear ih0 ih1 ih2 ih3; grind (splits := 16) (ematch := 30) (gen := 30) [-Prod, inR, inL, bd_0_20_at, = fI_wI, = sx8_sx8, = R_wI, = sh_wI, = n_wI]))
          rintro σ44 gσ44 ⟨⟨eσ44r, eσ44s, eσ44n⟩, eσ44⟩
          have kσ44 : KAM (σ.I 555 30) (σ.I 555 38) (σ.I 555 44) σ28 σ44 := KAM_rd eσ44r eσ44s eσ44n eσ44 (fun c i hP => by unfold wsAM at hP; first | grind | grind (splits := 40))
          have hn : ∀ c i, c ≠ 579 → c ≠ 580 → c ≠ 581 → c ≠ 582 → c ≠ 583 → σ44.I c i = σ28.I c i := fun c i a1 a2 a3 a4 a5 => (by rw [eσ44]; show (if at2 c i _ _ then _ else if at2 c i _ _ then _ else if at2 c i _ _ then _ else if at2 c i _ _ then _ else if at2 c i _ _ then _ else _) = _; rw [if_neg (fun z => a1 z.1), if_neg (fun z => a2 z.1), if_neg (fun z => a3 z.1), if_neg (fun z => a4 z.1), if_neg (fun z => a5 z.1)])
          refine ih2 _ _ _ ((gτ.tr gσ28).tr gσ44) ⟨?_, ?_, ?_, ?_, ?_, ?_, ?_, ?_, ?_, ?_, ?_, ?_⟩ ?_
          · exact (Ch.tr kσ28 kσ44)
          · (first | omega | (clear ih0 ih1 ih2 ih3; grind (splits := 16) (ematch := 30) (gen := 30) [-Prod, inR, inL, bd_0_20_at, = fI_wI, = sx8_sx8, = R_wI, = sh_wI, = n_wI]))
          · (first | omega | (clear ih0 ih1 ih2 ih3; grind (splits := 16) (ematch := 30) (gen := 30) [-Prod, inR, inL, bd_0_20_at, = fI_wI, = sx8_sx8, = R_wI, = sh_wI, = n_wI]))
          · (clear ih0 ih1 ih2 ih3; first | (exfalso; omega) | exact (by first | omega | (rw [hLw (by omega)]; show ¬ (_ ∨ _ ∨ 24000 < _ + (1 : Int) ∨ _); omega)))
          · (clear ih0 ih1 ih2 ih3; first | (intro h; exfalso; omega) | (intro _; exact TLM_fr eσ28_0 (hn _ _ (by decide) (by decide) (by decide) (by decide) (by decide)) (fun c a b => funext fun i => hn _ _ (by omega) (by omega) (by omega) (by omega) (by omega))))
          · (first | omega | (clear ih0 ih1 ih2 ih3; grind (splits := 16) (ematch := 30) (gen := 30) [-Prod, inR, inL, bd_0_20_at, = fI_wI, = sx8_sx8, = R_wI, = sh_wI, = n_wI]))
          · (first | omega | (clear ih0 ih1 ih2 ih3; grind (splits := 16) (ematch := 30) (gen := 30) [-Prod, inR, inL, bd_0_20_at, = fI_wI, = sx8_sx8, = R_wI, = sh_wI, = n_wI]))
          · (first | omega | (clear ih0 ih1 ih2 ih3; grind (splits := 16) (ematch := 30) (gen := 30) [-Prod, inR, inL, bd_0_20_at, = fI_wI, = sx8_sx8, = R_wI, = sh_wI, = n_wI]))
          · (clear ih0 ih1 ih2 ih3; exact alN_0 _ _ (Int.le_refl _))
          · (clear ih0 ih1 ih2 ih3; first | (exfalso; omega) | (intro i h0 h1; first | (rw [hn _ _ (by decide) (by decide) (by decide) (by decide) (by decide)]; first | exact p9 i h0 h1 | exact p10 i h0 h1 | exact eσ28_1 i h0 h1 | (rw [kmp_587 (KM_of_KB eσ28_2)]; exact p10 i h0 h1)) | exact p9 i h0 h1 | exact p10 i h0 h1 | exact eσ28_1 i h0 h1 | (rw [kmp_587 (KM_of_KB eσ28_2)]; exact p10 i h0 h1)))
          · (clear ih0 ih1 ih2 ih3; first | (exfalso; omega) | (intro i h0 h1; first | (rw [hn _ _ (by decide) (by decide) (by decide) (by decide) (by decide)]; first | exact p9 i h0 h1 | exact p10 i h0 h1 | exact eσ28_1 i h0 h1 | (rw [kmp_587 (KM_of_KB eσ28_2)]; exact p10 i h0 h1)) | exact p9 i h0 h1 | exact p10 i h0 h1 | exact eσ28_1 i h0 h1 | (rw [kmp_587 (KM_of_KB eσ28_2)]; exact p10 i h0 h1)))
          · (clear ih0 ih1 ih2 ih3; first | (exfalso; omega) | exact (fun c i a b d => hn c i (by omega) (by omega) (by omega) (by omega) (by omega)) | exact (fun c i a b d => (hn c i (by omega) (by omega) (by omega) (by omega) (by omega)).trans (eσ28_2.2 c i (by unfold wsB; omega))))
          · (unfold lt3; first | omega | (clear ih0 ih1 ih2 ih3; grind (splits := 16) (ematch := 30) (gen := 30) [-Prod, inR, inL, bd_0_20_at, = fI_wI, = sx8_sx8, = R_wI, = sh_wI, = n_wI]))
    · rintro x5 x6 τ gτ ⟨i0, i1, i2, i3, i4, i5, i6, i7, i8, i9, i10, i11⟩ ha hb hc
      subst ha hb hc
      have hw1 : x5 ≠ 1 → (lT σ x1 (σ.I o2) x3 x4).1 = 1 := fun h => (by rw [hLw (by omega)]; rfl)
      have htl := fun (h : x5 = 1) => (i4 h).2.1
      have dt := Ch.at i0 (c := 555) (i := 45) (by unfold wsAM wsB; omega)
      refine ucX9_textOf_96W  (hL.sf gτ) (SF.s gτ ho2 (by decide)) ?_
      refine ⟨?_, ?_⟩
      · (first | exact ⟨by omega, by omega⟩ | (clear ih0 ih1 ih2 ih3; grind (splits := 16) (ematch := 30) (gen := 30) [-Prod, inR, inL, bd_0_20_at, = fI_wI, = sx8_sx8, = R_wI, = sh_wI, = n_wI]))
      refine ⟨?_, ?_⟩
      · (first | exact ⟨by omega, by omega⟩ | (clear ih0 ih1 ih2 ih3; grind (splits := 16) (ematch := 30) (gen := 30) [-Prod, inR, inL, bd_0_20_at, = fI_wI, = sx8_sx8, = R_wI, = sh_wI, = n_wI]))
      refine ⟨fun c1 => ?_, fun c2 => ?_⟩
      · rintro ⟨f3, f3q⟩
        refine ⟨?_, ?_⟩
        · (first | exact ⟨by omega, by omega⟩ | (clear ih0 ih1 ih2 ih3; grind (splits := 16) (ematch := 30) (gen := 30) [-Prod, inR, inL, bd_0_20_at, = fI_wI, = sx8_sx8, = R_wI, = sh_wI, = n_wI]))
        intro σ6 eσ6 gσ6
        have kσ6 : KAM (σ.I 555 30) (σ.I 555 38) (σ.I 555 44) τ σ6 := KAM_w eσ6 (by unfold wsAM; omega)
        have v6 : σ6.I 555 30 = τ.I 555 30 := (by rw [eσ6]; exact I_nj _ _ _ _ (by decide))
        rintro ⟨f4, f4q⟩
        refine ⟨?_, ?_⟩
        · (first | omega | (clear ih0 ih1 ih2 ih3; grind (splits := 16) (ematch := 30) (gen := 30) [-Prod, inR, inL, bd_0_20_at, = fI_wI, = sx8_sx8, = R_wI, = sh_wI, = n_wI]))
        refine ⟨?_, ?_⟩
        · (first | omega | (clear ih0 ih1 ih2 ih3; grind (splits := 16) (ematch := 30) (gen := 30) [-Prod, inR, inL, bd_0_20_at, = fI_wI, = sx8_sx8, = R_wI, = sh_wI, = n_wI]))
        intro σ10 eσ10 gσ10
        have kσ10 : KAM (σ.I 555 30) (σ.I 555 38) (σ.I 555 44) σ6 σ10 := KAM_w eσ10 (by unfold wsAM; omega)
        have h10 : ∀ c i, ¬ (c = 581 ∨ at2 c i 555 38) → σ10.I c i = τ.I c i := fun c i q => (by rw [eσ10, I_ne _ _ _ _ (fun z => q (Or.inl z)), eσ6, I_wI, if_neg (fun z => q (Or.inr z))])
        have v10 : σ10.I 555 30 = τ.I 555 30 := h10 _ _ (by decide)
        have t10 : σ10.I 555 44 = τ.I 555 44 := h10 _ _ (by decide)
        have d10 : σ10.I 555 45 = τ.I 555 45 := h10 _ _ (by decide)
        refine ⟨?_, ?_⟩
        · (first | exact ⟨by omega, by omega⟩ | (clear ih0 ih1 ih2 ih3; grind (splits := 16) (ematch := 30) (gen := 30) [-Prod, inR, inL, bd_0_20_at, = fI_wI, = sx8_sx8, = R_wI, = sh_wI, = n_wI]))
        refine ⟨fun c5 => ?_, fun c6 => ?_⟩
        · refine ⟨?_, ?_⟩
          · omega
          refine ⟨?_, ?_⟩
          · (first | omega | (clear ih0 ih1 ih2 ih3; grind (splits := 16) (ematch := 30) (gen := 30) [-Prod, inR, inL, bd_0_20_at, = fI_wI, = sx8_sx8, = R_wI, = sh_wI, = n_wI]))
          refine ⟨?_, ?_⟩
          · (first | omega | (clear ih0 ih1 ih2 ih3; grind (splits := 16) (ematch := 30) (gen := 30) [-Prod, inR, inL, bd_0_20_at, = fI_wI, = sx8_sx8, = R_wI, = sh_wI, = n_wI]))
          refine ⟨?_, ?_⟩
          · (first | omega | (clear ih0 ih1 ih2 ih3; grind (splits := 16) (ematch := 30) (gen := 30) [-Prod, inR, inL, bd_0_20_at, = fI_wI, = sx8_sx8, = R_wI, = sh_wI, = n_wI]))
          refine ⟨?_, ?_⟩
          · (first | omega | (clear ih0 ih1 ih2 ih3; grind (splits := 16) (ematch := 30) (gen := 30) [-Prod, inR, inL, bd_0_20_at, = fI_wI, = sx8_sx8, = R_wI, = sh_wI, = n_wI]))
          refine ⟨?_, ?_⟩
          · (first | omega | (clear ih0 ih1 ih2 ih3; grind (splits := 16) (ematch := 30) (gen := 30) [-Prod, inR, inL, bd_0_20_at, = fI_wI, = sx8_sx8, = R_wI, = sh_wI, = n_wI]))
          refine ⟨?_, ?_⟩
          · (first | omega | (clear ih0 ih1 ih2 ih3; grind (splits := 16) (ematch := 30) (gen := 30) [-Prod, inR, inL, bd_0_20_at, = fI_wI, = sx8_sx8, = R_wI, = sh_wI, = n_wI]))
          refine ⟨?_, ?_⟩
          · (first | omega | (clear ih0 ih1 ih2 ih3; grind (splits := 16) (ematch := 30) (gen := 30) [-Prod, inR, inL, bd_0_20_at, = fI_wI, = sx8_sx8, = R_wI, = sh_wI, = n_wI]))
          rintro σ21 gσ21 ⟨⟨eσ21r, eσ21s, eσ21n⟩, eσ21⟩
          have kσ21 : KAM (σ.I 555 30) (σ.I 555 38) (σ.I 555 44) σ10 σ21 := KAM_rd eσ21r eσ21s eσ21n eσ21 (fun c i hP => by unfold wsAM at hP; first | grind | grind (splits := 40))
          have h21 : ∀ c i, ¬ (c = 587 ∨ c = 586 ∨ c = 588 ∨ c = 589 ∨ c = 590 ∨ at2 c i 555 44) → σ21.I c i = σ10.I c i := fun c i q => (by rw [eσ21]; show (if at2 c i _ _ then _ else if rg c i _ _ _ then _ else if at2 c i _ _ then _ else if at2 c i _ _ then _ else if at2 c i _ _ then _ else if at2 c i _ _ then _ else _) = _; rw [if_neg (fun z => q (Or.inl z.1)), if_neg (fun z => q (Or.inr (Or.inl z.1))), if_neg (fun z => q (Or.inr (Or.inr (Or.inl z.1)))), if_neg (fun z => q (Or.inr (Or.inr (Or.inr (Or.inl z.1))))), if_neg (fun z => q (Or.inr (Or.inr (Or.inr (Or.inr (Or.inl z.1)))))), if_neg (fun z => q (Or.inr (Or.inr (Or.inr (Or.inr (Or.inr z)))))) ])
          have e21 := eσ21
          rw [show σ10.I 555 44 = σ.I 555 44 + 0 by (rw [h10 _ _ (by omega)]; omega)] at e21
          have v21 : σ21.I 555 30 = σ10.I 555 30 := h21 _ _ (by decide)
          have d21 : σ21.I 555 45 = σ10.I 555 45 := h21 _ _ (by decide)
          refine ⟨?_, ?_⟩
          · omega
          refine ⟨?_, ?_⟩
          · (first | omega | (clear ih0 ih1 ih2 ih3; grind (splits := 16) (ematch := 30) (gen := 30) [-Prod, inR, inL, bd_0_20_at, = fI_wI, = sx8_sx8, = R_wI, = sh_wI, = n_wI]))
          refine ⟨?_, ?_⟩
          · (first | omega | (clear ih0 ih1 ih2 ih3; grind (splits := 16) (ematch := 30) (gen := 30) [-Prod, inR, inL, bd_0_20_at, = fI_wI, = sx8_sx8, = R_wI, = sh_wI, = n_wI]))
          rintro y26 σ25 ⟨y26f, y26fq⟩ gσ25 ⟨eσ25_0, ⟨⟨eσ25_1r, eσ25_1s, eσ25_1n⟩, eσ25_1⟩⟩
          have kσ25 : KAM (σ.I 555 30) (σ.I 555 38) (σ.I 555 44) σ21 σ25 := KAM_rd eσ25_1r eσ25_1s eσ25_1n eσ25_1 (fun c i hP => by unfold wsAM at hP; first | grind | grind (splits := 40))
          have h25 : ∀ c i, c ≠ 582 → ¬ at2 c i 555 30 → σ25.I c i = σ21.I c i := fun c i a b => (by rw [eσ25_1]; show (if at2 c i _ _ then _ else if at2 c i _ _ then _ else _) = _; rw [if_neg (fun z => a z.1), if_neg b])
          refine RVI_mk ?_ ?_
          · (first | exact ⟨by omega, by omega⟩ | (clear ih0 ih1 ih2 ih3; grind (splits := 16) (ematch := 30) (gen := 30) [-Prod, inR, inL, bd_0_20_at, = fI_wI, = sx8_sx8, = R_wI, = sh_wI, = n_wI]))
          · refine ⟨?_, ?_, ?_⟩
            · (clear ih0 ih1 ih2 ih3; refine Or.inr (Or.inr ⟨i2, i3, ?_, (Ch.tr (Ch.tr (Ch.tr (Ch.tr i0 kσ6) kσ10) kσ21) kσ25), ⟨?_, ?_, ?_⟩, ⟨?_, ?_, ?_, ?_, ?_, ?_⟩, ?_, ?_, ?_⟩); (rw [eσ25_0, h21 _ _ (by omega), h21 _ _ (by omega), h10 _ _ (by omega), h10 _ _ (by omega)]; first | omega | grind (splits := 16) (ematch := 30) (gen := 30) [-Prod, inR, inL, bd_0_20_at, = fI_wI, = sx8_sx8, = R_wI, = sh_wI, = n_wI]); (grind (splits := 16) (ematch := 30) (gen := 30) [-Prod, inR, inL, bd_0_20_at, = fI_wI, = sx8_sx8, = R_wI, = sh_wI, = n_wI]); (grind (splits := 16) (ematch := 30) (gen := 30) [-Prod, inR, inL, bd_0_20_at, = fI_wI, = sx8_sx8, = R_wI, = sh_wI, = n_wI]); (rw [hLw (by omega)]; show _ = _ + (1 : Int); grind (splits := 16) (ematch := 30) (gen := 30) [-Prod, inR, inL, bd_0_20_at, = fI_wI, = sx8_sx8, = R_wI, = sh_wI, = n_wI]); (grind (splits := 16) (ematch := 30) (gen := 30) [-Prod, inR, inL, bd_0_20_at, = fI_wI, = sx8_sx8, = R_wI, = sh_wI, = n_wI]); (grind (splits := 16) (ematch := 30) (gen := 30) [-Prod, inR, inL, bd_0_20_at, = fI_wI, = sx8_sx8, = R_wI, = sh_wI, = n_wI]); (grind (splits := 16) (ematch := 30) (gen := 30) [-Prod, inR, inL, bd_0_20_at, = fI_wI, = sx8_sx8, = R_wI, = sh_wI, = n_wI]); (grind (splits := 16) (ematch := 30) (gen := 30) [-Prod, inR, inL, bd_0_20_at, = fI_wI, = sx8_sx8, = R_wI, = sh_wI, = n_wI]); (rw [hLw (by omega)]; show _ = _ + (1 : Int); grind (splits := 16) (ematch := 30) (gen := 30) [-Prod, inR, inL, bd_0_20_at, = fI_wI, = sx8_sx8, = R_wI, = sh_wI, = n_wI]); (grind (splits := 16) (ematch := 30) (gen := 30) [-Prod, inR, inL, bd_0_20_at, = fI_wI, = sx8_sx8, = R_wI, = sh_wI, = n_wI]); (intro k a b; show σ25.I 585 _ = _; rw [h25 _ _ (by decide) (by omega), h21 _ _ (by omega), h10 _ _ (by omega)]; exact i8 k a (by omega)); (rw [hLw (by omega)]; refine LTN_fr (n := 1) ?_ (fun c i a b => h25 c i (by omega) (by omega)); exact LTN_lay (n := 0) (fun j a b => by omega) (Int.le_refl _) (fun j a b => by omega) e21 rfl rfl rfl rfl (fun k a b => (h10 o2 (x3 + k) (by omega)).trans (Ch.at i0 (by unfold wsAM wsB; omega)))); (rw [hLw (by omega)]; show RSM σ σ25 (_ + (1 : Int)); exact RSM_tr (RSM_tr (k := σ.I 555 44) i11 (b := σ.I 555 44) (fun c i a b d => h10 c i (by omega)) (by omega) (by omega)) (RSM_tr (k := σ.I 555 44 + 1) (RSM_lay e21) (b := 0) (fun c i a b d => h25 c i (by omega) (by omega)) (by omega) (by omega)) (by omega) (by omega)))
            · (clear ih0 ih1 ih2 ih3; first | (intro i h0 h1; rw [eσ33, I_ne _ _ _ _ (by decide)]; first | exact i9 i h0 h1 | exact i10 i h0 h1) | (intro i h0 h1; rw [h25 _ _ (by decide) (by omega)]; grind (splits := 16) (ematch := 30) (gen := 30) [-Prod, inR, inL, bd_0_20_at, = fI_wI, = sx8_sx8, = R_wI, = sh_wI, = n_wI]) | (intro i h0 h1; rw [h10 _ _ (by omega)]; first | exact i9 i h0 h1 | exact i10 i h0 h1))
            · (clear ih0 ih1 ih2 ih3; first | (intro i h0 h1; rw [eσ33, I_ne _ _ _ _ (by decide)]; first | exact i9 i h0 h1 | exact i10 i h0 h1) | (intro i h0 h1; rw [h25 _ _ (by decide) (by omega)]; grind (splits := 16) (ematch := 30) (gen := 30) [-Prod, inR, inL, bd_0_20_at, = fI_wI, = sx8_sx8, = R_wI, = sh_wI, = n_wI]) | (intro i h0 h1; rw [h10 _ _ (by omega)]; first | exact i9 i h0 h1 | exact i10 i h0 h1))
        · refine ih3 _ _ ((gτ.tr gσ6).tr gσ10) ⟨?_, ?_, ?_, ?_, ?_, ?_, ?_, ?_, ?_, ?_, ?_, ?_, ?_, ?_⟩ ?_
          · exact (Ch.tr (Ch.tr i0 kσ6) kσ10)
          · (first | omega | (clear ih0 ih1 ih2 ih3; grind (splits := 16) (ematch := 30) (gen := 30) [-Prod, inR, inL, bd_0_20_at, = fI_wI, = sx8_sx8, = R_wI, = sh_wI, = n_wI]))
          · (first | omega | (clear ih0 ih1 ih2 ih3; grind (splits := 16) (ematch := 30) (gen := 30) [-Prod, inR, inL, bd_0_20_at, = fI_wI, = sx8_sx8, = R_wI, = sh_wI, = n_wI]))
          · (first | omega | (clear ih0 ih1 ih2 ih3; grind (splits := 16) (ematch := 30) (gen := 30) [-Prod, inR, inL, bd_0_20_at, = fI_wI, = sx8_sx8, = R_wI, = sh_wI, = n_wI]))
          · (clear ih0 ih1 ih2 ih3; (exact TLM_fr (i4 (by omega)) (h10 _ _ (by omega)) (fun c a b => funext fun i => h10 _ _ (by omega))))
          · (first | omega | (clear ih0 ih1 ih2 ih3; grind (splits := 16) (ematch := 30) (gen := 30) [-Prod, inR, inL, bd_0_20_at, = fI_wI, = sx8_sx8, = R_wI, = sh_wI, = n_wI]))
          · (first | omega | (clear ih0 ih1 ih2 ih3; grind (splits := 16) (ematch := 30) (gen := 30) [-Prod, inR, inL, bd_0_20_at, = fI_wI, = sx8_sx8, = R_wI, = sh_wI, = n_wI]))
          · (first | omega | (clear ih0 ih1 ih2 ih3; grind (splits := 16) (ematch := 30) (gen := 30) [-Prod, inR, inL, bd_0_20_at, = fI_wI, = sx8_sx8, = R_wI, = sh_wI, = n_wI]))
          · (clear ih0 ih1 ih2 ih3; first | (intro k a b; show σ10.I 585 _ = _; rw [h10 _ _ (by omega)]; exact i8 k a (by omega)) | (intro k a b; show σ33.I 585 (σ.I 555 38 + k) = _; rw [eσ33]; rcases (show k < x6 ∨ k = x6 by omega) with q | q; (rw [I_nj _ _ _ _ (by omega)]; exact i8 k a q); (subst q; rw [i6.2.1, I_same, sx8_id (by omega) (by omega)]; exact Ch.at i0 (by unfold wsAM wsB; omega))))
          · (first | omega | (clear ih0 ih1 ih2 ih3; grind (splits := 16) (ematch := 30) (gen := 30) [-Prod, inR, inL, bd_0_20_at, = fI_wI, = sx8_sx8, = R_wI, = sh_wI, = n_wI]))
          · (clear ih0 ih1 ih2 ih3; exact (fun j a b => by omega))
          · (clear ih0 ih1 ih2 ih3; first | (intro i h0 h1; rw [eσ33, I_ne _ _ _ _ (by decide)]; first | exact i9 i h0 h1 | exact i10 i h0 h1) | (intro i h0 h1; rw [h25 _ _ (by decide) (by omega)]; grind (splits := 16) (ematch := 30) (gen := 30) [-Prod, inR, inL, bd_0_20_at, = fI_wI, = sx8_sx8, = R_wI, = sh_wI, = n_wI]) | (intro i h0 h1; rw [h10 _ _ (by omega)]; first | exact i9 i h0 h1 | exact i10 i h0 h1))
          · (clear ih0 ih1 ih2 ih3; first | (intro i h0 h1; rw [eσ33, I_ne _ _ _ _ (by decide)]; first | exact i9 i h0 h1 | exact i10 i h0 h1) | (intro i h0 h1; rw [h25 _ _ (by decide) (by omega)]; grind (splits := 16) (ematch := 30) (gen := 30) [-Prod, inR, inL, bd_0_20_at, = fI_wI, = sx8_sx8, = R_wI, = sh_wI, = n_wI]) | (intro i h0 h1; rw [h10 _ _ (by omega)]; first | exact i9 i h0 h1 | exact i10 i h0 h1))
          · (clear ih0 ih1 ih2 ih3; first | exact RSM_tr i11 (b := 0) (fun c i a b d => by rw [eσ33]; exact I_ne _ _ _ _ (by omega)) (by omega) (by omega) | exact RSM_tr i11 (b := 0) (fun c i a b d => h10 c i (by omega)) (by omega) (by omega))
          · (unfold lt3; first | omega | (clear ih0 ih1 ih2 ih3; grind (splits := 16) (ematch := 30) (gen := 30) [-Prod, inR, inL, bd_0_20_at, = fI_wI, = sx8_sx8, = R_wI, = sh_wI, = n_wI]))
      · rintro ⟨f7, f7q⟩
        refine ⟨?_, ?_⟩
        · (first | omega | (clear ih0 ih1 ih2 ih3; grind (splits := 16) (ematch := 30) (gen := 30) [-Prod, inR, inL, bd_0_20_at, = fI_wI, = sx8_sx8, = R_wI, = sh_wI, = n_wI]))
        refine ⟨?_, ?_⟩
        · (first | omega | (clear ih0 ih1 ih2 ih3; grind (splits := 16) (ematch := 30) (gen := 30) [-Prod, inR, inL, bd_0_20_at, = fI_wI, = sx8_sx8, = R_wI, = sh_wI, = n_wI]))
        rintro ⟨f8, f8q⟩
        refine ⟨?_, ?_⟩
        · (first | omega | (clear ih0 ih1 ih2 ih3; grind (splits := 16) (ematch := 30) (gen := 30) [-Prod, inR, inL, bd_0_20_at, = fI_wI, = sx8_sx8, = R_wI, = sh_wI, = n_wI]))
        refine ⟨?_, ?_⟩
        · (first | omega | (clear ih0 ih1 ih2 ih3; grind (splits := 16) (ematch := 30) (gen := 30) [-Prod, inR, inL, bd_0_20_at, = fI_wI, = sx8_sx8, = R_wI, = sh_wI, = n_wI]))
        intro σ33 eσ33 gσ33
        have kσ33 : KAM (σ.I 555 30) (σ.I 555 38) (σ.I 555 44) τ σ33 := KAM_w eσ33 (by unfold wsAM; omega)
        refine ih2 _ _ _ (gτ.tr gσ33) ⟨?_, ?_, ?_, ?_, ?_, ?_, ?_, ?_, ?_, ?_, ?_, ?_⟩ ?_
        · exact (Ch.tr i0 kσ33)
        · (first | omega | (clear ih0 ih1 ih2 ih3; grind (splits := 16) (ematch := 30) (gen := 30) [-Prod, inR, inL, bd_0_20_at, = fI_wI, = sx8_sx8, = R_wI, = sh_wI, = n_wI]))
        · (first | omega | (clear ih0 ih1 ih2 ih3; grind (splits := 16) (ematch := 30) (gen := 30) [-Prod, inR, inL, bd_0_20_at, = fI_wI, = sx8_sx8, = R_wI, = sh_wI, = n_wI]))
        · (first | omega | (clear ih0 ih1 ih2 ih3; grind (splits := 16) (ematch := 30) (gen := 30) [-Prod, inR, inL, bd_0_20_at, = fI_wI, = sx8_sx8, = R_wI, = sh_wI, = n_wI]))
        · (clear ih0 ih1 ih2 ih3; (intro h; exact TLM_fr (i4 h) (by rw [eσ33]; exact I_ne _ _ _ _ (by decide)) (fun c a b => funext fun i => (by rw [eσ33]; exact I_ne _ _ _ _ (by omega)))))
        · (first | omega | (clear ih0 ih1 ih2 ih3; grind (splits := 16) (ematch := 30) (gen := 30) [-Prod, inR, inL, bd_0_20_at, = fI_wI, = sx8_sx8, = R_wI, = sh_wI, = n_wI]))
        · (first | omega | (clear ih0 ih1 ih2 ih3; grind (splits := 16) (ematch := 30) (gen := 30) [-Prod, inR, inL, bd_0_20_at, = fI_wI, = sx8_sx8, = R_wI, = sh_wI, = n_wI]))
        · (first | omega | (clear ih0 ih1 ih2 ih3; grind (splits := 16) (ematch := 30) (gen := 30) [-Prod, inR, inL, bd_0_20_at, = fI_wI, = sx8_sx8, = R_wI, = sh_wI, = n_wI]))
        · (clear ih0 ih1 ih2 ih3; first | (intro k a b; show σ10.I 585 _ = _; rw [h10 _ _ (by omega)]; exact i8 k a (by omega)) | (intro k a b; show σ33.I 585 (σ.I 555 38 + k) = _; rw [eσ33]; rcases (show k < x6 ∨ k = x6 by omega) with q | q; (rw [I_nj _ _ _ _ (by omega)]; exact i8 k a q); (subst q; rw [i6.2.1, I_same, sx8_id (by omega) (by omega)]; exact Ch.at i0 (by unfold wsAM wsB; omega))))
        · (clear ih0 ih1 ih2 ih3; first | (intro i h0 h1; rw [eσ33, I_ne _ _ _ _ (by decide)]; first | exact i9 i h0 h1 | exact i10 i h0 h1) | (intro i h0 h1; rw [h25 _ _ (by decide) (by omega)]; grind (splits := 16) (ematch := 30) (gen := 30) [-Prod, inR, inL, bd_0_20_at, = fI_wI, = sx8_sx8, = R_wI, = sh_wI, = n_wI]) | (intro i h0 h1; rw [h10 _ _ (by omega)]; first | exact i9 i h0 h1 | exact i10 i h0 h1))
        · (clear ih0 ih1 ih2 ih3; first | (intro i h0 h1; rw [eσ33, I_ne _ _ _ _ (by decide)]; first | exact i9 i h0 h1 | exact i10 i h0 h1) | (intro i h0 h1; rw [h25 _ _ (by decide) (by omega)]; grind (splits := 16) (ematch := 30) (gen := 30) [-Prod, inR, inL, bd_0_20_at, = fI_wI, = sx8_sx8, = R_wI, = sh_wI, = n_wI]) | (intro i h0 h1; rw [h10 _ _ (by omega)]; first | exact i9 i h0 h1 | exact i10 i h0 h1))
        · (clear ih0 ih1 ih2 ih3; first | exact RSM_tr i11 (b := 0) (fun c i a b d => by rw [eσ33]; exact I_ne _ _ _ _ (by omega)) (by omega) (by omega) | exact RSM_tr i11 (b := 0) (fun c i a b d => h10 c i (by omega)) (by omega) (by omega))
        · (unfold lt3; first | omega | (clear ih0 ih1 ih2 ih3; grind (splits := 16) (ematch := 30) (gen := 30) [-Prod, inR, inL, bd_0_20_at, = fI_wI, = sx8_sx8, = R_wI, = sh_wI, = n_wI]))
    · rintro x6 τ gτ ⟨i0, i1, i2, i3, i4, i5, i6, i7, i8, i9, i10, i11, i12, i13⟩ ha hb hc
      subst ha hb hc
      have htl := i4.2.1
      have htc := i4.1
      have dt := Ch.at i0 (c := 555) (i := 45) (by unfold wsAM wsB; omega)
      have hrA := fun (h : x6 < τ.I 555 19) => (i4.2.2 x6 i7.1 (by omega)).1
      refine ucX9_textOf_157W  (hL.sf gτ)  ?_
      rintro ⟨f1, f1q⟩
      refine ⟨?_, ?_⟩
      · (first | exact ⟨by omega, by omega⟩ | (clear ih0 ih1 ih2 ih3; grind (splits := 16) (ematch := 30) (gen := 30) [-Prod, inR, inL, bd_0_20_at, = fI_wI, = sx8_sx8, = R_wI, = sh_wI, = n_wI]))
      refine ⟨fun c2 => ?_, fun c3 => ?_⟩
      · refine ⟨?_, ?_⟩
        · omega
        refine ⟨?_, ?_⟩
        · (first | omega | (clear ih0 ih1 ih2 ih3; grind (splits := 16) (ematch := 30) (gen := 30) [-Prod, inR, inL, bd_0_20_at, = fI_wI, = sx8_sx8, = R_wI, = sh_wI, = n_wI]))
        refine ⟨?_, ?_⟩
        · (first | omega | (clear ih0 ih1 ih2 ih3; grind (splits := 16) (ematch := 30) (gen := 30) [-Prod, inR, inL, bd_0_20_at, = fI_wI, = sx8_sx8, = R_wI, = sh_wI, = n_wI]))
        rintro y8 σ7 ⟨y8f, y8fq⟩ gσ7 ⟨eσ7_0, ⟨⟨eσ7_1r, eσ7_1s, eσ7_1n⟩, eσ7_1⟩⟩
        have kσ7 : KAM (σ.I 555 30) (σ.I 555 38) (σ.I 555 44) τ σ7 := KAM_rd eσ7_1r eσ7_1s eσ7_1n eσ7_1 (fun c i hP => by unfold wsAM at hP; first | grind | grind (splits := 40))
        have h7 : ∀ c i, c ≠ 582 → ¬ at2 c i 555 30 → σ7.I c i = τ.I c i := fun c i a b => (by rw [eσ7_1]; show (if at2 c i _ _ then _ else if at2 c i _ _ then _ else _) = _; rw [if_neg (fun z => a z.1), if_neg b])
        refine RVI_mk ?_ ?_
        · (first | exact ⟨by omega, by omega⟩ | (clear ih0 ih1 ih2 ih3; grind (splits := 16) (ematch := 30) (gen := 30) [-Prod, inR, inL, bd_0_20_at, = fI_wI, = sx8_sx8, = R_wI, = sh_wI, = n_wI]))
        · refine ⟨?_, ?_, ?_⟩
          · (clear ih0 ih1 ih2 ih3; refine Or.inr (Or.inr ⟨i2, i3, ?_, (Ch.tr i0 kσ7), ⟨?_, ?_, ?_⟩, ⟨?_, ?_, ?_, ?_, ?_, ?_⟩, ?_, ?_, ?_⟩); (rw [eσ7_0, i6.1]; have q := Ch.at i0 (c := 555) (i := 45) (by unfold wsAM wsB; omega); omega); (grind (splits := 16) (ematch := 30) (gen := 30) [-Prod, inR, inL, bd_0_20_at, = fI_wI, = sx8_sx8, = R_wI, = sh_wI, = n_wI]); (grind (splits := 16) (ematch := 30) (gen := 30) [-Prod, inR, inL, bd_0_20_at, = fI_wI, = sx8_sx8, = R_wI, = sh_wI, = n_wI]); (rw [h7 _ _ (by decide) (by omega)]; have q := i4.1; omega); (grind (splits := 16) (ematch := 30) (gen := 30) [-Prod, inR, inL, bd_0_20_at, = fI_wI, = sx8_sx8, = R_wI, = sh_wI, = n_wI]); (grind (splits := 16) (ematch := 30) (gen := 30) [-Prod, inR, inL, bd_0_20_at, = fI_wI, = sx8_sx8, = R_wI, = sh_wI, = n_wI]); (grind (splits := 16) (ematch := 30) (gen := 30) [-Prod, inR, inL, bd_0_20_at, = fI_wI, = sx8_sx8, = R_wI, = sh_wI, = n_wI]); (grind (splits := 16) (ematch := 30) (gen := 30) [-Prod, inR, inL, bd_0_20_at, = fI_wI, = sx8_sx8, = R_wI, = sh_wI, = n_wI]); (have q := i4.1; grind (splits := 16) (ematch := 30) (gen := 30) [-Prod, inR, inL, bd_0_20_at, = fI_wI, = sx8_sx8, = R_wI, = sh_wI, = n_wI]); (grind (splits := 16) (ematch := 30) (gen := 30) [-Prod, inR, inL, bd_0_20_at, = fI_wI, = sx8_sx8, = R_wI, = sh_wI, = n_wI]); (intro k a b; show σ7.I 585 _ = _; rw [h7 _ _ (by decide) (by omega)]; exact i8 k a b); (have q : (lT σ x1 (σ.I o2) x3 x4).1 = x6 := (by have q := i4.1; omega); rw [q]; exact LTN_fr i10 (fun c i a b => h7 c i (by omega) (by omega))); (have q := i4.1; exact RSM_tr i13 (b := 0) (fun c i a b d => h7 c i (by omega) (by omega)) (by omega) (by omega)))
          · (clear ih0 ih1 ih2 ih3; first | (intro i h0 h1; rw [h7 _ _ (by decide) (by omega)]; first | exact i11 i h0 h1 | exact i12 i h0 h1) | (intro i h0 h1; rw [h29 _ _ (by omega)]; exact i11 i h0 h1) | (intro i h0 h1; have q := i12 i h0 h1; grind (splits := 16) (ematch := 30) (gen := 30) [-Prod, inR, inL, bd_0_20_at, = fI_wI, = sx8_sx8, = R_wI, = sh_wI, = n_wI]))
          · (clear ih0 ih1 ih2 ih3; first | (intro i h0 h1; rw [h7 _ _ (by decide) (by omega)]; first | exact i11 i h0 h1 | exact i12 i h0 h1) | (intro i h0 h1; rw [h29 _ _ (by omega)]; exact i11 i h0 h1) | (intro i h0 h1; have q := i12 i h0 h1; grind (splits := 16) (ematch := 30) (gen := 30) [-Prod, inR, inL, bd_0_20_at, = fI_wI, = sx8_sx8, = R_wI, = sh_wI, = n_wI]))
      · refine ⟨?_, ?_⟩
        · (first | omega | (clear ih0 ih1 ih2 ih3; grind (splits := 16) (ematch := 30) (gen := 30) [-Prod, inR, inL, bd_0_20_at, = fI_wI, = sx8_sx8, = R_wI, = sh_wI, = n_wI]))
        refine ⟨?_, ?_⟩
        · (first | omega | (clear ih0 ih1 ih2 ih3; grind (splits := 16) (ematch := 30) (gen := 30) [-Prod, inR, inL, bd_0_20_at, = fI_wI, = sx8_sx8, = R_wI, = sh_wI, = n_wI]))
        rintro ⟨f4, f4q⟩
        refine ⟨?_, ?_⟩
        · (first | omega | (clear ih0 ih1 ih2 ih3; grind (splits := 16) (ematch := 30) (gen := 30) [-Prod, inR, inL, bd_0_20_at, = fI_wI, = sx8_sx8, = R_wI, = sh_wI, = n_wI]))
        refine ⟨?_, ?_⟩
        · (first | omega | (clear ih0 ih1 ih2 ih3; grind (splits := 16) (ematch := 30) (gen := 30) [-Prod, inR, inL, bd_0_20_at, = fI_wI, = sx8_sx8, = R_wI, = sh_wI, = n_wI]))
        rintro ⟨f5, f5q⟩
        refine ⟨?_, ?_⟩
        · (first | omega | (clear ih0 ih1 ih2 ih3; grind (splits := 16) (ematch := 30) (gen := 30) [-Prod, inR, inL, bd_0_20_at, = fI_wI, = sx8_sx8, = R_wI, = sh_wI, = n_wI]))
        refine ⟨?_, ?_⟩
        · (first | omega | (clear ih0 ih1 ih2 ih3; grind (splits := 16) (ematch := 30) (gen := 30) [-Prod, inR, inL, bd_0_20_at, = fI_wI, = sx8_sx8, = R_wI, = sh_wI, = n_wI]))
        rintro ⟨f6, f6q⟩
        refine ⟨?_, ?_⟩
        · (first | omega | (clear ih0 ih1 ih2 ih3; grind (splits := 16) (ematch := 30) (gen := 30) [-Prod, inR, inL, bd_0_20_at, = fI_wI, = sx8_sx8, = R_wI, = sh_wI, = n_wI]))
        refine ⟨?_, ?_⟩
        · (first | omega | (clear ih0 ih1 ih2 ih3; grind (splits := 16) (ematch := 30) (gen := 30) [-Prod, inR, inL, bd_0_20_at, = fI_wI, = sx8_sx8, = R_wI, = sh_wI, = n_wI]))
        rintro ⟨f7, f7q⟩
        refine ⟨?_, ?_⟩
        · omega
        refine ⟨?_, ?_⟩
        · (first | omega | (clear ih0 ih1 ih2 ih3; grind (splits := 16) (ematch := 30) (gen := 30) [-Prod, inR, inL, bd_0_20_at, = fI_wI, = sx8_sx8, = R_wI, = sh_wI, = n_wI]))
        refine ⟨?_, ?_⟩
        · (first | omega | (clear ih0 ih1 ih2 ih3; grind (splits := 16) (ematch := 30) (gen := 30) [-Prod, inR, inL, bd_0_20_at, = fI_wI, = sx8_sx8, = R_wI, = sh_wI, = n_wI]))
        refine ⟨?_, ?_⟩
        · (first | omega | (clear ih0 ih1 ih2 ih3; grind (splits := 16) (ematch := 30) (gen := 30) [-Prod, inR, inL, bd_0_20_at, = fI_wI, = sx8_sx8, = R_wI, = sh_wI, = n_wI]))
        refine ⟨?_, ?_⟩
        · (first | omega | (clear ih0 ih1 ih2 ih3; grind (splits := 16) (ematch := 30) (gen := 30) [-Prod, inR, inL, bd_0_20_at, = fI_wI, = sx8_sx8, = R_wI, = sh_wI, = n_wI]))
        refine ⟨?_, ?_⟩
        · (first | omega | (clear ih0 ih1 ih2 ih3; grind (splits := 16) (ematch := 30) (gen := 30) [-Prod, inR, inL, bd_0_20_at, = fI_wI, = sx8_sx8, = R_wI, = sh_wI, = n_wI]))
        refine ⟨?_, ?_⟩
        · (first | omega | (clear ih0 ih1 ih2 ih3; grind (splits := 16) (ematch := 30) (gen := 30) [-Prod, inR, inL, bd_0_20_at, = fI_wI, = sx8_sx8, = R_wI, = sh_wI, = n_wI]))
        refine ⟨?_, ?_⟩
        · (first | omega | (clear ih0 ih1 ih2 ih3; grind (splits := 16) (ematch := 30) (gen := 30) [-Prod, inR, inL, bd_0_20_at, = fI_wI, = sx8_sx8, = R_wI, = sh_wI, = n_wI]))
        rintro σ29 gσ29 ⟨⟨eσ29r, eσ29s, eσ29n⟩, eσ29⟩
        have kσ29 : KAM (σ.I 555 30) (σ.I 555 38) (σ.I 555 44) τ σ29 := KAM_rd eσ29r eσ29s eσ29n eσ29 (fun c i hP => by unfold wsAM at hP; first | grind | grind (splits := 40))
        have h29 : ∀ c i, ¬ (c = 587 ∨ c = 586 ∨ c = 588 ∨ c = 589 ∨ c = 590 ∨ at2 c i 555 44) → σ29.I c i = τ.I c i := fun c i q => (by rw [eσ29]; show (if at2 c i _ _ then _ else if rg c i _ _ _ then _ else if at2 c i _ _ then _ else if at2 c i _ _ then _ else if at2 c i _ _ then _ else if at2 c i _ _ then _ else _) = _; rw [if_neg (fun z => q (Or.inl z.1)), if_neg (fun z => q (Or.inr (Or.inl z.1))), if_neg (fun z => q (Or.inr (Or.inr (Or.inl z.1)))), if_neg (fun z => q (Or.inr (Or.inr (Or.inr (Or.inl z.1))))), if_neg (fun z => q (Or.inr (Or.inr (Or.inr (Or.inr (Or.inl z.1)))))), if_neg (fun z => q (Or.inr (Or.inr (Or.inr (Or.inr (Or.inr z)))))) ])
        have e29 := eσ29
        rw [i6.2.2] at e29
        have hrw := i4.2.2 x6 i7.1 (by have q := i4.1; omega)
        refine ih3 _ _ (gτ.tr gσ29) ⟨?_, ?_, ?_, ?_, ?_, ?_, ?_, ?_, ?_, ?_, ?_, ?_, ?_, ?_⟩ ?_
        · exact (Ch.tr i0 kσ29)
        · (first | omega | (clear ih0 ih1 ih2 ih3; grind (splits := 16) (ematch := 30) (gen := 30) [-Prod, inR, inL, bd_0_20_at, = fI_wI, = sx8_sx8, = R_wI, = sh_wI, = n_wI]))
        · (first | omega | (clear ih0 ih1 ih2 ih3; grind (splits := 16) (ematch := 30) (gen := 30) [-Prod, inR, inL, bd_0_20_at, = fI_wI, = sx8_sx8, = R_wI, = sh_wI, = n_wI]))
        · (first | omega | (clear ih0 ih1 ih2 ih3; grind (splits := 16) (ematch := 30) (gen := 30) [-Prod, inR, inL, bd_0_20_at, = fI_wI, = sx8_sx8, = R_wI, = sh_wI, = n_wI]))
        · (clear ih0 ih1 ih2 ih3; exact TLM_fr i4 (h29 _ _ (by omega)) (fun c a b => funext fun i => h29 _ _ (by omega)))
        · (first | omega | (clear ih0 ih1 ih2 ih3; grind (splits := 16) (ematch := 30) (gen := 30) [-Prod, inR, inL, bd_0_20_at, = fI_wI, = sx8_sx8, = R_wI, = sh_wI, = n_wI]))
        · (first | omega | (clear ih0 ih1 ih2 ih3; grind (splits := 16) (ematch := 30) (gen := 30) [-Prod, inR, inL, bd_0_20_at, = fI_wI, = sx8_sx8, = R_wI, = sh_wI, = n_wI]))
        · (first | omega | (clear ih0 ih1 ih2 ih3; grind (splits := 16) (ematch := 30) (gen := 30) [-Prod, inR, inL, bd_0_20_at, = fI_wI, = sx8_sx8, = R_wI, = sh_wI, = n_wI]))
        · (clear ih0 ih1 ih2 ih3; (intro k a b; show σ29.I 585 _ = _; rw [h29 _ _ (by omega)]; exact i8 k a b))
        · (first | omega | (clear ih0 ih1 ih2 ih3; grind (splits := 16) (ematch := 30) (gen := 30) [-Prod, inR, inL, bd_0_20_at, = fI_wI, = sx8_sx8, = R_wI, = sh_wI, = n_wI]))
        · (clear ih0 ih1 ih2 ih3; exact LTN_lay i10 i7.1 (fun j a b => (i4.2.2 j a (by omega)).1.2.2) e29 hrw.1.1 hrw.2.1.1 hrw.2.1.2.1 hrw.2.1.2.2 (fun k a b => hrw.2.2 k a (by have z := hrw.1.1; omega)))
        · (clear ih0 ih1 ih2 ih3; first | (intro i h0 h1; rw [h7 _ _ (by decide) (by omega)]; first | exact i11 i h0 h1 | exact i12 i h0 h1) | (intro i h0 h1; rw [h29 _ _ (by omega)]; exact i11 i h0 h1) | (intro i h0 h1; have q := i12 i h0 h1; grind (splits := 16) (ematch := 30) (gen := 30) [-Prod, inR, inL, bd_0_20_at, = fI_wI, = sx8_sx8, = R_wI, = sh_wI, = n_wI]))
        · (clear ih0 ih1 ih2 ih3; first | (intro i h0 h1; rw [h7 _ _ (by decide) (by omega)]; first | exact i11 i h0 h1 | exact i12 i h0 h1) | (intro i h0 h1; rw [h29 _ _ (by omega)]; exact i11 i h0 h1) | (intro i h0 h1; have q := i12 i h0 h1; grind (splits := 16) (ematch := 30) (gen := 30) [-Prod, inR, inL, bd_0_20_at, = fI_wI, = sx8_sx8, = R_wI, = sh_wI, = n_wI]))
        · (clear ih0 ih1 ih2 ih3; exact RSM_tr i13 (RSM_lay e29) (by omega) (by omega))
        · (unfold lt3; first | omega | (clear ih0 ih1 ih2 ih3; grind (splits := 16) (ematch := 30) (gen := 30) [-Prod, inR, inL, bd_0_20_at, = fI_wI, = sx8_sx8, = R_wI, = sh_wI, = n_wI]))
  have k0_ : ∀ (x5 : Int) (τ : Sto), SF σ τ → ((τ = σ) ∧ (0 ≤ x5 ∧ x5 ≤ 1) ∧ (x5 = 1 ↔ (0 ≤ x1 ∧ x1 < σ.I 555 27 ∧ σ.I 577 x1 = 0)) ∧ ((0 ≤ x1 ∧ x1 < σ.I 555 27 ∧ σ.I 577 x1 = 0) ∨ (0 ≤ x1 ∧ x1 < σ.I 555 27 ∧ σ.I 577 x1 = 1))) → VV E mX9_textOf (d + 1) 22 [(0, aO 555), (1, aI (x1)), (2, aO o2), (3, aI (x3)), (4, aI (x4)), (5, aI (x5))] [] τ (RVI (fun y τ => ((¬ (((0 ≤ x1 ∧ x1 < σ.I 555 27 ∧ σ.I 577 x1 = 0) ∨ ((0 ≤ x1 ∧ x1 < σ.I 555 27 ∧ σ.I 577 x1 = 1) ∧ x4 ≠ 0)) ∧ x4 ≤ 1000) ∧ y = -1 ∧ τ = σ) ∨ ((((0 ≤ x1 ∧ x1 < σ.I 555 27 ∧ σ.I 577 x1 = 0) ∨ ((0 ≤ x1 ∧ x1 < σ.I 555 27 ∧ σ.I 577 x1 = 1) ∧ x4 ≠ 0)) ∧ x4 ≤ 1000) ∧ (σ.I 555 30 - σ.I 555 45 = 24 ∨ 60000 < σ.I 555 38 + x4 ∨ 24000 < σ.I 555 44 + (lT σ x1 (σ.I o2) x3 x4).1 ∨ σ.I 555 30 = 6000) ∧ y = -3 ∧ KB σ τ) ∨ ((((0 ≤ x1 ∧ x1 < σ.I 555 27 ∧ σ.I 577 x1 = 0) ∨ ((0 ≤ x1 ∧ x1 < σ.I 555 27 ∧ σ.I 577 x1 = 1) ∧ x4 ≠ 0)) ∧ x4 ≤ 1000) ∧ ¬ (σ.I 555 30 - σ.I 555 45 = 24 ∨ 60000 < σ.I 555 38 + x4 ∨ 24000 < σ.I 555 44 + (lT σ x1 (σ.I o2) x3 x4).1 ∨ σ.I 555 30 = 6000) ∧ y = σ.I 555 30 + 1 - σ.I 555 45 ∧ TXM σ τ x1 (σ.I o2) x3 x4 (lT σ x1 (σ.I o2) x3 x4))) ∧ (bd_0_20 τ 573 300) ∧ (bd_0_20 τ 587 24000))) := fun z0 z1 h0 h1 => (key _ _ _).1 z0 z1 h0 h1 rfl rfl rfl
  have k1_ : ∀ (x5 : Int) (τ : Sto), SF σ τ → ((τ = σ) ∧ (0 ≤ x5 ∧ x5 ≤ 1) ∧ (x5 = 1 ↔ (0 ≤ x1 ∧ x1 < σ.I 555 27 ∧ σ.I 577 x1 = 0)) ∧ ((((0 ≤ x1 ∧ x1 < σ.I 555 27 ∧ σ.I 577 x1 = 0) ∨ ((0 ≤ x1 ∧ x1 < σ.I 555 27 ∧ σ.I 577 x1 = 1) ∧ x4 ≠ 0)) ∧ x4 ≤ 1000))) → VV E mX9_textOf (d + 1) 42 [(0, aO 555), (1, aI (x1)), (2, aO o2), (3, aI (x3)), (4, aI (x4)), (5, aI (x5))] [] τ (RVI (fun y τ => ((¬ (((0 ≤ x1 ∧ x1 < σ.I 555 27 ∧ σ.I 577 x1 = 0) ∨ ((0 ≤ x1 ∧ x1 < σ.I 555 27 ∧ σ.I 577 x1 = 1) ∧ x4 ≠ 0)) ∧ x4 ≤ 1000) ∧ y = -1 ∧ τ = σ) ∨ ((((0 ≤ x1 ∧ x1 < σ.I 555 27 ∧ σ.I 577 x1 = 0) ∨ ((0 ≤ x1 ∧ x1 < σ.I 555 27 ∧ σ.I 577 x1 = 1) ∧ x4 ≠ 0)) ∧ x4 ≤ 1000) ∧ (σ.I 555 30 - σ.I 555 45 = 24 ∨ 60000 < σ.I 555 38 + x4 ∨ 24000 < σ.I 555 44 + (lT σ x1 (σ.I o2) x3 x4).1 ∨ σ.I 555 30 = 6000) ∧ y = -3 ∧ KB σ τ) ∨ ((((0 ≤ x1 ∧ x1 < σ.I 555 27 ∧ σ.I 577 x1 = 0) ∨ ((0 ≤ x1 ∧ x1 < σ.I 555 27 ∧ σ.I 577 x1 = 1) ∧ x4 ≠ 0)) ∧ x4 ≤ 1000) ∧ ¬ (σ.I 555 30 - σ.I 555 45 = 24 ∨ 60000 < σ.I 555 38 + x4 ∨ 24000 < σ.I 555 44 + (lT σ x1 (σ.I o2) x3 x4).1 ∨ σ.I 555 30 = 6000) ∧ y = σ.I 555 30 + 1 - σ.I 555 45 ∧ TXM σ τ x1 (σ.I o2) x3 x4 (lT σ x1 (σ.I o2) x3 x4))) ∧ (bd_0_20 τ 573 300) ∧ (bd_0_20 τ 587 24000))) := fun z0 z1 h0 h1 => (key _ _ _).2.1 z0 z1 h0 h1 rfl rfl rfl
  have k2_ : ∀ (x5 : Int) (x6 : Int) (τ : Sto), SF σ τ → ((KAM (σ.I 555 30) (σ.I 555 38) (σ.I 555 44) σ τ) ∧ ((0 ≤ x5 ∧ x5 ≤ 1) ∧ (x5 = 1 ↔ (0 ≤ x1 ∧ x1 < σ.I 555 27 ∧ σ.I 577 x1 = 0))) ∧ ((((0 ≤ x1 ∧ x1 < σ.I 555 27 ∧ σ.I 577 x1 = 0) ∨ ((0 ≤ x1 ∧ x1 < σ.I 555 27 ∧ σ.I 577 x1 = 1) ∧ x4 ≠ 0)) ∧ x4 ≤ 1000)) ∧ (¬ (σ.I 555 30 - σ.I 555 45 = 24 ∨ 60000 < σ.I 555 38 + x4 ∨ 24000 < σ.I 555 44 + (lT σ x1 (σ.I o2) x3 x4).1 ∨ σ.I 555 30 = 6000)) ∧ (x5 = 1 → TLM τ (lT σ x1 (σ.I o2) x3 x4)) ∧ (τ.I 579 (σ.I 555 30) = x1 ∧ τ.I 580 (σ.I 555 30) = σ.I 555 38 ∧ τ.I 582 (σ.I 555 30) = σ.I 555 44 ∧ τ.I 583 (σ.I 555 30) = 0) ∧ (τ.I 555 30 = σ.I 555 30 ∧ τ.I 555 38 = σ.I 555 38 ∧ τ.I 555 44 = σ.I 555 44) ∧ (0 ≤ x6 ∧ x6 ≤ x4) ∧ (alN (fun k => τ.I 585 (σ.I 555 38 + k) = (σ.I o2) (x3 + k)) x6) ∧ (bd_0_20 τ 573 300) ∧ (bd_0_20 τ 587 24000) ∧ (RSM σ τ (σ.I 555 44))) → VV E mX9_textOf (d + 1) 96 [(0, aO 555), (2, aO o2), (3, aI (x3)), (4, aI (x4)), (5, aI (x5)), (6, aI (x6))] [] τ (RVI (fun y τ => ((¬ (((0 ≤ x1 ∧ x1 < σ.I 555 27 ∧ σ.I 577 x1 = 0) ∨ ((0 ≤ x1 ∧ x1 < σ.I 555 27 ∧ σ.I 577 x1 = 1) ∧ x4 ≠ 0)) ∧ x4 ≤ 1000) ∧ y = -1 ∧ τ = σ) ∨ ((((0 ≤ x1 ∧ x1 < σ.I 555 27 ∧ σ.I 577 x1 = 0) ∨ ((0 ≤ x1 ∧ x1 < σ.I 555 27 ∧ σ.I 577 x1 = 1) ∧ x4 ≠ 0)) ∧ x4 ≤ 1000) ∧ (σ.I 555 30 - σ.I 555 45 = 24 ∨ 60000 < σ.I 555 38 + x4 ∨ 24000 < σ.I 555 44 + (lT σ x1 (σ.I o2) x3 x4).1 ∨ σ.I 555 30 = 6000) ∧ y = -3 ∧ KB σ τ) ∨ ((((0 ≤ x1 ∧ x1 < σ.I 555 27 ∧ σ.I 577 x1 = 0) ∨ ((0 ≤ x1 ∧ x1 < σ.I 555 27 ∧ σ.I 577 x1 = 1) ∧ x4 ≠ 0)) ∧ x4 ≤ 1000) ∧ ¬ (σ.I 555 30 - σ.I 555 45 = 24 ∨ 60000 < σ.I 555 38 + x4 ∨ 24000 < σ.I 555 44 + (lT σ x1 (σ.I o2) x3 x4).1 ∨ σ.I 555 30 = 6000) ∧ y = σ.I 555 30 + 1 - σ.I 555 45 ∧ TXM σ τ x1 (σ.I o2) x3 x4 (lT σ x1 (σ.I o2) x3 x4))) ∧ (bd_0_20 τ 573 300) ∧ (bd_0_20 τ 587 24000))) := fun z0 z1 z2 h0 h1 => (key _ _ _).2.2.1 z0 z1 z2 h0 h1 rfl rfl rfl
  have k3_ : ∀ (x6 : Int) (τ : Sto), SF σ τ → ((KAM (σ.I 555 30) (σ.I 555 38) (σ.I 555 44) σ τ) ∧ ((0 ≤ x1 ∧ x1 < σ.I 555 27 ∧ σ.I 577 x1 = 0)) ∧ ((((0 ≤ x1 ∧ x1 < σ.I 555 27 ∧ σ.I 577 x1 = 0) ∨ ((0 ≤ x1 ∧ x1 < σ.I 555 27 ∧ σ.I 577 x1 = 1) ∧ x4 ≠ 0)) ∧ x4 ≤ 1000)) ∧ (¬ (σ.I 555 30 - σ.I 555 45 = 24 ∨ 60000 < σ.I 555 38 + x4 ∨ 24000 < σ.I 555 44 + (lT σ x1 (σ.I o2) x3 x4).1 ∨ σ.I 555 30 = 6000)) ∧ (TLM τ (lT σ x1 (σ.I o2) x3 x4)) ∧ (τ.I 579 (σ.I 555 30) = x1 ∧ τ.I 580 (σ.I 555 30) = σ.I 555 38 ∧ τ.I 582 (σ.I 555 30) = σ.I 555 44 ∧ τ.I 583 (σ.I 555 30) = 0) ∧ (τ.I 555 30 = σ.I 555 30 ∧ τ.I 555 38 = σ.I 555 38 + x4 ∧ τ.I 555 44 = σ.I 555 44 + x6) ∧ (0 ≤ x6 ∧ x6 ≤ (lT σ x1 (σ.I o2) x3 x4).1) ∧ (alN (fun k => τ.I 585 (σ.I 555 38 + k) = (σ.I o2) (x3 + k)) x4) ∧ (τ.I 581 (σ.I 555 30) = x4) ∧ (LTN τ (σ.I 555 44) (lT σ x1 (σ.I o2) x3 x4) x6) ∧ (bd_0_20 τ 573 300) ∧ (bd_0_20 τ 587 24000) ∧ (RSM σ τ ((σ.I 555 44) + x6))) → VV E mX9_textOf (d + 1) 157 [(0, aO 555), (6, aI (x6))] [] τ (RVI (fun y τ => ((¬ (((0 ≤ x1 ∧ x1 < σ.I 555 27 ∧ σ.I 577 x1 = 0) ∨ ((0 ≤ x1 ∧ x1 < σ.I 555 27 ∧ σ.I 577 x1 = 1) ∧ x4 ≠ 0)) ∧ x4 ≤ 1000) ∧ y = -1 ∧ τ = σ) ∨ ((((0 ≤ x1 ∧ x1 < σ.I 555 27 ∧ σ.I 577 x1 = 0) ∨ ((0 ≤ x1 ∧ x1 < σ.I 555 27 ∧ σ.I 577 x1 = 1) ∧ x4 ≠ 0)) ∧ x4 ≤ 1000) ∧ (σ.I 555 30 - σ.I 555 45 = 24 ∨ 60000 < σ.I 555 38 + x4 ∨ 24000 < σ.I 555 44 + (lT σ x1 (σ.I o2) x3 x4).1 ∨ σ.I 555 30 = 6000) ∧ y = -3 ∧ KB σ τ) ∨ ((((0 ≤ x1 ∧ x1 < σ.I 555 27 ∧ σ.I 577 x1 = 0) ∨ ((0 ≤ x1 ∧ x1 < σ.I 555 27 ∧ σ.I 577 x1 = 1) ∧ x4 ≠ 0)) ∧ x4 ≤ 1000) ∧ ¬ (σ.I 555 30 - σ.I 555 45 = 24 ∨ 60000 < σ.I 555 38 + x4 ∨ 24000 < σ.I 555 44 + (lT σ x1 (σ.I o2) x3 x4).1 ∨ σ.I 555 30 = 6000) ∧ y = σ.I 555 30 + 1 - σ.I 555 45 ∧ TXM σ τ x1 (σ.I o2) x3 x4 (lT σ x1 (σ.I o2) x3 x4))) ∧ (bd_0_20 τ 573 300) ∧ (bd_0_20 τ 587 24000))) := fun z0 z1 h0 h1 => (key _ _ _).2.2.2 z0 z1 h0 h1 rfl rfl rfl
  clear key
  refine ucX9_textOf_0W  hL ho2 ?_
  refine ⟨?_, ?_⟩
  · omega
  refine ⟨?_, ?_⟩
  · (first | omega | (clear k0_ k1_ k2_ k3_; grind (splits := 16) (ematch := 30) (gen := 30) [-Prod, inR, inL, bd_0_20_at, = fI_wI, = sx8_sx8, = R_wI, = sh_wI, = n_wI]))
  refine ⟨?_, ?_⟩
  · (first | omega | (clear k0_ k1_ k2_ k3_; grind (splits := 16) (ematch := 30) (gen := 30) [-Prod, inR, inL, bd_0_20_at, = fI_wI, = sx8_sx8, = R_wI, = sh_wI, = n_wI]))
  refine ⟨?_, ?_⟩
  · (first | omega | (clear k0_ k1_ k2_ k3_; grind (splits := 16) (ematch := 30) (gen := 30) [-Prod, inR, inL, bd_0_20_at, = fI_wI, = sx8_sx8, = R_wI, = sh_wI, = n_wI]))
  rintro y5 ⟨y5f, y5fq⟩ y5e
  refine ⟨fun c1 => ?_, fun c2 => ?_⟩
  · refine k0_ _ _ SF.rf ⟨?_, ?_, ?_, ?_⟩
    · (first | omega | (clear k0_ k1_ k2_ k3_; grind (splits := 16) (ematch := 30) (gen := 30) [-Prod, inR, inL, bd_0_20_at, = fI_wI, = sx8_sx8, = R_wI, = sh_wI, = n_wI]))
    · (first | omega | (clear k0_ k1_ k2_ k3_; grind (splits := 16) (ematch := 30) (gen := 30) [-Prod, inR, inL, bd_0_20_at, = fI_wI, = sx8_sx8, = R_wI, = sh_wI, = n_wI]))
    · (first | omega | (clear k0_ k1_ k2_ k3_; grind (splits := 16) (ematch := 30) (gen := 30) [-Prod, inR, inL, bd_0_20_at, = fI_wI, = sx8_sx8, = R_wI, = sh_wI, = n_wI]))
    · (first | omega | (clear k0_ k1_ k2_ k3_; grind (splits := 16) (ematch := 30) (gen := 30) [-Prod, inR, inL, bd_0_20_at, = fI_wI, = sx8_sx8, = R_wI, = sh_wI, = n_wI]))
  · refine ⟨?_, ?_⟩
    · omega
    refine ⟨?_, ?_⟩
    · (first | omega | (clear k0_ k1_ k2_ k3_; grind (splits := 16) (ematch := 30) (gen := 30) [-Prod, inR, inL, bd_0_20_at, = fI_wI, = sx8_sx8, = R_wI, = sh_wI, = n_wI]))
    refine ⟨?_, ?_⟩
    · (first | omega | (clear k0_ k1_ k2_ k3_; grind (splits := 16) (ematch := 30) (gen := 30) [-Prod, inR, inL, bd_0_20_at, = fI_wI, = sx8_sx8, = R_wI, = sh_wI, = n_wI]))
    refine ⟨?_, ?_⟩
    · (first | omega | (clear k0_ k1_ k2_ k3_; grind (splits := 16) (ematch := 30) (gen := 30) [-Prod, inR, inL, bd_0_20_at, = fI_wI, = sx8_sx8, = R_wI, = sh_wI, = n_wI]))
    refine ⟨fun c3 => ?_, fun c4 => ?_⟩
    · refine k0_ _ _ SF.rf ⟨?_, ?_, ?_, ?_⟩
      · (first | omega | (clear k0_ k1_ k2_ k3_; grind (splits := 16) (ematch := 30) (gen := 30) [-Prod, inR, inL, bd_0_20_at, = fI_wI, = sx8_sx8, = R_wI, = sh_wI, = n_wI]))
      · (first | omega | (clear k0_ k1_ k2_ k3_; grind (splits := 16) (ematch := 30) (gen := 30) [-Prod, inR, inL, bd_0_20_at, = fI_wI, = sx8_sx8, = R_wI, = sh_wI, = n_wI]))
      · (first | omega | (clear k0_ k1_ k2_ k3_; grind (splits := 16) (ematch := 30) (gen := 30) [-Prod, inR, inL, bd_0_20_at, = fI_wI, = sx8_sx8, = R_wI, = sh_wI, = n_wI]))
      · (first | omega | (clear k0_ k1_ k2_ k3_; grind (splits := 16) (ematch := 30) (gen := 30) [-Prod, inR, inL, bd_0_20_at, = fI_wI, = sx8_sx8, = R_wI, = sh_wI, = n_wI]))
    · refine RVI_mk ?_ ?_
      · (first | exact ⟨by omega, by omega⟩ | (clear k0_ k1_ k2_ k3_; grind (splits := 16) (ematch := 30) (gen := 30) [-Prod, inR, inL, bd_0_20_at, = fI_wI, = sx8_sx8, = R_wI, = sh_wI, = n_wI]))
      · refine ⟨?_, ?_, ?_⟩
        · (clear k0_ k1_ k2_ k3_; exact Or.inl ⟨by omega, rfl, rfl⟩)
        · (clear k0_ k1_ k2_ k3_; first | exact p9 | exact p10)
        · (clear k0_ k1_ k2_ k3_; first | exact p9 | exact p10)
