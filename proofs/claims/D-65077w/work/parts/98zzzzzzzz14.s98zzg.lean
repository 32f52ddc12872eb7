set_option maxRecDepth 100000
set_option maxHeartbeats 1200000
theorem DX9_markLeaf_0W : DD cX9_markLeaf 0 1 1 (.aload_n 0) := ⟨by decide +kernel, rfl⟩
theorem DX9_markLeaf_1W : DD cX9_markLeaf 1 3 4 (.getfield 186) := ⟨by decide +kernel, rfl⟩
theorem DX9_markLeaf_4W : DD cX9_markLeaf 4 1 5 (.iload_n 1) := ⟨by decide +kernel, rfl⟩
theorem DX9_markLeaf_5W : DD cX9_markLeaf 5 1 6 (.iaload) := ⟨by decide +kernel, rfl⟩
theorem DX9_markLeaf_6W : DD cX9_markLeaf 6 2 8 (.istore 4) := ⟨by decide +kernel, rfl⟩
theorem DX9_markLeaf_8W : DD cX9_markLeaf 8 1 9 (.aload_n 0) := ⟨by decide +kernel, rfl⟩
theorem DX9_markLeaf_9W : DD cX9_markLeaf 9 3 12 (.getfield 201) := ⟨by decide +kernel, rfl⟩
theorem DX9_markLeaf_12W : DD cX9_markLeaf 12 1 13 (.iload_n 1) := ⟨by decide +kernel, rfl⟩
theorem DX9_markLeaf_13W : DD cX9_markLeaf 13 1 14 (.iaload) := ⟨by decide +kernel, rfl⟩
theorem DX9_markLeaf_14W : DD cX9_markLeaf 14 1 15 (.iload_n 3) := ⟨by decide +kernel, rfl⟩
theorem DX9_markLeaf_15W : DD cX9_markLeaf 15 3 18 (.if_icmp .ne 39) := ⟨by decide +kernel, rfl⟩
theorem DX9_markLeaf_18W : DD cX9_markLeaf 18 2 20 (.iload 4) := ⟨by decide +kernel, rfl⟩
theorem DX9_markLeaf_20W : DD cX9_markLeaf 20 2 22 (.bipush 7) := ⟨by decide +kernel, rfl⟩
theorem DX9_markLeaf_22W : DD cX9_markLeaf 22 3 25 (.if_icmp .eq 17) := ⟨by decide +kernel, rfl⟩
theorem DX9_markLeaf_25W : DD cX9_markLeaf 25 2 27 (.iload 4) := ⟨by decide +kernel, rfl⟩
theorem DX9_markLeaf_27W : DD cX9_markLeaf 27 2 29 (.bipush 11) := ⟨by decide +kernel, rfl⟩
theorem DX9_markLeaf_29W : DD cX9_markLeaf 29 3 32 (.if_icmp .eq 10) := ⟨by decide +kernel, rfl⟩
theorem DX9_markLeaf_32W : DD cX9_markLeaf 32 2 34 (.iload 4) := ⟨by decide +kernel, rfl⟩
theorem DX9_markLeaf_34W : DD cX9_markLeaf 34 2 36 (.bipush 12) := ⟨by decide +kernel, rfl⟩
theorem DX9_markLeaf_36W : DD cX9_markLeaf 36 3 39 (.if_icmp .ne 18) := ⟨by decide +kernel, rfl⟩
theorem DX9_markLeaf_39W : DD cX9_markLeaf 39 1 40 (.aload_n 0) := ⟨by decide +kernel, rfl⟩
theorem DX9_markLeaf_40W : DD cX9_markLeaf 40 3 43 (.getfield 284) := ⟨by decide +kernel, rfl⟩
theorem DX9_markLeaf_43W : DD cX9_markLeaf 43 3 46 (.sipush 601) := ⟨by decide +kernel, rfl⟩
theorem DX9_markLeaf_46W : DD cX9_markLeaf 46 1 47 (.iload_n 1) := ⟨by decide +kernel, rfl⟩
theorem DX9_markLeaf_47W : DD cX9_markLeaf 47 1 48 (.imul) := ⟨by decide +kernel, rfl⟩
theorem DX9_markLeaf_48W : DD cX9_markLeaf 48 1 49 (.iload_n 2) := ⟨by decide +kernel, rfl⟩
theorem DX9_markLeaf_49W : DD cX9_markLeaf 49 1 50 (.iadd) := ⟨by decide +kernel, rfl⟩
theorem DX9_markLeaf_50W : DD cX9_markLeaf 50 1 51 (.baload) := ⟨by decide +kernel, rfl⟩
theorem DX9_markLeaf_51W : DD cX9_markLeaf 51 3 54 (.ifCond .ne 4) := ⟨by decide +kernel, rfl⟩
theorem DX9_markLeaf_54W : DD cX9_markLeaf 54 1 55 (.return_) := ⟨by decide +kernel, rfl⟩
theorem DX9_markLeaf_55W : DD cX9_markLeaf 55 2 57 (.iload 4) := ⟨by decide +kernel, rfl⟩
theorem DX9_markLeaf_57W : DD cX9_markLeaf 57 2 59 (.bipush 7) := ⟨by decide +kernel, rfl⟩
theorem DX9_markLeaf_59W : DD cX9_markLeaf 59 3 62 (.if_icmp .ne 8) := ⟨by decide +kernel, rfl⟩
theorem DX9_markLeaf_62W : DD cX9_markLeaf 62 1 63 (.aload_n 0) := ⟨by decide +kernel, rfl⟩
theorem DX9_markLeaf_63W : DD cX9_markLeaf 63 1 64 (.iload_n 1) := ⟨by decide +kernel, rfl⟩
theorem DX9_markLeaf_64W : DD cX9_markLeaf 64 3 67 (.invokevirtual 1009) := ⟨by decide +kernel, rfl⟩
theorem DX9_markLeaf_67W : DD cX9_markLeaf 67 1 68 (.aload_n 0) := ⟨by decide +kernel, rfl⟩
theorem DX9_markLeaf_68W : DD cX9_markLeaf 68 3 71 (.getfield 141) := ⟨by decide +kernel, rfl⟩
theorem DX9_markLeaf_71W : DD cX9_markLeaf 71 1 72 (.iload_n 2) := ⟨by decide +kernel, rfl⟩
theorem DX9_markLeaf_72W : DD cX9_markLeaf 72 1 73 (.iaload) := ⟨by decide +kernel, rfl⟩
theorem DX9_markLeaf_73W : DD cX9_markLeaf 73 2 75 (.istore 5) := ⟨by decide +kernel, rfl⟩
theorem DX9_markLeaf_75W : DD cX9_markLeaf 75 2 77 (.iload 5) := ⟨by decide +kernel, rfl⟩
theorem DX9_markLeaf_77W : DD cX9_markLeaf 77 1 78 (.aload_n 0) := ⟨by decide +kernel, rfl⟩
theorem DX9_markLeaf_78W : DD cX9_markLeaf 78 1 79 (.iload_n 2) := ⟨by decide +kernel, rfl⟩
theorem DX9_markLeaf_79W : DD cX9_markLeaf 79 3 82 (.invokevirtual 836) := ⟨by decide +kernel, rfl⟩
theorem DX9_markLeaf_82W : DD cX9_markLeaf 82 3 85 (.if_icmp .ge 110) := ⟨by decide +kernel, rfl⟩
theorem DX9_markLeaf_85W : DD cX9_markLeaf 85 1 86 (.aload_n 0) := ⟨by decide +kernel, rfl⟩
theorem DX9_markLeaf_86W : DD cX9_markLeaf 86 3 89 (.getfield 90) := ⟨by decide +kernel, rfl⟩
theorem DX9_markLeaf_89W : DD cX9_markLeaf 89 2 91 (.iload 5) := ⟨by decide +kernel, rfl⟩
theorem DX9_markLeaf_91W : DD cX9_markLeaf 91 1 92 (.iaload) := ⟨by decide +kernel, rfl⟩
theorem DX9_markLeaf_92W : DD cX9_markLeaf 92 1 93 (.iload_n 3) := ⟨by decide +kernel, rfl⟩
theorem DX9_markLeaf_93W : DD cX9_markLeaf 93 3 96 (.if_icmp .ne 93) := ⟨by decide +kernel, rfl⟩
theorem DX9_markLeaf_96W : DD cX9_markLeaf 96 1 97 (.aload_n 0) := ⟨by decide +kernel, rfl⟩
theorem DX9_markLeaf_97W : DD cX9_markLeaf 97 3 100 (.getfield 278) := ⟨by decide +kernel, rfl⟩
theorem DX9_markLeaf_100W : DD cX9_markLeaf 100 1 101 (.iload_n 3) := ⟨by decide +kernel, rfl⟩
theorem DX9_markLeaf_101W : DD cX9_markLeaf 101 1 102 (.baload) := ⟨by decide +kernel, rfl⟩
theorem DX9_markLeaf_102W : DD cX9_markLeaf 102 3 105 (.ifCond .eq 84) := ⟨by decide +kernel, rfl⟩
theorem DX9_markLeaf_105W : DD cX9_markLeaf 105 2 107 (.iload 4) := ⟨by decide +kernel, rfl⟩
theorem DX9_markLeaf_107W : DD cX9_markLeaf 107 2 109 (.bipush 7) := ⟨by decide +kernel, rfl⟩
theorem DX9_markLeaf_109W : DD cX9_markLeaf 109 3 112 (.if_icmp .ne 16) := ⟨by decide +kernel, rfl⟩
theorem DX9_markLeaf_112W : DD cX9_markLeaf 112 1 113 (.aload_n 0) := ⟨by decide +kernel, rfl⟩
theorem DX9_markLeaf_113W : DD cX9_markLeaf 113 1 114 (.iload_n 1) := ⟨by decide +kernel, rfl⟩
theorem DX9_markLeaf_114W : DD cX9_markLeaf 114 2 116 (.iload 5) := ⟨by decide +kernel, rfl⟩
theorem DX9_markLeaf_116W : DD cX9_markLeaf 116 3 119 (.invokevirtual 938) := ⟨by decide +kernel, rfl⟩
theorem DX9_markLeaf_119W : DD cX9_markLeaf 119 3 122 (.ifCond .ne 6) := ⟨by decide +kernel, rfl⟩
theorem DX9_markLeaf_122W : DD cX9_markLeaf 122 3 125 (.goto 64) := ⟨by decide +kernel, rfl⟩
theorem DX9_markLeaf_125W : DD cX9_markLeaf 125 1 126 (.aload_n 0) := ⟨by decide +kernel, rfl⟩
theorem DX9_markLeaf_126W : DD cX9_markLeaf 126 3 129 (.getfield 99) := ⟨by decide +kernel, rfl⟩
theorem DX9_markLeaf_129W : DD cX9_markLeaf 129 2 131 (.iload 5) := ⟨by decide +kernel, rfl⟩
theorem DX9_markLeaf_131W : DD cX9_markLeaf 131 1 132 (.iaload) := ⟨by decide +kernel, rfl⟩
theorem DX9_markLeaf_132W : DD cX9_markLeaf 132 2 134 (.istore 6) := ⟨by decide +kernel, rfl⟩
theorem DX9_markLeaf_134W : DD cX9_markLeaf 134 2 136 (.iload 6) := ⟨by decide +kernel, rfl⟩
theorem DX9_markLeaf_136W : DD cX9_markLeaf 136 1 137 (.aload_n 0) := ⟨by decide +kernel, rfl⟩
theorem DX9_markLeaf_137W : DD cX9_markLeaf 137 3 140 (.getfield 99) := ⟨by decide +kernel, rfl⟩
theorem DX9_markLeaf_140W : DD cX9_markLeaf 140 2 142 (.iload 5) := ⟨by decide +kernel, rfl⟩
theorem DX9_markLeaf_142W : DD cX9_markLeaf 142 1 143 (.iconst 1) := ⟨by decide +kernel, rfl⟩
theorem DX9_markLeaf_143W : DD cX9_markLeaf 143 1 144 (.iadd) := ⟨by decide +kernel, rfl⟩
theorem DX9_markLeaf_144W : DD cX9_markLeaf 144 1 145 (.iaload) := ⟨by decide +kernel, rfl⟩
theorem DX9_markLeaf_145W : DD cX9_markLeaf 145 3 148 (.if_icmp .ge 41) := ⟨by decide +kernel, rfl⟩
theorem DX9_markLeaf_148W : DD cX9_markLeaf 148 1 149 (.aload_n 0) := ⟨by decide +kernel, rfl⟩
theorem DX9_markLeaf_149W : DD cX9_markLeaf 149 3 152 (.getfield 327) := ⟨by decide +kernel, rfl⟩
theorem DX9_markLeaf_152W : DD cX9_markLeaf 152 2 154 (.iload 6) := ⟨by decide +kernel, rfl⟩
theorem DX9_markLeaf_154W : DD cX9_markLeaf 154 1 155 (.aload_n 0) := ⟨by decide +kernel, rfl⟩
theorem DX9_markLeaf_155W : DD cX9_markLeaf 155 3 158 (.getfield 327) := ⟨by decide +kernel, rfl⟩
theorem DX9_markLeaf_158W : DD cX9_markLeaf 158 2 160 (.iload 6) := ⟨by decide +kernel, rfl⟩
theorem DX9_markLeaf_160W : DD cX9_markLeaf 160 1 161 (.baload) := ⟨by decide +kernel, rfl⟩
theorem DX9_markLeaf_161W : DD cX9_markLeaf 161 3 164 (.ifCond .ne 13) := ⟨by decide +kernel, rfl⟩
theorem DX9_markLeaf_164W : DD cX9_markLeaf 164 1 165 (.aload_n 0) := ⟨by decide +kernel, rfl⟩
theorem DX9_markLeaf_165W : DD cX9_markLeaf 165 1 166 (.iload_n 1) := ⟨by decide +kernel, rfl⟩
theorem DX9_markLeaf_166W : DD cX9_markLeaf 166 2 168 (.iload 6) := ⟨by decide +kernel, rfl⟩
theorem DX9_markLeaf_168W : DD cX9_markLeaf 168 3 171 (.invokevirtual 1012) := ⟨by decide +kernel, rfl⟩
theorem DX9_markLeaf_171W : DD cX9_markLeaf 171 3 174 (.ifCond .eq 7) := ⟨by decide +kernel, rfl⟩
theorem DX9_markLeaf_174W : DD cX9_markLeaf 174 1 175 (.iconst 1) := ⟨by decide +kernel, rfl⟩
theorem DX9_markLeaf_175W : DD cX9_markLeaf 175 3 178 (.goto 4) := ⟨by decide +kernel, rfl⟩
theorem DX9_markLeaf_178W : DD cX9_markLeaf 178 1 179 (.iconst 0) := ⟨by decide +kernel, rfl⟩
theorem DX9_markLeaf_179W : DD cX9_markLeaf 179 1 180 (.bastore) := ⟨by decide +kernel, rfl⟩
theorem DX9_markLeaf_180W : DD cX9_markLeaf 180 3 183 (.iinc 6 1) := ⟨by decide +kernel, rfl⟩
theorem DX9_markLeaf_183W : DD cX9_markLeaf 183 3 186 (.goto (-49)) := ⟨by decide +kernel, rfl⟩
theorem DX9_markLeaf_186W : DD cX9_markLeaf 186 3 189 (.iinc 5 1) := ⟨by decide +kernel, rfl⟩
theorem DX9_markLeaf_189W : DD cX9_markLeaf 189 3 192 (.goto (-114)) := ⟨by decide +kernel, rfl⟩
theorem DX9_markLeaf_192W : DD cX9_markLeaf 192 1 193 (.return_) := ⟨by decide +kernel, rfl⟩
theorem ucX9_markLeaf_0W {E : XE} {d : Nat} {σ : Sto} {Q : Res → Sto → Prop} {x1 : Int} {x2 : Int} {x3 : Int} (hL : Lay σ)  (h : 0 ≤ x1 ∧ x1 < 130 ∧ (inR (σ.I 609 x1) → 0 ≤ x1 ∧ x1 < 130 ∧ (inR (σ.I 614 x1) → inR x3 ∧ ((σ.I 614 x1) ≠ x3 → Q (.inl none) σ) ∧ ((σ.I 614 x1) = x3 → ((σ.I 609 x1) = 7 → 0 ≤ ((601 * x1) + x2) ∧ ((601 * x1) + x2) < 78130 ∧ (0 ≤ σ.I 641 ((601 * x1) + x2) ∧ σ.I 641 ((601 * x1) + x2) ≤ 1 → ((σ.I 641 ((601 * x1) + x2)) ≠ 0 → 2 ≤ d ∧ (0 ≤ x1 ∧ x1 < 130 ∧ x1 < σ.I 555 80) ∧ (σ.I 609 x1 = 7) ∧ (HBD σ) ∧ (WKC σ) ∧ (∀ σ20 : Sto, SF σ σ20 → ((BRP σ σ20 x1) ∧ (WKC σ20) ∧ (KBr σ σ20)) → 0 ≤ x2 ∧ x2 < 601 ∧ (inR (σ20.I 595 x2) → VV E mX9_markLeaf (d + 1) 75 [(0, aO 555), (1, aI (x1)), (2, aI (x2)), (3, aI (x3)), (4, aI (σ.I 609 x1)), (5, aI (σ20.I 595 x2))] [] σ20 Q))) ∧ ((σ.I 641 ((601 * x1) + x2)) = 0 → Q (.inl none) σ))) ∧ ((σ.I 609 x1) ≠ 7 → ((σ.I 609 x1) = 11 → 0 ≤ ((601 * x1) + x2) ∧ ((601 * x1) + x2) < 78130 ∧ (0 ≤ σ.I 641 ((601 * x1) + x2) ∧ σ.I 641 ((601 * x1) + x2) ≤ 1 → ((σ.I 641 ((601 * x1) + x2)) ≠ 0 → 0 ≤ x2 ∧ x2 < 601 ∧ (inR (σ.I 595 x2) → VV E mX9_markLeaf (d + 1) 75 [(0, aO 555), (1, aI (x1)), (2, aI (x2)), (3, aI (x3)), (4, aI (σ.I 609 x1)), (5, aI (σ.I 595 x2))] [] σ Q)) ∧ ((σ.I 641 ((601 * x1) + x2)) = 0 → Q (.inl none) σ))) ∧ ((σ.I 609 x1) ≠ 11 → ((σ.I 609 x1) ≠ 12 → Q (.inl none) σ) ∧ ((σ.I 609 x1) = 12 → 0 ≤ ((601 * x1) + x2) ∧ ((601 * x1) + x2) < 78130 ∧ (0 ≤ σ.I 641 ((601 * x1) + x2) ∧ σ.I 641 ((601 * x1) + x2) ≤ 1 → ((σ.I 641 ((601 * x1) + x2)) ≠ 0 → 0 ≤ x2 ∧ x2 < 601 ∧ (inR (σ.I 595 x2) → VV E mX9_markLeaf (d + 1) 75 [(0, aO 555), (1, aI (x1)), (2, aI (x2)), (3, aI (x3)), (4, aI (σ.I 609 x1)), (5, aI (σ.I 595 x2))] [] σ Q)) ∧ ((σ.I 641 ((601 * x1) + x2)) = 0 → Q (.inl none) σ))))))))) : VV E mX9_markLeaf (d + 1) 0 [(0, aO 555), (1, aI (x1)), (2, aI (x2)), (3, aI (x3))] [] σ Q := by
  refine v_aload_n 0 DX9_markLeaf_0W rfl rfl <| w_getR (ci := 9) (kf := 81) (kz := 81) DX9_markLeaf_1W (s_555 hL) rfl (by decide) rfl (Or.inl q2305) (fun _ _ => rfl) (r_555_81 hL) <| v_iload_n 1 DX9_markLeaf_4W rfl rfl <| ?_
  obtain ⟨k1, k2, h⟩ := h
  refine v_iald DX9_markLeaf_5W (s_609 hL) k1 k2 (fun f3 => ?_)
  have h := h f3
  refine v_istore DX9_markLeaf_6W (by decide) rfl <| v_aload_n 1 DX9_markLeaf_8W rfl rfl <| w_getR (ci := 9) (kf := 86) (kz := 86) DX9_markLeaf_9W (s_555 hL) rfl (by decide) rfl (Or.inl q2310) (fun _ _ => rfl) (r_555_86 hL) <| v_iload_n 2 DX9_markLeaf_12W rfl rfl <| ?_
  obtain ⟨k4, k5, h⟩ := h
  refine v_iald DX9_markLeaf_13W (s_614 hL) k4 k5 (fun f6 => ?_)
  have h := h f6
  refine v_iload_n 4 DX9_markLeaf_14W rfl rfl <| ?_
  obtain ⟨k7, h⟩ := h
  refine v_icmp_ne (tg := 54) DX9_markLeaf_15W (by decide) f6 k7 (fun c8 => ?_) (fun c8 => ?_)
  · have h := h.1 c8
    exact v_vret DX9_markLeaf_54W rfl h
  · have h := h.2 c8
    refine v_iload 0 DX9_markLeaf_18W rfl <| v_bipush DX9_markLeaf_20W ⟨by decide, by decide⟩ <| ?_
    refine v_icmp_eq (tg := 39) DX9_markLeaf_22W (by decide) f3 ⟨by decide, by decide⟩ (fun c9 => ?_) (fun c9 => ?_)
    · have h := h.1 c9
      refine v_aload_n 1 DX9_markLeaf_39W rfl rfl <| w_getR (ci := 9) (kf := 121) (kz := 121) DX9_markLeaf_40W (s_555 hL) rfl (by decide) rfl (Or.inl q2345) (fun _ _ => rfl) (r_555_121 hL) <| v_sipush DX9_markLeaf_43W ⟨by decide, by decide⟩ <| v_iload_n 2 DX9_markLeaf_46W rfl rfl <| v_imul DX9_markLeaf_47W <| v_iload_n 3 DX9_markLeaf_48W rfl rfl <| v_iadd DX9_markLeaf_49W <| ?_
      obtain ⟨k10, k11, h⟩ := h
      refine v_zald DX9_markLeaf_50W (s_641 hL) k10 k11 (fun f12 => ?_)
      have h := h f12
      refine v_if_ne (tg := 55) DX9_markLeaf_51W (by decide) (inR_z f12) (fun c13 => ?_) (fun c13 => ?_)
      · have h := h.1 c13
        refine v_iload 0 DX9_markLeaf_55W rfl <| v_bipush DX9_markLeaf_57W ⟨by decide, by decide⟩ <| ?_
        refine v_icmp_ne (tg := 67) DX9_markLeaf_59W (by decide) f3 ⟨by decide, by decide⟩ (fun c14 => absurd c14 (by omega)) (fun c14 => ?_)
        refine v_aload_n 1 DX9_markLeaf_62W rfl rfl <| v_iload_n 2 DX9_markLeaf_63W rfl rfl <| ?_
        obtain ⟨k15, h⟩ := h
        obtain ⟨k16, k17, k18, k19, h⟩ := h
        refine v_invV (ci := 9) (as := [aI (x1)]) (st := []) DX9_markLeaf_64W rfl okX9_bringPlaces (Or.inl q3445) q3447 (s_555 hL) rfl qs220 npX9_bringPlaces (sp_X9_bringPlaces (σ := σ) (x1 := x1) k15 hL k16 k17 k18 k19) (Nat.le_of_ble_eq_true rfl) (Nat.le_refl _) (Nat.le_of_ble_eq_true rfl) (RV_ret (fun σ20 gσ20 eσ20 => ?_)) RV_thr
        have h := h σ20 gσ20 eσ20
        refine v_aload_n 1 DX9_markLeaf_67W rfl rfl <| w_getR (ci := 9) (kf := 50) (kz := 50) DX9_markLeaf_68W (s_555 (hL.sf gσ20)) rfl (by decide) rfl (Or.inl q2274) (fun _ _ => rfl) (r_555_50 (hL.sf gσ20)) <| v_iload_n 3 DX9_markLeaf_71W rfl rfl <| ?_
        obtain ⟨k21, k22, h⟩ := h
        refine v_iald DX9_markLeaf_72W (s_595 (hL.sf gσ20)) k21 k22 (fun f23 => ?_)
        have h := h f23
        refine v_istore DX9_markLeaf_73W (by decide) rfl <| ?_
        exact v_pick [2, 3, 4, 5, 1, 0] rfl h
      · have h := h.2 c13
        exact v_vret DX9_markLeaf_54W rfl h
    · have h := h.2 c9
      refine v_iload 0 DX9_markLeaf_25W rfl <| v_bipush DX9_markLeaf_27W ⟨by decide, by decide⟩ <| ?_
      refine v_icmp_eq (tg := 39) DX9_markLeaf_29W (by decide) f3 ⟨by decide, by decide⟩ (fun c24 => ?_) (fun c24 => ?_)
      · have h := h.1 c24
        refine v_aload_n 1 DX9_markLeaf_39W rfl rfl <| w_getR (ci := 9) (kf := 121) (kz := 121) DX9_markLeaf_40W (s_555 hL) rfl (by decide) rfl (Or.inl q2345) (fun _ _ => rfl) (r_555_121 hL) <| v_sipush DX9_markLeaf_43W ⟨by decide, by decide⟩ <| v_iload_n 2 DX9_markLeaf_46W rfl rfl <| v_imul DX9_markLeaf_47W <| v_iload_n 3 DX9_markLeaf_48W rfl rfl <| v_iadd DX9_markLeaf_49W <| ?_
        obtain ⟨k25, k26, h⟩ := h
        refine v_zald DX9_markLeaf_50W (s_641 hL) k25 k26 (fun f27 => ?_)
        have h := h f27
        refine v_if_ne (tg := 55) DX9_markLeaf_51W (by decide) (inR_z f27) (fun c28 => ?_) (fun c28 => ?_)
        · have h := h.1 c28
          refine v_iload 0 DX9_markLeaf_55W rfl <| v_bipush DX9_markLeaf_57W ⟨by decide, by decide⟩ <| ?_
          refine v_icmp_ne (tg := 67) DX9_markLeaf_59W (by decide) f3 ⟨by decide, by decide⟩ (fun c29 => ?_) (fun c29 => absurd c29 (by omega))
          refine v_aload_n 1 DX9_markLeaf_67W rfl rfl <| w_getR (ci := 9) (kf := 50) (kz := 50) DX9_markLeaf_68W (s_555 hL) rfl (by decide) rfl (Or.inl q2274) (fun _ _ => rfl) (r_555_50 hL) <| v_iload_n 3 DX9_markLeaf_71W rfl rfl <| ?_
          obtain ⟨k30, k31, h⟩ := h
          refine v_iald DX9_markLeaf_72W (s_595 hL) k30 k31 (fun f32 => ?_)
          have h := h f32
          refine v_istore DX9_markLeaf_73W (by decide) rfl <| ?_
          exact v_pick [2, 3, 4, 5, 1, 0] rfl h
        · have h := h.2 c28
          exact v_vret DX9_markLeaf_54W rfl h
      · have h := h.2 c24
        refine v_iload 0 DX9_markLeaf_32W rfl <| v_bipush DX9_markLeaf_34W ⟨by decide, by decide⟩ <| ?_
        refine v_icmp_ne (tg := 54) DX9_markLeaf_36W (by decide) f3 ⟨by decide, by decide⟩ (fun c33 => ?_) (fun c33 => ?_)
        · have h := h.1 c33
          exact v_vret DX9_markLeaf_54W rfl h
        · have h := h.2 c33
          refine v_aload_n 1 DX9_markLeaf_39W rfl rfl <| w_getR (ci := 9) (kf := 121) (kz := 121) DX9_markLeaf_40W (s_555 hL) rfl (by decide) rfl (Or.inl q2345) (fun _ _ => rfl) (r_555_121 hL) <| v_sipush DX9_markLeaf_43W ⟨by decide, by decide⟩ <| v_iload_n 2 DX9_markLeaf_46W rfl rfl <| v_imul DX9_markLeaf_47W <| v_iload_n 3 DX9_markLeaf_48W rfl rfl <| v_iadd DX9_markLeaf_49W <| ?_
          obtain ⟨k34, k35, h⟩ := h
          refine v_zald DX9_markLeaf_50W (s_641 hL) k34 k35 (fun f36 => ?_)
          have h := h f36
          refine v_if_ne (tg := 55) DX9_markLeaf_51W (by decide) (inR_z f36) (fun c37 => ?_) (fun c37 => ?_)
          · have h := h.1 c37
            refine v_iload 0 DX9_markLeaf_55W rfl <| v_bipush DX9_markLeaf_57W ⟨by decide, by decide⟩ <| ?_
            refine v_icmp_ne (tg := 67) DX9_markLeaf_59W (by decide) f3 ⟨by decide, by decide⟩ (fun c38 => ?_) (fun c38 => absurd c38 (by omega))
            refine v_aload_n 1 DX9_markLeaf_67W rfl rfl <| w_getR (ci := 9) (kf := 50) (kz := 50) DX9_markLeaf_68W (s_555 hL) rfl (by decide) rfl (Or.inl q2274) (fun _ _ => rfl) (r_555_50 hL) <| v_iload_n 3 DX9_markLeaf_71W rfl rfl <| ?_
            obtain ⟨k39, k40, h⟩ := h
            refine v_iald DX9_markLeaf_72W (s_595 hL) k39 k40 (fun f41 => ?_)
            have h := h f41
            refine v_istore DX9_markLeaf_73W (by decide) rfl <| ?_
            exact v_pick [2, 3, 4, 5, 1, 0] rfl h
          · have h := h.2 c37
            exact v_vret DX9_markLeaf_54W rfl h
theorem ucX9_markLeaf_75W {E : XE} {d : Nat} {σ : Sto} {Q : Res → Sto → Prop} {x1 : Int} {x2 : Int} {x3 : Int} {x4 : Int} {x5 : Int} (hL : Lay σ)  (h : 1 ≤ d ∧ (0 ≤ x2 ∧ x2 < 601) ∧ (OB σ 595 596) ∧ (∀ y4 : Int, y4 = (σ.I 595 x2 + σ.I 596 x2) → inR y4 → inR x5 ∧ (y4 ≤ x5 → Q (.inl none) σ) ∧ (x5 < y4 → 0 ≤ x5 ∧ x5 < 6000 ∧ (inR (σ.I 579 x5) → inR x3 ∧ ((σ.I 579 x5) ≠ x3 → VV E mX9_markLeaf (d + 1) 75 [(0, aO 555), (1, aI (x1)), (2, aI (x2)), (3, aI (x3)), (4, aI (x4)), (5, aI (x5 + 1))] [] σ Q) ∧ ((σ.I 579 x5) = x3 → 0 ≤ x3 ∧ x3 < 12 ∧ (0 ≤ σ.I 639 x3 ∧ σ.I 639 x3 ≤ 1 → ((σ.I 639 x3) = 0 → VV E mX9_markLeaf (d + 1) 75 [(0, aO 555), (1, aI (x1)), (2, aI (x2)), (3, aI (x3)), (4, aI (x4)), (5, aI (x5 + 1))] [] σ Q) ∧ ((σ.I 639 x3) ≠ 0 → inR x4 ∧ (x4 ≠ 7 → 0 ≤ x5 ∧ x5 < 6001 ∧ (inR (σ.I 582 x5) → VV E mX9_markLeaf (d + 1) 134 [(0, aO 555), (1, aI (x1)), (2, aI (x2)), (3, aI (x3)), (4, aI (x4)), (5, aI (x5)), (6, aI (σ.I 582 x5))] [] σ Q)) ∧ (x4 = 7 → 506 ≤ d ∧ (0 ≤ x1 ∧ x1 < 130) ∧ (0 ≤ x5 ∧ x5 < σ.I 555 30 ∧ σ.I 555 30 ≤ 6000) ∧ (VT σ (σ.I 555 30)) ∧ (bd_0_499 σ 590 24000) ∧ (1 ≤ (σ.I 555 108) ∧ (σ.I 555 108) ≤ 16) ∧ (0 ≤ σ.I 631 x1 ∧ σ.I 631 x1 ≤ σ.I 632 x1 ∧ σ.I 632 x1 ≤ 6000) ∧ (bd_0_15 σ 630 6000) ∧ (bd_0_20 σ 629 6000) ∧ (bd_0_20 σ 587 24000) ∧ (bd_0_500 σ 633 16) ∧ (bd_m1_15 σ 635 1024) ∧ (0 ≤ σ.I 617 x1 ∧ σ.I 617 x1 ≤ 9) ∧ (∀ (y35 : Int) (σ34 : Sto), inR y35 → SF σ σ34 → ((y35 = mtc (stQ σ x1 x5) (σ.I 633) (σ.I 555 108) (σ.I 617 x1)) ∧ (0 ≤ y35 ∧ y35 ≤ 500) ∧ (bd_m1_15 σ34 635 1024) ∧ (KW σ σ34)) → (y35 ≠ 0 → 0 ≤ x5 ∧ x5 < 6001 ∧ (inR (σ34.I 582 x5) → VV E mX9_markLeaf (d + 1) 134 [(0, aO 555), (1, aI (x1)), (2, aI (x2)), (3, aI (x3)), (4, aI (x4)), (5, aI (x5)), (6, aI (σ34.I 582 x5))] [] σ34 Q)) ∧ (y35 = 0 → VV E mX9_markLeaf (d + 1) 75 [(0, aO 555), (1, aI (x1)), (2, aI (x2)), (3, aI (x3)), (4, aI (x4)), (5, aI (x5 + 1))] [] σ34 Q)))))))))) : VV E mX9_markLeaf (d + 1) 75 [(0, aO 555), (1, aI (x1)), (2, aI (x2)), (3, aI (x3)), (4, aI (x4)), (5, aI (x5))] [] σ Q := by
  refine v_iload 5 DX9_markLeaf_75W rfl <| v_aload_n 0 DX9_markLeaf_77W rfl rfl <| v_iload_n 2 DX9_markLeaf_78W rfl rfl <| ?_
  obtain ⟨k1, h⟩ := h
  obtain ⟨k2, k3, h⟩ := h
  refine v_invV (ci := 9) (as := [aI (x2)]) (st := [aI (x5)]) DX9_markLeaf_79W rfl okX9_lastOf (Or.inl q3222) q3224 (s_555 hL) rfl qs184 npX9_lastOf (sp_X9_lastOf (σ := σ) (x1 := x2) k1 hL k2 k3) (Nat.le_of_ble_eq_true rfl) (Nat.le_refl _) (Nat.le_of_ble_eq_true rfl) (RI_ret (fun y4 y4e y4f => ?_)) RI_thr
  have h := h y4 y4e y4f
  obtain ⟨k5, h⟩ := h
  refine v_icmp_ge (tg := 192) DX9_markLeaf_82W (by decide) k5 y4f (fun c6 => ?_) (fun c6 => ?_)
  · have h := h.1 c6
    exact v_vret DX9_markLeaf_192W rfl h
  · have h := h.2 c6
    refine v_aload_n 0 DX9_markLeaf_85W rfl rfl <| w_getR (ci := 9) (kf := 31) (kz := 31) DX9_markLeaf_86W (s_555 hL) rfl (by decide) rfl (Or.inl q2255) (fun _ _ => rfl) (r_555_31 hL) <| v_iload 5 DX9_markLeaf_89W rfl <| ?_
    obtain ⟨k7, k8, h⟩ := h
    refine v_iald DX9_markLeaf_91W (s_579 hL) k7 k8 (fun f9 => ?_)
    have h := h f9
    refine v_iload_n 3 DX9_markLeaf_92W rfl rfl <| ?_
    obtain ⟨k10, h⟩ := h
    refine v_icmp_ne (tg := 186) DX9_markLeaf_93W (by decide) f9 k10 (fun c11 => ?_) (fun c11 => ?_)
    · have h := h.1 c11
      refine v_iinc 5 DX9_markLeaf_186W rfl (by decide) rfl <| v_goto (pc' := 75) DX9_markLeaf_189W.1 (by decide) <| ?_
      exact v_pick [1, 2, 3, 4, 5, 0] rfl h
    · have h := h.2 c11
      refine v_aload_n 0 DX9_markLeaf_96W rfl rfl <| w_getR (ci := 9) (kf := 118) (kz := 118) DX9_markLeaf_97W (s_555 hL) rfl (by decide) rfl (Or.inl q2342) (fun _ _ => rfl) (r_555_118 hL) <| v_iload_n 3 DX9_markLeaf_100W rfl rfl <| ?_
      obtain ⟨k12, k13, h⟩ := h
      refine v_zald DX9_markLeaf_101W (s_639 hL) k12 k13 (fun f14 => ?_)
      have h := h f14
      refine v_if_eq (tg := 186) DX9_markLeaf_102W (by decide) (inR_z f14) (fun c15 => ?_) (fun c15 => ?_)
      · have h := h.1 c15
        refine v_iinc 5 DX9_markLeaf_186W rfl (by decide) rfl <| v_goto (pc' := 75) DX9_markLeaf_189W.1 (by decide) <| ?_
        exact v_pick [1, 2, 3, 4, 5, 0] rfl h
      · have h := h.2 c15
        refine v_iload 4 DX9_markLeaf_105W rfl <| v_bipush DX9_markLeaf_107W ⟨by decide, by decide⟩ <| ?_
        obtain ⟨k16, h⟩ := h
        refine v_icmp_ne (tg := 125) DX9_markLeaf_109W (by decide) k16 ⟨by decide, by decide⟩ (fun c17 => ?_) (fun c17 => ?_)
        · have h := h.1 c17
          refine v_aload_n 0 DX9_markLeaf_125W rfl rfl <| w_getR (ci := 9) (kf := 34) (kz := 34) DX9_markLeaf_126W (s_555 hL) rfl (by decide) rfl (Or.inl q2258) (fun _ _ => rfl) (r_555_34 hL) <| v_iload 5 DX9_markLeaf_129W rfl <| ?_
          obtain ⟨k18, k19, h⟩ := h
          refine v_iald DX9_markLeaf_131W (s_582 hL) k18 k19 (fun f20 => ?_)
          have h := h f20
          refine v_istore DX9_markLeaf_132W (by decide) rfl <| ?_
          exact v_pick [1, 2, 3, 4, 5, 6, 0] rfl h
        · have h := h.2 c17
          refine v_aload_n 0 DX9_markLeaf_112W rfl rfl <| v_iload_n 1 DX9_markLeaf_113W rfl rfl <| v_iload 5 DX9_markLeaf_114W rfl <| ?_
          obtain ⟨k21, h⟩ := h
          obtain ⟨k22, k23, k24, k25, k26, k27, k28, k29, k30, k31, k32, k33, h⟩ := h
          refine v_invV (ci := 9) (as := [aI (x1), aI (x5)]) (st := []) DX9_markLeaf_116W rfl okX9_matchesIn (Or.inl q3256) q3258 (s_555 hL) rfl qs191 npX9_matchesIn (sp_X9_matchesIn (σ := σ) (x1 := x1) (x2 := x5) k21 hL k22 k23 k24 k25 k26 k27 k28 k29 k30 k31 k32 k33) (Nat.le_of_ble_eq_true rfl) (Nat.le_refl _) (Nat.le_of_ble_eq_true rfl) (RVI_ret (fun y35 σ34 y35f gσ34 eσ34 => ?_)) RVI_thr
          have h := h y35 σ34 y35f gσ34 eσ34
          refine v_if_ne (tg := 125) DX9_markLeaf_119W (by decide) y35f (fun c36 => ?_) (fun c36 => ?_)
          · have h := h.1 c36
            refine v_aload_n 0 DX9_markLeaf_125W rfl rfl <| w_getR (ci := 9) (kf := 34) (kz := 34) DX9_markLeaf_126W (s_555 (hL.sf gσ34)) rfl (by decide) rfl (Or.inl q2258) (fun _ _ => rfl) (r_555_34 (hL.sf gσ34)) <| v_iload 5 DX9_markLeaf_129W rfl <| ?_
            obtain ⟨k37, k38, h⟩ := h
            refine v_iald DX9_markLeaf_131W (s_582 (hL.sf gσ34)) k37 k38 (fun f39 => ?_)
            have h := h f39
            refine v_istore DX9_markLeaf_132W (by decide) rfl <| ?_
            exact v_pick [1, 2, 3, 4, 5, 6, 0] rfl h
          · have h := h.2 c36
            refine v_goto (pc' := 186) DX9_markLeaf_122W.1 (by decide) <| v_iinc 5 DX9_markLeaf_186W rfl (by decide) rfl <| v_goto (pc' := 75) DX9_markLeaf_189W.1 (by decide) <| ?_
            exact v_pick [1, 2, 3, 4, 5, 0] rfl h
theorem ucX9_markLeaf_134W {E : XE} {d : Nat} {σ : Sto} {Q : Res → Sto → Prop} {x1 : Int} {x2 : Int} {x3 : Int} {x4 : Int} {x5 : Int} {x6 : Int} (hL : Lay σ)  (h : 0 ≤ (x5 + 1) ∧ (x5 + 1) < 6001 ∧ (inR (σ.I 582 (x5 + 1)) → inR x6 ∧ ((σ.I 582 (x5 + 1)) ≤ x6 → VV E mX9_markLeaf (d + 1) 75 [(0, aO 555), (1, aI (x1)), (2, aI (x2)), (3, aI (x3)), (4, aI (x4)), (5, aI (x5 + 1))] [] σ Q) ∧ (x6 < (σ.I 582 (x5 + 1)) → 0 ≤ x6 ∧ x6 < 24000 ∧ (0 ≤ σ.I 654 x6 ∧ σ.I 654 x6 ≤ 1 → ((σ.I 654 x6) ≠ 0 → 0 ≤ x6 ∧ x6 < 24000 ∧ (∀ σ12 : Sto, σ12 = σ.wI 654 x6 1 → SF σ σ12 → VV E mX9_markLeaf (d + 1) 134 [(0, aO 555), (1, aI (x1)), (2, aI (x2)), (3, aI (x3)), (4, aI (x4)), (5, aI (x5)), (6, aI (x6 + 1))] [] σ12 Q)) ∧ ((σ.I 654 x6) = 0 → 5 ≤ d ∧ (0 ≤ x1 ∧ x1 < σ.I 555 80) ∧ (σ.I 555 80 ≤ 130) ∧ (SRC σ) ∧ (TW σ) ∧ (7 ≤ σ.I 609 x1 ∧ (σ.I 609 x1 = 7 ∨ 11 ≤ σ.I 609 x1)) ∧ (0 ≤ x6 ∧ x6 < 24000) ∧ (bd_0_20 σ 587 24000) ∧ (HBD σ) ∧ (∀ (y23 : Int) (σ22 : Sto), 0 ≤ y23 ∧ y23 ≤ 1 → SF σ σ22 → ((y23 = 1 ↔ ofL σ x1 x6) ∧ (KQ σ σ22)) → (y23 = 0 → 0 ≤ x6 ∧ x6 < 24000 ∧ (∀ σ27 : Sto, σ27 = σ22.wI 654 x6 0 → SF σ22 σ27 → VV E mX9_markLeaf (d + 1) 134 [(0, aO 555), (1, aI (x1)), (2, aI (x2)), (3, aI (x3)), (4, aI (x4)), (5, aI (x5)), (6, aI (x6 + 1))] [] σ27 Q)) ∧ (y23 ≠ 0 → 0 ≤ x6 ∧ x6 < 24000 ∧ (∀ σ30 : Sto, σ30 = σ22.wI 654 x6 1 → SF σ22 σ30 → VV E mX9_markLeaf (d + 1) 134 [(0, aO 555), (1, aI (x1)), (2, aI (x2)), (3, aI (x3)), (4, aI (x4)), (5, aI (x5)), (6, aI (x6 + 1))] [] σ30 Q)))))))) : VV E mX9_markLeaf (d + 1) 134 [(0, aO 555), (1, aI (x1)), (2, aI (x2)), (3, aI (x3)), (4, aI (x4)), (5, aI (x5)), (6, aI (x6))] [] σ Q := by
  refine v_iload 6 DX9_markLeaf_134W rfl <| v_aload_n 0 DX9_markLeaf_136W rfl rfl <| w_getR (ci := 9) (kf := 34) (kz := 34) DX9_markLeaf_137W (s_555 hL) rfl (by decide) rfl (Or.inl q2258) (fun _ _ => rfl) (r_555_34 hL) <| v_iload 5 DX9_markLeaf_140W rfl <| v_iconst DX9_markLeaf_142W <| v_iadd DX9_markLeaf_143W <| ?_
  obtain ⟨k1, k2, h⟩ := h
  refine v_iald DX9_markLeaf_144W (s_582 hL) k1 k2 (fun f3 => ?_)
  have h := h f3
  obtain ⟨k4, h⟩ := h
  refine v_icmp_ge (tg := 186) DX9_markLeaf_145W (by decide) k4 f3 (fun c5 => ?_) (fun c5 => ?_)
  · have h := h.1 c5
    refine v_iinc 5 DX9_markLeaf_186W rfl (by decide) rfl <| v_goto (pc' := 75) DX9_markLeaf_189W.1 (by decide) <| ?_
    exact v_pick [1, 2, 3, 4, 5, 0] rfl h
  · have h := h.2 c5
    refine v_aload_n 0 DX9_markLeaf_148W rfl rfl <| w_getR (ci := 9) (kf := 139) (kz := 139) DX9_markLeaf_149W (s_555 hL) rfl (by decide) rfl (Or.inl q2363) (fun _ _ => rfl) (r_555_139 hL) <| v_iload 6 DX9_markLeaf_152W rfl <| v_aload_n 0 DX9_markLeaf_154W rfl rfl <| w_getR (ci := 9) (kf := 139) (kz := 139) DX9_markLeaf_155W (s_555 hL) rfl (by decide) rfl (Or.inl q2363) (fun _ _ => rfl) (r_555_139 hL) <| v_iload 6 DX9_markLeaf_158W rfl <| ?_
    obtain ⟨k6, k7, h⟩ := h
    refine v_zald DX9_markLeaf_160W (s_654 hL) k6 k7 (fun f8 => ?_)
    have h := h f8
    refine v_if_ne (tg := 174) DX9_markLeaf_161W (by decide) (inR_z f8) (fun c9 => ?_) (fun c9 => ?_)
    · have h := h.1 c9
      refine v_iconst DX9_markLeaf_174W <| v_goto (pc' := 179) DX9_markLeaf_175W.1 (by decide) <| ?_
      obtain ⟨k10, k11, h⟩ := h
      refine w_zast DX9_markLeaf_179W (s_654 hL) k10 k11 ⟨by decide, by decide⟩ (fun σ12 eσ12 gσ12 => ?_)
      have h := h σ12 eσ12 gσ12
      refine v_iinc 6 DX9_markLeaf_180W rfl (by decide) rfl <| v_goto (pc' := 134) DX9_markLeaf_183W.1 (by decide) <| ?_
      exact v_pick [1, 2, 3, 4, 5, 6, 0] rfl h
    · have h := h.2 c9
      refine v_aload_n 0 DX9_markLeaf_164W rfl rfl <| v_iload_n 1 DX9_markLeaf_165W rfl rfl <| v_iload 6 DX9_markLeaf_166W rfl <| ?_
      obtain ⟨k13, h⟩ := h
      obtain ⟨k14, k15, k16, k17, k18, k19, k20, k21, h⟩ := h
      refine v_invV (ci := 9) (as := [aI (x1), aI (x6)]) (st := [aI (x6), aO 654]) DX9_markLeaf_168W rfl okX9_isOfLeaf (Or.inl q3449) q3451 (s_555 hL) rfl qs221 npX9_isOfLeaf (sp_X9_isOfLeaf (σ := σ) (x1 := x1) (x2 := x6) k13 hL k14 k15 k16 k17 k18 k19 k20 k21) (Nat.le_of_ble_eq_true rfl) (Nat.le_refl _) (Nat.le_of_ble_eq_true rfl) (RVZ_ret (fun y23 σ22 y23f gσ22 eσ22 => ?_)) RVZ_thr
      have h := h y23 σ22 y23f gσ22 eσ22
      refine v_if_eq (tg := 178) DX9_markLeaf_171W (by decide) (inR_z y23f) (fun c24 => ?_) (fun c24 => ?_)
      · have h := h.1 c24
        refine v_iconst DX9_markLeaf_178W <| ?_
        obtain ⟨k25, k26, h⟩ := h
        refine w_zast DX9_markLeaf_179W (s_654 (hL.sf gσ22)) k25 k26 ⟨by decide, by decide⟩ (fun σ27 eσ27 gσ27 => ?_)
        have h := h σ27 eσ27 gσ27
        refine v_iinc 6 DX9_markLeaf_180W rfl (by decide) rfl <| v_goto (pc' := 134) DX9_markLeaf_183W.1 (by decide) <| ?_
        exact v_pick [1, 2, 3, 4, 5, 6, 0] rfl h
      · have h := h.2 c24
        refine v_iconst DX9_markLeaf_174W <| v_goto (pc' := 179) DX9_markLeaf_175W.1 (by decide) <| ?_
        obtain ⟨k28, k29, h⟩ := h
        refine w_zast DX9_markLeaf_179W (s_654 (hL.sf gσ22)) k28 k29 ⟨by decide, by decide⟩ (fun σ30 eσ30 gσ30 => ?_)
        have h := h σ30 eσ30 gσ30
        refine v_iinc 6 DX9_markLeaf_180W rfl (by decide) rfl <| v_goto (pc' := 134) DX9_markLeaf_183W.1 (by decide) <| ?_
        exact v_pick [1, 2, 3, 4, 5, 6, 0] rfl h
theorem sp_X9_markLeafW {E : XE} {d : Nat} {σ : Sto} {x1 : Int} {x2 : Int} {x3 : Int} (hd : 507 ≤ d) (hL : Lay σ)  (p0 : LFH σ x2 x1) (p1 : 0 ≤ x2 ∧ x2 < 601) (p2 : MME σ 0 x2) (p3 : 0 ≤ x3 ∧ x3 < 12) : CC E mX9_markLeaf d [aO 555, aI (x1), aI (x2), aI (x3)] σ (RV (fun τ => (∀ t, 0 ≤ t → t < 24000 → (τ.I 654 t = 1 ↔ (σ.I 654 t = 1 ∨ lfJ σ x2 x3 t x1))) ∧ (bd_0_1 τ 654 24000) ∧ (WKC τ) ∧ (KMm σ τ))) := by
  obtain ⟨d, rfl⟩ : ∃ e, d = e + 1 := ⟨d - 1, by omega⟩
  obtain ⟨⟨m1, m2, m3, m4⟩, ⟨m5, m6, m7⟩, m8, m9, m10, m11, m12⟩ := p2
  have hx := p0.1
  have hob := m1 x2 p1.1 p1.2
  have htn := m6 x1 hx.1 hx.2
  have key : ∀ wa wb wc : Nat, (∀ (x4 : Int) (x5 : Int) (τ : Sto), SF σ τ → ((KMm σ τ) ∧ (x4 = σ.I 609 x1 ∧ lfC σ x1 x2 x3 ∧ (x4 = 7 ∨ 11 ≤ x4)) ∧ (σ.I 595 x2 ≤ x5 ∧ x5 ≤ σ.I 595 x2 + σ.I 596 x2) ∧ (∀ t, 0 ≤ t → t < 24000 → (τ.I 654 t = 1 ↔ (σ.I 654 t = 1 ∨ mkN σ x1 x2 (x5 - σ.I 595 x2) t))) ∧ (bd_0_1 τ 654 24000) ∧ (WKC τ) ∧ (σ.I 609 x1 = 7 → BRP σ τ x1)) → wa = (7000 - x5).toNat → wb = 30000 → wc = 0 → VV E mX9_markLeaf (d + 1) 75 [(0, aO 555), (1, aI (x1)), (2, aI (x2)), (3, aI (x3)), (4, aI (x4)), (5, aI (x5))] [] τ (RV (fun τ => (∀ t, 0 ≤ t → t < 24000 → (τ.I 654 t = 1 ↔ (σ.I 654 t = 1 ∨ lfJ σ x2 x3 t x1))) ∧ (bd_0_1 τ 654 24000) ∧ (WKC τ) ∧ (KMm σ τ)))) ∧ (∀ (x4 : Int) (x5 : Int) (x6 : Int) (τ : Sto), SF σ τ → ((KMm σ τ) ∧ (x4 = σ.I 609 x1 ∧ lfC σ x1 x2 x3 ∧ (x4 = 7 ∨ 11 ≤ x4)) ∧ ((σ.I 582 x5 ≤ x6 ∧ x6 ≤ σ.I 582 (x5 + 1)) ∧ σ.I 595 x2 ≤ x5 ∧ x5 < σ.I 595 x2 + σ.I 596 x2) ∧ (∀ t, 0 ≤ t → t < 24000 → (τ.I 654 t = 1 ↔ (σ.I 654 t = 1 ∨ mkN σ x1 x2 (x5 - σ.I 595 x2) t ∨ ((σ.I 582 x5 ≤ t ∧ t < x6) ∧ ofL σ x1 t)))) ∧ (bd_0_1 τ 654 24000) ∧ (WKC τ) ∧ (σ.I 609 x1 = 7 → BRP σ τ x1) ∧ (vlN σ x1 x5)) → wa = (7000 - x5).toNat → wb = (25000 - x6).toNat → wc = 0 → VV E mX9_markLeaf (d + 1) 134 [(0, aO 555), (1, aI (x1)), (2, aI (x2)), (3, aI (x3)), (4, aI (x4)), (5, aI (x5)), (6, aI (x6))] [] τ (RV (fun τ => (∀ t, 0 ≤ t → t < 24000 → (τ.I 654 t = 1 ↔ (σ.I 654 t = 1 ∨ lfJ σ x2 x3 t x1))) ∧ (bd_0_1 τ 654 24000) ∧ (WKC τ) ∧ (KMm σ τ)))) := by
    refine lex3 (fun wa wb wc ih => ?_)
    have ih0 : ∀ (x4 : Int) (x5 : Int) (τ : Sto), SF σ τ → ((KMm σ τ) ∧ (x4 = σ.I 609 x1 ∧ lfC σ x1 x2 x3 ∧ (x4 = 7 ∨ 11 ≤ x4)) ∧ (σ.I 595 x2 ≤ x5 ∧ x5 ≤ σ.I 595 x2 + σ.I 596 x2) ∧ (∀ t, 0 ≤ t → t < 24000 → (τ.I 654 t = 1 ↔ (σ.I 654 t = 1 ∨ mkN σ x1 x2 (x5 - σ.I 595 x2) t))) ∧ (bd_0_1 τ 654 24000) ∧ (WKC τ) ∧ (σ.I 609 x1 = 7 → BRP σ τ x1)) → lt3 ((7000 - x5).toNat) 30000 0 wa wb wc → VV E mX9_markLeaf (d + 1) 75 [(0, aO 555), (1, aI (x1)), (2, aI (x2)), (3, aI (x3)), (4, aI (x4)), (5, aI (x5))] [] τ (RV (fun τ => (∀ t, 0 ≤ t → t < 24000 → (τ.I 654 t = 1 ↔ (σ.I 654 t = 1 ∨ lfJ σ x2 x3 t x1))) ∧ (bd_0_1 τ 654 24000) ∧ (WKC τ) ∧ (KMm σ τ))) := fun z0 z1 z2 h0 h1 hlt => (ih _ _ _ hlt).1 z0 z1 z2 h0 h1 rfl rfl rfl
    have ih1 : ∀ (x4 : Int) (x5 : Int) (x6 : Int) (τ : Sto), SF σ τ → ((KMm σ τ) ∧ (x4 = σ.I 609 x1 ∧ lfC σ x1 x2 x3 ∧ (x4 = 7 ∨ 11 ≤ x4)) ∧ ((σ.I 582 x5 ≤ x6 ∧ x6 ≤ σ.I 582 (x5 + 1)) ∧ σ.I 595 x2 ≤ x5 ∧ x5 < σ.I 595 x2 + σ.I 596 x2) ∧ (∀ t, 0 ≤ t → t < 24000 → (τ.I 654 t = 1 ↔ (σ.I 654 t = 1 ∨ mkN σ x1 x2 (x5 - σ.I 595 x2) t ∨ ((σ.I 582 x5 ≤ t ∧ t < x6) ∧ ofL σ x1 t)))) ∧ (bd_0_1 τ 654 24000) ∧ (WKC τ) ∧ (σ.I 609 x1 = 7 → BRP σ τ x1) ∧ (vlN σ x1 x5)) → lt3 ((7000 - x5).toNat) ((25000 - x6).toNat) 0 wa wb wc → VV E mX9_markLeaf (d + 1) 134 [(0, aO 555), (1, aI (x1)), (2, aI (x2)), (3, aI (x3)), (4, aI (x4)), (5, aI (x5)), (6, aI (x6))] [] τ (RV (fun τ => (∀ t, 0 ≤ t → t < 24000 → (τ.I 654 t = 1 ↔ (σ.I 654 t = 1 ∨ lfJ σ x2 x3 t x1))) ∧ (bd_0_1 τ 654 24000) ∧ (WKC τ) ∧ (KMm σ τ))) := fun z0 z1 z2 z3 h0 h1 hlt => (ih _ _ _ hlt).2 z0 z1 z2 z3 h0 h1 rfl rfl rfl
    clear ih
    refine ⟨?_, ?_⟩
    · rintro x4 x5 τ gτ ⟨i0, i1, i2, i3, i4, i5, i6⟩ ha hb hc
      subst ha hb hc
      have kt : ∀ c i, ¬ wsMm c i → τ.I c i = σ.I c i := i0.2
      have e595 : τ.I 595 x2 = σ.I 595 x2 := kt _ _ (by unfold wsMm; omega)
      have e596 : τ.I 596 x2 = σ.I 596 x2 := kt _ _ (by unfold wsMm; omega)
      have e579 : τ.I 579 x5 = σ.I 579 x5 := kt _ _ (by unfold wsMm; omega)
      have e639 : τ.I 639 x3 = σ.I 639 x3 := kt _ _ (by unfold wsMm; omega)
      have e582 : ∀ i, τ.I 582 i = σ.I 582 i := fun i => kt _ _ (by unfold wsMm; omega)
      have e30 : τ.I 555 30 = σ.I 555 30 := kt _ _ (by unfold wsMm; omega)
      have e80 : τ.I 555 80 = σ.I 555 80 := kt _ _ (by unfold wsMm; omega)
      have hv5 : σ.I 595 x2 + (x5 - σ.I 595 x2) = x5 := (by omega)
      have hvt := hdI (fun (h : x5 < σ.I 595 x2 + σ.I 596 x2) => m2 x5 (by omega) (by omega))
      have hOB : OB τ 595 596 := (by unfold OB; rw [kmm i0 (c := 595) (by decide), kmm i0 (c := 596) (by decide)]; exact m1)
      have hc1 := i1.2.1
      have hc2 := i1.2.2
      have i1a := i1.1
      have hx4b := htn.1
      refine ucX9_markLeaf_75W  (hL.sf gτ)  ?_
      refine ⟨?_, ?_⟩
      · omega
      refine ⟨?_, ?_⟩
      · (first | omega | exact ⟨by omega, by omega⟩ | assumption)
      refine ⟨?_, ?_⟩
      · (clear ih0 ih1; exact hOB)
      rintro y4 y4e ⟨y4f, y4fq⟩
      refine ⟨?_, ?_⟩
      · (first | exact ⟨by omega, by omega⟩ | assumption)
      refine ⟨fun c1 => ?_, fun c2 => ?_⟩
      · refine RV_mk ?_
        · refine ⟨?_, ?_, ?_, ?_⟩
          · (clear ih0 ih1; (intro t a b; rw [i3 t a b, show x5 - σ.I 595 x2 = σ.I 596 x2 by omega]; exact ⟨fun z => z.elim Or.inl (fun w => Or.inr ⟨i1.2.1, w⟩), fun z => z.elim Or.inl (fun w => Or.inr w.2)⟩))
          · (clear ih0 ih1; first | exact hb34 | exact i4)
          · (clear ih0 ih1; first | exact hw34 | exact i5)
          · (clear ih0 ih1; first | exact K34 | exact i0)
      · refine ⟨?_, ?_⟩
        · (first | omega | exact ⟨by omega, by omega⟩ | assumption)
        refine ⟨?_, ?_⟩
        · (first | omega | exact ⟨by omega, by omega⟩ | assumption)
        rintro ⟨f3, f3q⟩
        refine ⟨?_, ?_⟩
        · (first | exact ⟨by omega, by omega⟩ | assumption)
        refine ⟨fun c4 => ?_, fun c5 => ?_⟩
        · refine ih0 _ _ _ gτ ⟨?_, ?_, ?_, ?_, ?_, ?_, ?_⟩ ?_
          · (clear ih0 ih1; first | exact K34 | exact i0)
          · (clear ih0 ih1; exact i1)
          · (first | omega | exact ⟨by omega, by omega⟩ | assumption)
          · (clear ih0 ih1; first | (intro t a b; rw [h654, i3 t a b, show x5 + 1 - σ.I 595 x2 = x5 - σ.I 595 x2 + 1 by omega, mkN_n (by omega) (fun z => by rw [hv5] at z; have z1 := z.2.2 (by omega); omega)]) | (intro t a b; rw [i3 t a b, show x5 + 1 - σ.I 595 x2 = x5 - σ.I 595 x2 + 1 by omega, mkN_n (by omega) (fun z => by rw [hv5] at z; have z1 := z.1; rw [hc1.1] at z1; omega)]) | (intro t a b; rw [i3 t a b, show x5 + 1 - σ.I 595 x2 = x5 - σ.I 595 x2 + 1 by omega, mkN_n (by omega) (fun z => by rw [hv5] at z; have z1 := z.2.1; rw [hc1.1] at z1; omega)]))
          · (clear ih0 ih1; first | exact hb34 | exact i4)
          · (clear ih0 ih1; first | exact hw34 | exact i5)
          · (clear ih0 ih1; first | exact hbr | exact i6)
          · (unfold lt3; (have z := (hdO hvt) (by omega); unfold tcM at z; first | omega | (rw [g582]; omega) | (rw [e582]; omega)))
        · refine ⟨?_, ?_⟩
          · (first | omega | exact ⟨by omega, by omega⟩ | assumption)
          refine ⟨?_, ?_⟩
          · (first | omega | exact ⟨by omega, by omega⟩ | assumption)
          rintro ⟨f6, f6q⟩
          refine ⟨fun c7 => ?_, fun c8 => ?_⟩
          · refine ih0 _ _ _ gτ ⟨?_, ?_, ?_, ?_, ?_, ?_, ?_⟩ ?_
            · (clear ih0 ih1; first | exact K34 | exact i0)
            · (clear ih0 ih1; exact i1)
            · (first | omega | exact ⟨by omega, by omega⟩ | assumption)
            · (clear ih0 ih1; first | (intro t a b; rw [h654, i3 t a b, show x5 + 1 - σ.I 595 x2 = x5 - σ.I 595 x2 + 1 by omega, mkN_n (by omega) (fun z => by rw [hv5] at z; have z1 := z.2.2 (by omega); omega)]) | (intro t a b; rw [i3 t a b, show x5 + 1 - σ.I 595 x2 = x5 - σ.I 595 x2 + 1 by omega, mkN_n (by omega) (fun z => by rw [hv5] at z; have z1 := z.1; rw [hc1.1] at z1; omega)]) | (intro t a b; rw [i3 t a b, show x5 + 1 - σ.I 595 x2 = x5 - σ.I 595 x2 + 1 by omega, mkN_n (by omega) (fun z => by rw [hv5] at z; have z1 := z.2.1; rw [hc1.1] at z1; omega)]))
            · (clear ih0 ih1; first | exact hb34 | exact i4)
            · (clear ih0 ih1; first | exact hw34 | exact i5)
            · (clear ih0 ih1; first | exact hbr | exact i6)
            · (unfold lt3; (have z := (hdO hvt) (by omega); unfold tcM at z; first | omega | (rw [g582]; omega) | (rw [e582]; omega)))
          · refine ⟨?_, ?_⟩
            · (first | exact ⟨by omega, by omega⟩ | assumption)
            refine ⟨fun c9 => ?_, fun c10 => ?_⟩
            · refine ⟨?_, ?_⟩
              · (first | omega | exact ⟨by omega, by omega⟩ | assumption)
              refine ⟨?_, ?_⟩
              · (first | omega | exact ⟨by omega, by omega⟩ | assumption)
              rintro ⟨f11, f11q⟩
              refine ih1 _ _ _ _ gτ ⟨?_, ?_, ?_, ?_, ?_, ?_, ?_, ?_⟩ ?_
              · (clear ih0 ih1; first | exact K34 | exact i0)
              · (clear ih0 ih1; exact i1)
              · (clear ih0 ih1; first | (rw [g582]; have z := (hdO hvt) (by omega); unfold tcM at z; exact ⟨⟨by omega, by omega⟩, by omega, by omega⟩) | (rw [e582]; have z := (hdO hvt) (by omega); unfold tcM at z; exact ⟨⟨by omega, by omega⟩, by omega, by omega⟩))
              · (clear ih0 ih1; first | (intro t a b; rw [h654, i3 t a b, g582]; exact ⟨fun h => h.elim Or.inl (fun z => Or.inr (Or.inl z)), fun h => h.elim Or.inl (fun z => z.elim Or.inr (fun w => absurd w.1 (by omega)))⟩) | (intro t a b; rw [i3 t a b, e582]; exact ⟨fun h => h.elim Or.inl (fun z => Or.inr (Or.inl z)), fun h => h.elim Or.inl (fun z => z.elim Or.inr (fun w => absurd w.1 (by omega)))⟩))
              · (clear ih0 ih1; first | exact hb34 | exact i4)
              · (clear ih0 ih1; first | exact hw34 | exact i5)
              · (clear ih0 ih1; first | exact hbr | exact i6)
              · (clear ih0 ih1; first | exact ⟨by rw [hc1.1]; omega, by rw [hc1.1]; omega, fun z => by omega⟩ | exact ⟨by rw [hc1.1]; omega, by rw [hc1.1]; omega, fun z => by rw [← hy35]; assumption⟩)
              · (unfold lt3; (have z := (hdO hvt) (by omega); unfold tcM at z; first | omega | (rw [g582]; omega) | (rw [e582]; omega)))
            · refine ⟨?_, ?_⟩
              · omega
              refine ⟨?_, ?_⟩
              · (first | omega | exact ⟨by omega, by omega⟩ | assumption)
              refine ⟨?_, ?_⟩
              · (first | omega | exact ⟨by omega, by omega⟩ | assumption)
              refine ⟨?_, ?_⟩
              · (clear ih0 ih1; (unfold VT tcM at m2 ⊢; rw [e30, kmm i0 (c := 582) (by decide)]; exact m2))
              refine ⟨?_, ?_⟩
              · (clear ih0 ih1; exact bd_0_499_eq m9 (kmm i0 (by decide)))
              refine ⟨?_, ?_⟩
              · (clear ih0 ih1; (have z := p0.2 (by omega) hc1.2.2; have z2 := (i6 (by omega)).2.2.1; have hb := m10.2.2.2.2 x1 hx.1 (by omega) (by omega); have z3 := (gxP_b (A := σ.I 646) (a := σ.I 649 x1) (n := σ.I 650 x1 - σ.I 649 x1) (fun i a b => m10.2.1 _ (by omega) (by omega))).1; rw [z2]; exact ⟨z, z3.2⟩))
              refine ⟨?_, ?_⟩
              · (clear ih0 ih1; (have z2 := (i6 (by omega)).2.1; rw [z2.1, z2.2]; exact m10.2.2.2.2 x1 hx.1 (by omega) (by omega)))
              refine ⟨?_, ?_⟩
              · (clear ih0 ih1; exact i5.1)
              refine ⟨?_, ?_⟩
              · (clear ih0 ih1; exact i5.2.1)
              refine ⟨?_, ?_⟩
              · (clear ih0 ih1; exact bd_0_20_eq m8 (kmm i0 (by decide)))
              refine ⟨?_, ?_⟩
              · (clear ih0 ih1; exact i5.2.2.1)
              refine ⟨?_, ?_⟩
              · (clear ih0 ih1; exact i5.2.2.2)
              refine ⟨?_, ?_⟩
              · (clear ih0 ih1; (rw [kt 617 x1 (by unfold wsMm; omega)]; exact htn.2.2.1))
              rintro y35 σ34 ⟨y35f, y35fq⟩ gσ34 ⟨eσ34_0, eσ34_1, eσ34_2, eσ34_3⟩
              have f34 : ∀ c i, ¬ wsW c i → σ34.I c i = τ.I c i := eσ34_3.2
              have K34 : KMm σ σ34 := Ch.tr i0 (Ch.mono eσ34_3 (fun c i q => by unfold wsW at q; unfold wsMm; omega))
              have hy35 : y35 = mtH σ x1 x5 := (by rw [eσ34_0]; exact BRP_mt (i6 (by omega)) (fun c q => kmm i0 (by omega)) (p0.2 (by omega) hc1.2.2))
              have hb34 : bd_0_1 σ34 654 24000 := bd_0_1_eq i4 (funext fun i => f34 _ _ (by unfold wsW; omega))
              have h654 : ∀ t, σ34.I 654 t = τ.I 654 t := fun t => f34 _ _ (by unfold wsW; omega)
              have hw34 : WKC σ34 := ⟨bd_0_15_eq i5.1 (funext fun i => f34 _ _ (by unfold wsW; omega)), bd_0_20_eq i5.2.1 (funext fun i => f34 _ _ (by unfold wsW; omega)), bd_0_500_eq i5.2.2.1 (funext fun i => f34 _ _ (by unfold wsW; omega)), eσ34_2⟩
              have hbr : σ.I 609 x1 = 7 → BRP σ σ34 x1 := fun h => BRP_k (i6 h) (fun c i q => f34 _ _ (by unfold wsW; omega))
              have g582 : σ34.I 582 x5 = σ.I 582 x5 := K34.2 _ _ (by unfold wsMm; omega)
              refine ⟨fun c12 => ?_, fun c13 => ?_⟩
              · refine ⟨?_, ?_⟩
                · (first | omega | exact ⟨by omega, by omega⟩ | assumption)
                refine ⟨?_, ?_⟩
                · (first | omega | exact ⟨by omega, by omega⟩ | assumption)
                rintro ⟨f14, f14q⟩
                refine ih1 _ _ _ _ (gτ.tr gσ34) ⟨?_, ?_, ?_, ?_, ?_, ?_, ?_, ?_⟩ ?_
                · (clear ih0 ih1; first | exact K34 | exact i0)
                · (clear ih0 ih1; exact i1)
                · (clear ih0 ih1; first | (rw [g582]; have z := (hdO hvt) (by omega); unfold tcM at z; exact ⟨⟨by omega, by omega⟩, by omega, by omega⟩) | (rw [e582]; have z := (hdO hvt) (by omega); unfold tcM at z; exact ⟨⟨by omega, by omega⟩, by omega, by omega⟩))
                · (clear ih0 ih1; first | (intro t a b; rw [h654, i3 t a b, g582]; exact ⟨fun h => h.elim Or.inl (fun z => Or.inr (Or.inl z)), fun h => h.elim Or.inl (fun z => z.elim Or.inr (fun w => absurd w.1 (by omega)))⟩) | (intro t a b; rw [i3 t a b, e582]; exact ⟨fun h => h.elim Or.inl (fun z => Or.inr (Or.inl z)), fun h => h.elim Or.inl (fun z => z.elim Or.inr (fun w => absurd w.1 (by omega)))⟩))
                · (clear ih0 ih1; first | exact hb34 | exact i4)
                · (clear ih0 ih1; first | exact hw34 | exact i5)
                · (clear ih0 ih1; first | exact hbr | exact i6)
                · (clear ih0 ih1; first | exact ⟨by rw [hc1.1]; omega, by rw [hc1.1]; omega, fun z => by omega⟩ | exact ⟨by rw [hc1.1]; omega, by rw [hc1.1]; omega, fun z => by rw [← hy35]; assumption⟩)
                · (unfold lt3; (have z := (hdO hvt) (by omega); unfold tcM at z; first | omega | (rw [g582]; omega) | (rw [e582]; omega)))
              · refine ih0 _ _ _ (gτ.tr gσ34) ⟨?_, ?_, ?_, ?_, ?_, ?_, ?_⟩ ?_
                · (clear ih0 ih1; first | exact K34 | exact i0)
                · (clear ih0 ih1; exact i1)
                · (first | omega | exact ⟨by omega, by omega⟩ | assumption)
                · (clear ih0 ih1; first | (intro t a b; rw [h654, i3 t a b, show x5 + 1 - σ.I 595 x2 = x5 - σ.I 595 x2 + 1 by omega, mkN_n (by omega) (fun z => by rw [hv5] at z; have z1 := z.2.2 (by omega); omega)]) | (intro t a b; rw [i3 t a b, show x5 + 1 - σ.I 595 x2 = x5 - σ.I 595 x2 + 1 by omega, mkN_n (by omega) (fun z => by rw [hv5] at z; have z1 := z.1; rw [hc1.1] at z1; omega)]) | (intro t a b; rw [i3 t a b, show x5 + 1 - σ.I 595 x2 = x5 - σ.I 595 x2 + 1 by omega, mkN_n (by omega) (fun z => by rw [hv5] at z; have z1 := z.2.1; rw [hc1.1] at z1; omega)]))
                · (clear ih0 ih1; first | exact hb34 | exact i4)
                · (clear ih0 ih1; first | exact hw34 | exact i5)
                · (clear ih0 ih1; first | exact hbr | exact i6)
                · (unfold lt3; (have z := (hdO hvt) (by omega); unfold tcM at z; first | omega | (rw [g582]; omega) | (rw [e582]; omega)))
    · rintro x4 x5 x6 τ gτ ⟨i0, i1, i2, i3, i4, i5, i6, i7⟩ ha hb hc
      subst ha hb hc
      have kt : ∀ c i, ¬ wsMm c i → τ.I c i = σ.I c i := i0.2
      have e595 : τ.I 595 x2 = σ.I 595 x2 := kt _ _ (by unfold wsMm; omega)
      have e596 : τ.I 596 x2 = σ.I 596 x2 := kt _ _ (by unfold wsMm; omega)
      have e579 : τ.I 579 x5 = σ.I 579 x5 := kt _ _ (by unfold wsMm; omega)
      have e639 : τ.I 639 x3 = σ.I 639 x3 := kt _ _ (by unfold wsMm; omega)
      have e582 : ∀ i, τ.I 582 i = σ.I 582 i := fun i => kt _ _ (by unfold wsMm; omega)
      have e30 : τ.I 555 30 = σ.I 555 30 := kt _ _ (by unfold wsMm; omega)
      have e80 : τ.I 555 80 = σ.I 555 80 := kt _ _ (by unfold wsMm; omega)
      have hv5 : σ.I 595 x2 + (x5 - σ.I 595 x2) = x5 := (by omega)
      have hvt := hdI (fun (h : x5 < σ.I 595 x2 + σ.I 596 x2) => m2 x5 (by omega) (by omega))
      have hOB : OB τ 595 596 := (by unfold OB; rw [kmm i0 (c := 595) (by decide), kmm i0 (c := 596) (by decide)]; exact m1)
      have hc1 := i1.2.1
      have hc2 := i1.2.2
      have i1a := i1.1
      have hx4b := htn.1
      have hx5 := i2.2
      have hvt5 := (hdO hvt) (by omega)
      have e1 := e582 x5
      have e2 := e582 (x5 + 1)
      unfold tcM at hvt5
      have hb6 := hdI (fun (h : x6 < 24000) => i4 x6 (by omega) h)
      refine ucX9_markLeaf_134W  (hL.sf gτ)  ?_
      refine ⟨?_, ?_⟩
      · (first | omega | exact ⟨by omega, by omega⟩ | assumption)
      refine ⟨?_, ?_⟩
      · (first | omega | exact ⟨by omega, by omega⟩ | assumption)
      rintro ⟨f1, f1q⟩
      refine ⟨?_, ?_⟩
      · (first | exact ⟨by omega, by omega⟩ | assumption)
      refine ⟨fun c2 => ?_, fun c3 => ?_⟩
      · refine ih0 _ _ _ gτ ⟨?_, ?_, ?_, ?_, ?_, ?_, ?_⟩ ?_
        · (clear ih0 ih1; first | exact K_ | exact i0)
        · (clear ih0 ih1; exact i1)
        · (first | omega | exact ⟨by omega, by omega⟩ | assumption)
        · (clear ih0 ih1; (intro t a b; rw [i3 t a b, show x5 + 1 - σ.I 595 x2 = x5 - σ.I 595 x2 + 1 by omega, mkN_y (by omega) (by rw [hv5]; exact i7), hv5, show x6 = σ.I 582 (x5 + 1) by omega]))
        · (clear ih0 ih1; first | exact hb01 | exact i4)
        · (clear ih0 ih1; first | exact hw_ | exact i5)
        · (clear ih0 ih1; first | exact hbr | exact i6)
        · (unfold lt3; omega)
      · refine ⟨?_, ?_⟩
        · (first | omega | exact ⟨by omega, by omega⟩ | assumption)
        refine ⟨?_, ?_⟩
        · (first | omega | exact ⟨by omega, by omega⟩ | assumption)
        rintro ⟨f4, f4q⟩
        refine ⟨fun c5 => ?_, fun c6 => ?_⟩
        · refine ⟨?_, ?_⟩
          · (first | omega | exact ⟨by omega, by omega⟩ | assumption)
          refine ⟨?_, ?_⟩
          · (first | omega | exact ⟨by omega, by omega⟩ | assumption)
          intro σ12 eσ12 gσ12
          have q_ : ∀ t, σ12.I 654 t = if t = x6 then 1 else τ.I 654 t := fun t => (by rw [eσ12, I_wI]; by_cases z : t = x6; (rw [if_pos ⟨rfl, z⟩, if_pos z]); (rw [if_neg (fun w => z w.2), if_neg z]))
          have K_ : KMm σ σ12 := Ch.tr i0 (by rw [eσ12]; exact Ch.wI Ch.rf (by unfold wsMm; omega))
          have hmk : ∀ t, 0 ≤ t → t < 24000 → (σ12.I 654 t = 1 ↔ (σ.I 654 t = 1 ∨ mkN σ x1 x2 (x5 - σ.I 595 x2) t ∨ ((σ.I 582 x5 ≤ t ∧ t < x6 + 1) ∧ ofL σ x1 t))) := fun t a b => (by
            rw [q_]
            by_cases z : t = x6
            · rw [if_pos z, z]
              have w := i3 x6 (by omega) (by omega)
              have y := w.mp (by omega); exact ⟨fun _ => y.elim Or.inl (fun q => Or.inr (q.elim Or.inl (fun r => absurd r.1.2 (by omega)))), fun _ => rfl⟩
            · rw [if_neg z, i3 t a b]
              constructor
              · intro h; rcases h with h | h | h; (exact Or.inl h); (exact Or.inr (Or.inl h)); (exact Or.inr (Or.inr ⟨⟨h.1.1, by omega⟩, h.2⟩))
              · intro h; rcases h with h | h | h; (exact Or.inl h); (exact Or.inr (Or.inl h)); (exact Or.inr (Or.inr ⟨⟨h.1.1, by have w := h.1.2; omega⟩, h.2⟩)))
          have hb01 : bd_0_1 σ12 654 24000 := fun t a b => (by rw [q_]; by_cases z : t = x6; (rw [if_pos z]; decide); (rw [if_neg z]; exact i4 t a b))
          have f_ : ∀ c i, c ≠ 654 → σ12.I c i = τ.I c i := fun c i q => (by rw [eσ12]; exact I_ne _ _ _ _ q)
          have hw_ : WKC σ12 := ⟨bd_0_15_eq i5.1 (funext fun i => (f_ _ _ (by decide))), bd_0_20_eq i5.2.1 (funext fun i => (f_ _ _ (by decide))), bd_0_500_eq i5.2.2.1 (funext fun i => (f_ _ _ (by decide))), bd_m1_15_eq i5.2.2.2 (funext fun i => (f_ _ _ (by decide)))⟩
          have hbr : σ.I 609 x1 = 7 → BRP σ σ12 x1 := fun h => BRP_k (i6 h) (fun c i q => (f_ _ _ (by omega)))
          have g2 : σ12.I 582 (x5 + 1) = σ.I 582 (x5 + 1) := K_.2 _ _ (by unfold wsMm; omega)
          refine ih1 _ _ _ _ (gτ.tr gσ12) ⟨?_, ?_, ?_, ?_, ?_, ?_, ?_, ?_⟩ ?_
          · (clear ih0 ih1; first | exact K_ | exact i0)
          · (clear ih0 ih1; exact i1)
          · (first | omega | exact ⟨by omega, by omega⟩ | assumption)
          · (clear ih0 ih1; exact hmk)
          · (clear ih0 ih1; first | exact hb01 | exact i4)
          · (clear ih0 ih1; first | exact hw_ | exact i5)
          · (clear ih0 ih1; first | exact hbr | exact i6)
          · (clear ih0 ih1; exact i7)
          · (unfold lt3; omega)
        · refine ⟨?_, ?_⟩
          · omega
          refine ⟨?_, ?_⟩
          · (clear ih0 ih1; (rw [e80]; omega))
          refine ⟨?_, ?_⟩
          · (clear ih0 ih1; (rw [e80]; omega))
          refine ⟨?_, ?_⟩
          · (clear ih0 ih1; (have es : src τ = src σ := (by unfold src; rw [i0.1.1]); have z := m5; unfold SRC at z ⊢; rw [es, i0.1.1, i0.1.2.1, kt 555 75 (by unfold wsMm; omega), kt 555 77 (by unfold wsMm; omega)]; exact z))
          refine ⟨?_, ?_⟩
          · (clear ih0 ih1; (intro n a b; rw [e80] at b; have z := m6 n a b; unfold TN at z ⊢; rw [kmm i0 (c := 609) (by decide), kmm i0 (c := 614) (by decide), kmm i0 (c := 617) (by decide), kmm i0 (c := 613) (by decide), kmm i0 (c := 578) (by decide), kmm i0 (c := 615) (by decide), kmm i0 (c := 616) (by decide), kt 555 77 (by unfold wsMm; omega), kmm i0 (c := 618) (by decide), kmm i0 (c := 619) (by decide), kmm i0 (c := 620) (by decide)]; exact z))
          refine ⟨?_, ?_⟩
          · (clear ih0 ih1; (rw [kt 609 x1 (by unfold wsMm; omega)]; omega))
          refine ⟨?_, ?_⟩
          · (first | omega | exact ⟨by omega, by omega⟩ | assumption)
          refine ⟨?_, ?_⟩
          · (clear ih0 ih1; exact bd_0_20_eq m8 (kmm i0 (by decide)))
          refine ⟨?_, ?_⟩
          · (clear ih0 ih1; exact HBD_m i0 m10)
          rintro y23 σ22 ⟨y23f, y23fq⟩ gσ22 ⟨eσ22_0, eσ22_1⟩
          have f14 : ∀ c i, ¬ wsQ c i → σ22.I c i = τ.I c i := eσ22_1.2
          have K14 : KMm σ σ22 := Ch.tr i0 (Ch.mono eσ22_1 (fun c i q => by unfold wsQ at q; unfold wsMm; omega))
          have hy23 : y23 = 1 ↔ ofL σ x1 x6 := (by rw [eσ22_0]; exact ofL_m i0 m5)
          refine ⟨fun c7 => ?_, fun c8 => ?_⟩
          · refine ⟨?_, ?_⟩
            · (first | omega | exact ⟨by omega, by omega⟩ | assumption)
            refine ⟨?_, ?_⟩
            · (first | omega | exact ⟨by omega, by omega⟩ | assumption)
            intro σ27 eσ27 gσ27
            have q_ : ∀ t, σ27.I 654 t = if t = x6 then 0 else τ.I 654 t := fun t => (by rw [eσ27, I_wI]; by_cases z : t = x6; (rw [if_pos ⟨rfl, z⟩, if_pos z]); (rw [if_neg (fun w => z w.2), if_neg z]; exact f14 _ _ (by unfold wsQ; omega)))
            have K_ : KMm σ σ27 := Ch.tr K14 (by rw [eσ27]; exact Ch.wI Ch.rf (by unfold wsMm; omega))
            have hmk : ∀ t, 0 ≤ t → t < 24000 → (σ27.I 654 t = 1 ↔ (σ.I 654 t = 1 ∨ mkN σ x1 x2 (x5 - σ.I 595 x2) t ∨ ((σ.I 582 x5 ≤ t ∧ t < x6 + 1) ∧ ofL σ x1 t))) := fun t a b => (by
              rw [q_]
              by_cases z : t = x6
              · rw [if_pos z, z]
                have w := i3 x6 (by omega) (by omega)
                exact ⟨fun h => absurd h (by decide), fun h => (by exfalso; rcases h with h | h | h; (have y := w.mpr (Or.inl h); omega); (have y := w.mpr (Or.inr (Or.inl h)); omega); (have y := hy23.mpr h.2; omega))⟩
              · rw [if_neg z, i3 t a b]
                constructor
                · intro h; rcases h with h | h | h; (exact Or.inl h); (exact Or.inr (Or.inl h)); (exact Or.inr (Or.inr ⟨⟨h.1.1, by omega⟩, h.2⟩))
                · intro h; rcases h with h | h | h; (exact Or.inl h); (exact Or.inr (Or.inl h)); (exact Or.inr (Or.inr ⟨⟨h.1.1, by have w := h.1.2; omega⟩, h.2⟩)))
            have hb01 : bd_0_1 σ27 654 24000 := fun t a b => (by rw [q_]; by_cases z : t = x6; (rw [if_pos z]; decide); (rw [if_neg z]; exact i4 t a b))
            have f_ : ∀ c i, c ≠ 654 → σ27.I c i = σ22.I c i := fun c i q => (by rw [eσ27]; exact I_ne _ _ _ _ q)
            have hw_ : WKC σ27 := ⟨bd_0_15_eq i5.1 (funext fun i => (f_ _ _ (by decide)).trans (f14 _ _ (by unfold wsQ; omega))), bd_0_20_eq i5.2.1 (funext fun i => (f_ _ _ (by decide)).trans (f14 _ _ (by unfold wsQ; omega))), bd_0_500_eq i5.2.2.1 (funext fun i => (f_ _ _ (by decide)).trans (f14 _ _ (by unfold wsQ; omega))), bd_m1_15_eq i5.2.2.2 (funext fun i => (f_ _ _ (by decide)).trans (f14 _ _ (by unfold wsQ; omega)))⟩
            have hbr : σ.I 609 x1 = 7 → BRP σ σ27 x1 := fun h => BRP_k (i6 h) (fun c i q => (f_ _ _ (by omega)).trans (f14 _ _ (by unfold wsQ; omega)))
            have g2 : σ27.I 582 (x5 + 1) = σ.I 582 (x5 + 1) := K_.2 _ _ (by unfold wsMm; omega)
            refine ih1 _ _ _ _ ((gτ.tr gσ22).tr gσ27) ⟨?_, ?_, ?_, ?_, ?_, ?_, ?_, ?_⟩ ?_
            · (clear ih0 ih1; first | exact K_ | exact i0)
            · (clear ih0 ih1; exact i1)
            · (first | omega | exact ⟨by omega, by omega⟩ | assumption)
            · (clear ih0 ih1; exact hmk)
            · (clear ih0 ih1; first | exact hb01 | exact i4)
            · (clear ih0 ih1; first | exact hw_ | exact i5)
            · (clear ih0 ih1; first | exact hbr | exact i6)
            · (clear ih0 ih1; exact i7)
            · (unfold lt3; omega)
          · refine ⟨?_, ?_⟩
            · (first | omega | exact ⟨by omega, by omega⟩ | assumption)
            refine ⟨?_, ?_⟩
            · (first | omega | exact ⟨by omega, by omega⟩ | assumption)
            intro σ30 eσ30 gσ30
            have q_ : ∀ t, σ30.I 654 t = if t = x6 then 1 else τ.I 654 t := fun t => (by rw [eσ30, I_wI]; by_cases z : t = x6; (rw [if_pos ⟨rfl, z⟩, if_pos z]); (rw [if_neg (fun w => z w.2), if_neg z]; exact f14 _ _ (by unfold wsQ; omega)))
            have K_ : KMm σ σ30 := Ch.tr K14 (by rw [eσ30]; exact Ch.wI Ch.rf (by unfold wsMm; omega))
            have hmk : ∀ t, 0 ≤ t → t < 24000 → (σ30.I 654 t = 1 ↔ (σ.I 654 t = 1 ∨ mkN σ x1 x2 (x5 - σ.I 595 x2) t ∨ ((σ.I 582 x5 ≤ t ∧ t < x6 + 1) ∧ ofL σ x1 t))) := fun t a b => (by
              rw [q_]
              by_cases z : t = x6
              · rw [if_pos z, z]
                have w := i3 x6 (by omega) (by omega)
                exact ⟨fun _ => Or.inr (Or.inr ⟨⟨by omega, by omega⟩, hy23.mp (by omega)⟩), fun _ => rfl⟩
              · rw [if_neg z, i3 t a b]
                constructor
                · intro h; rcases h with h | h | h; (exact Or.inl h); (exact Or.inr (Or.inl h)); (exact Or.inr (Or.inr ⟨⟨h.1.1, by omega⟩, h.2⟩))
                · intro h; rcases h with h | h | h; (exact Or.inl h); (exact Or.inr (Or.inl h)); (exact Or.inr (Or.inr ⟨⟨h.1.1, by have w := h.1.2; omega⟩, h.2⟩)))
            have hb01 : bd_0_1 σ30 654 24000 := fun t a b => (by rw [q_]; by_cases z : t = x6; (rw [if_pos z]; decide); (rw [if_neg z]; exact i4 t a b))
            have f_ : ∀ c i, c ≠ 654 → σ30.I c i = σ22.I c i := fun c i q => (by rw [eσ30]; exact I_ne _ _ _ _ q)
            have hw_ : WKC σ30 := ⟨bd_0_15_eq i5.1 (funext fun i => (f_ _ _ (by decide)).trans (f14 _ _ (by unfold wsQ; omega))), bd_0_20_eq i5.2.1 (funext fun i => (f_ _ _ (by decide)).trans (f14 _ _ (by unfold wsQ; omega))), bd_0_500_eq i5.2.2.1 (funext fun i => (f_ _ _ (by decide)).trans (f14 _ _ (by unfold wsQ; omega))), bd_m1_15_eq i5.2.2.2 (funext fun i => (f_ _ _ (by decide)).trans (f14 _ _ (by unfold wsQ; omega)))⟩
            have hbr : σ.I 609 x1 = 7 → BRP σ σ30 x1 := fun h => BRP_k (i6 h) (fun c i q => (f_ _ _ (by omega)).trans (f14 _ _ (by unfold wsQ; omega)))
            have g2 : σ30.I 582 (x5 + 1) = σ.I 582 (x5 + 1) := K_.2 _ _ (by unfold wsMm; omega)
            refine ih1 _ _ _ _ ((gτ.tr gσ22).tr gσ30) ⟨?_, ?_, ?_, ?_, ?_, ?_, ?_, ?_⟩ ?_
            · (clear ih0 ih1; first | exact K_ | exact i0)
            · (clear ih0 ih1; exact i1)
            · (first | omega | exact ⟨by omega, by omega⟩ | assumption)
            · (clear ih0 ih1; exact hmk)
            · (clear ih0 ih1; first | exact hb01 | exact i4)
            · (clear ih0 ih1; first | exact hw_ | exact i5)
            · (clear ih0 ih1; first | exact hbr | exact i6)
            · (clear ih0 ih1; exact i7)
            · (unfold lt3; omega)
  have k0_ : ∀ (x4 : Int) (x5 : Int) (τ : Sto), SF σ τ → ((KMm σ τ) ∧ (x4 = σ.I 609 x1 ∧ lfC σ x1 x2 x3 ∧ (x4 = 7 ∨ 11 ≤ x4)) ∧ (σ.I 595 x2 ≤ x5 ∧ x5 ≤ σ.I 595 x2 + σ.I 596 x2) ∧ (∀ t, 0 ≤ t → t < 24000 → (τ.I 654 t = 1 ↔ (σ.I 654 t = 1 ∨ mkN σ x1 x2 (x5 - σ.I 595 x2) t))) ∧ (bd_0_1 τ 654 24000) ∧ (WKC τ) ∧ (σ.I 609 x1 = 7 → BRP σ τ x1)) → VV E mX9_markLeaf (d + 1) 75 [(0, aO 555), (1, aI (x1)), (2, aI (x2)), (3, aI (x3)), (4, aI (x4)), (5, aI (x5))] [] τ (RV (fun τ => (∀ t, 0 ≤ t → t < 24000 → (τ.I 654 t = 1 ↔ (σ.I 654 t = 1 ∨ lfJ σ x2 x3 t x1))) ∧ (bd_0_1 τ 654 24000) ∧ (WKC τ) ∧ (KMm σ τ))) := fun z0 z1 z2 h0 h1 => (key _ _ _).1 z0 z1 z2 h0 h1 rfl rfl rfl
  have k1_ : ∀ (x4 : Int) (x5 : Int) (x6 : Int) (τ : Sto), SF σ τ → ((KMm σ τ) ∧ (x4 = σ.I 609 x1 ∧ lfC σ x1 x2 x3 ∧ (x4 = 7 ∨ 11 ≤ x4)) ∧ ((σ.I 582 x5 ≤ x6 ∧ x6 ≤ σ.I 582 (x5 + 1)) ∧ σ.I 595 x2 ≤ x5 ∧ x5 < σ.I 595 x2 + σ.I 596 x2) ∧ (∀ t, 0 ≤ t → t < 24000 → (τ.I 654 t = 1 ↔ (σ.I 654 t = 1 ∨ mkN σ x1 x2 (x5 - σ.I 595 x2) t ∨ ((σ.I 582 x5 ≤ t ∧ t < x6) ∧ ofL σ x1 t)))) ∧ (bd_0_1 τ 654 24000) ∧ (WKC τ) ∧ (σ.I 609 x1 = 7 → BRP σ τ x1) ∧ (vlN σ x1 x5)) → VV E mX9_markLeaf (d + 1) 134 [(0, aO 555), (1, aI (x1)), (2, aI (x2)), (3, aI (x3)), (4, aI (x4)), (5, aI (x5)), (6, aI (x6))] [] τ (RV (fun τ => (∀ t, 0 ≤ t → t < 24000 → (τ.I 654 t = 1 ↔ (σ.I 654 t = 1 ∨ lfJ σ x2 x3 t x1))) ∧ (bd_0_1 τ 654 24000) ∧ (WKC τ) ∧ (KMm σ τ))) := fun z0 z1 z2 z3 h0 h1 => (key _ _ _).2 z0 z1 z2 z3 h0 h1 rfl rfl rfl
  clear key
  refine ucX9_markLeaf_0W  hL  ?_
  refine ⟨?_, ?_⟩
  · (first | omega | exact ⟨by omega, by omega⟩ | assumption)
  refine ⟨?_, ?_⟩
  · (first | omega | exact ⟨by omega, by omega⟩ | assumption)
  rintro ⟨f1, f1q⟩
  refine ⟨?_, ?_⟩
  · (first | omega | exact ⟨by omega, by omega⟩ | assumption)
  refine ⟨?_, ?_⟩
  · (first | omega | exact ⟨by omega, by omega⟩ | assumption)
  rintro ⟨f2, f2q⟩
  refine ⟨?_, ?_⟩
  · (first | exact ⟨by omega, by omega⟩ | assumption)
  refine ⟨fun c3 => ?_, fun c4 => ?_⟩
  · refine RV_mk ?_
    · refine ⟨?_, ?_, ?_, ?_⟩
      · (clear k0_ k1_; (intro t a b; exact ⟨Or.inl, fun z => z.elim id (fun w => by obtain ⟨w1, w2, w3⟩ := w.1; first | (exfalso; omega) | (exfalso; contradiction))⟩))
      · (clear k0_ k1_; first | exact bd_0_1_eq m12 (funext fun i => h654 i) | exact m12)
      · (clear k0_ k1_; first | exact eσ20_1 | exact m11)
      · (clear k0_ k1_; first | exact K19 | exact Ch.rf)
  · refine ⟨fun c5 => ?_, fun c6 => ?_⟩
    · refine ⟨?_, ?_⟩
      · (first | omega | exact ⟨by omega, by omega⟩ | assumption)
      refine ⟨?_, ?_⟩
      · (first | omega | exact ⟨by omega, by omega⟩ | assumption)
      rintro ⟨f7, f7q⟩
      refine ⟨fun c8 => ?_, fun c9 => ?_⟩
      · refine ⟨?_, ?_⟩
        · omega
        refine ⟨?_, ?_⟩
        · (first | omega | exact ⟨by omega, by omega⟩ | assumption)
        refine ⟨?_, ?_⟩
        · (first | omega | exact ⟨by omega, by omega⟩ | assumption)
        refine ⟨?_, ?_⟩
        · (clear k0_ k1_; exact m10)
        refine ⟨?_, ?_⟩
        · (clear k0_ k1_; exact m11)
        rintro σ20 gσ20 ⟨eσ20_0, eσ20_1, eσ20_2⟩
        have f19 : ∀ c i, ¬ wsBr c i → σ20.I c i = σ.I c i := eσ20_2.2
        have K19 : KMm σ σ20 := Ch.mono eσ20_2 (fun c i q => by unfold wsBr at q; unfold wsMm; omega)
        have h654 : ∀ t, σ20.I 654 t = σ.I 654 t := fun t => f19 _ _ (by unfold wsBr; omega)
        have g595 : σ20.I 595 x2 = σ.I 595 x2 := f19 _ _ (by unfold wsBr; omega)
        refine ⟨?_, ?_⟩
        · (first | omega | exact ⟨by omega, by omega⟩ | assumption)
        refine ⟨?_, ?_⟩
        · (first | omega | exact ⟨by omega, by omega⟩ | assumption)
        rintro ⟨f10, f10q⟩
        refine k0_ _ _ _ gσ20 ⟨?_, ?_, ?_, ?_, ?_, ?_, ?_⟩
        · (clear k0_ k1_; first | exact K19 | exact Ch.rf)
        · (clear k0_ k1_; exact ⟨rfl, ⟨by omega, by omega, by assumption⟩, by omega⟩)
        · (clear k0_ k1_; first | omega | (rw [g595]; omega))
        · (clear k0_ k1_; (intro t a b; first | (rw [h654, g595, show σ.I 595 x2 - σ.I 595 x2 = 0 by omega]; exact ⟨Or.inl, fun z => z.elim id (fun w => absurd w (mkN_0 (Int.le_refl _)))⟩) | (rw [show σ.I 595 x2 - σ.I 595 x2 = 0 by omega]; exact ⟨Or.inl, fun z => z.elim id (fun w => absurd w (mkN_0 (Int.le_refl _)))⟩)))
        · (clear k0_ k1_; first | exact bd_0_1_eq m12 (funext fun i => h654 i) | exact m12)
        · (clear k0_ k1_; first | exact eσ20_1 | exact m11)
        · (clear k0_ k1_; first | exact (fun _ => eσ20_0) | exact (fun z => by exfalso; omega))
      · refine RV_mk ?_
        · refine ⟨?_, ?_, ?_, ?_⟩
          · (clear k0_ k1_; (intro t a b; exact ⟨Or.inl, fun z => z.elim id (fun w => by obtain ⟨w1, w2, w3⟩ := w.1; first | (exfalso; omega) | (exfalso; contradiction))⟩))
          · (clear k0_ k1_; first | exact bd_0_1_eq m12 (funext fun i => h654 i) | exact m12)
          · (clear k0_ k1_; first | exact eσ20_1 | exact m11)
          · (clear k0_ k1_; first | exact K19 | exact Ch.rf)
    · refine ⟨fun c11 => ?_, fun c12 => ?_⟩
      · refine ⟨?_, ?_⟩
        · (first | omega | exact ⟨by omega, by omega⟩ | assumption)
        refine ⟨?_, ?_⟩
        · (first | omega | exact ⟨by omega, by omega⟩ | assumption)
        rintro ⟨f13, f13q⟩
        refine ⟨fun c14 => ?_, fun c15 => ?_⟩
        · refine ⟨?_, ?_⟩
          · (first | omega | exact ⟨by omega, by omega⟩ | assumption)
          refine ⟨?_, ?_⟩
          · (first | omega | exact ⟨by omega, by omega⟩ | assumption)
          rintro ⟨f16, f16q⟩
          refine k0_ _ _ _ SF.rf ⟨?_, ?_, ?_, ?_, ?_, ?_, ?_⟩
          · (clear k0_ k1_; first | exact K19 | exact Ch.rf)
          · (clear k0_ k1_; exact ⟨rfl, ⟨by omega, by omega, by assumption⟩, by omega⟩)
          · (clear k0_ k1_; first | omega | (rw [g595]; omega))
          · (clear k0_ k1_; (intro t a b; first | (rw [h654, g595, show σ.I 595 x2 - σ.I 595 x2 = 0 by omega]; exact ⟨Or.inl, fun z => z.elim id (fun w => absurd w (mkN_0 (Int.le_refl _)))⟩) | (rw [show σ.I 595 x2 - σ.I 595 x2 = 0 by omega]; exact ⟨Or.inl, fun z => z.elim id (fun w => absurd w (mkN_0 (Int.le_refl _)))⟩)))
          · (clear k0_ k1_; first | exact bd_0_1_eq m12 (funext fun i => h654 i) | exact m12)
          · (clear k0_ k1_; first | exact eσ20_1 | exact m11)
          · (clear k0_ k1_; first | exact (fun _ => eσ20_0) | exact (fun z => by exfalso; omega))
        · refine RV_mk ?_
          · refine ⟨?_, ?_, ?_, ?_⟩
            · (clear k0_ k1_; (intro t a b; exact ⟨Or.inl, fun z => z.elim id (fun w => by obtain ⟨w1, w2, w3⟩ := w.1; first | (exfalso; omega) | (exfalso; contradiction))⟩))
            · (clear k0_ k1_; first | exact bd_0_1_eq m12 (funext fun i => h654 i) | exact m12)
            · (clear k0_ k1_; first | exact eσ20_1 | exact m11)
            · (clear k0_ k1_; first | exact K19 | exact Ch.rf)
      · refine ⟨fun c17 => ?_, fun c18 => ?_⟩
        · refine RV_mk ?_
          · refine ⟨?_, ?_, ?_, ?_⟩
            · (clear k0_ k1_; (intro t a b; exact ⟨Or.inl, fun z => z.elim id (fun w => by obtain ⟨w1, w2, w3⟩ := w.1; first | (exfalso; omega) | (exfalso; contradiction))⟩))
            · (clear k0_ k1_; first | exact bd_0_1_eq m12 (funext fun i => h654 i) | exact m12)
            · (clear k0_ k1_; first | exact eσ20_1 | exact m11)
            · (clear k0_ k1_; first | exact K19 | exact Ch.rf)
        · refine ⟨?_, ?_⟩
          · (first | omega | exact ⟨by omega, by omega⟩ | assumption)
          refine ⟨?_, ?_⟩
          · (first | omega | exact ⟨by omega, by omega⟩ | assumption)
          rintro ⟨f19, f19q⟩
          refine ⟨fun c20 => ?_, fun c21 => ?_⟩
          · refine ⟨?_, ?_⟩
            · (first | omega | exact ⟨by omega, by omega⟩ | assumption)
            refine ⟨?_, ?_⟩
            · (first | omega | exact ⟨by omega, by omega⟩ | assumption)
            rintro ⟨f22, f22q⟩
            refine k0_ _ _ _ SF.rf ⟨?_, ?_, ?_, ?_, ?_, ?_, ?_⟩
            · (clear k0_ k1_; first | exact K19 | exact Ch.rf)
            · (clear k0_ k1_; exact ⟨rfl, ⟨by omega, by omega, by assumption⟩, by omega⟩)
            · (clear k0_ k1_; first | omega | (rw [g595]; omega))
            · (clear k0_ k1_; (intro t a b; first | (rw [h654, g595, show σ.I 595 x2 - σ.I 595 x2 = 0 by omega]; exact ⟨Or.inl, fun z => z.elim id (fun w => absurd w (mkN_0 (Int.le_refl _)))⟩) | (rw [show σ.I 595 x2 - σ.I 595 x2 = 0 by omega]; exact ⟨Or.inl, fun z => z.elim id (fun w => absurd w (mkN_0 (Int.le_refl _)))⟩)))
            · (clear k0_ k1_; first | exact bd_0_1_eq m12 (funext fun i => h654 i) | exact m12)
            · (clear k0_ k1_; first | exact eσ20_1 | exact m11)
            · (clear k0_ k1_; first | exact (fun _ => eσ20_0) | exact (fun z => by exfalso; omega))
          · refine RV_mk ?_
            · refine ⟨?_, ?_, ?_, ?_⟩
              · (clear k0_ k1_; (intro t a b; exact ⟨Or.inl, fun z => z.elim id (fun w => by obtain ⟨w1, w2, w3⟩ := w.1; first | (exfalso; omega) | (exfalso; contradiction))⟩))
              · (clear k0_ k1_; first | exact bd_0_1_eq m12 (funext fun i => h654 i) | exact m12)
              · (clear k0_ k1_; first | exact eσ20_1 | exact m11)
              · (clear k0_ k1_; first | exact K19 | exact Ch.rf)
