set_option maxRecDepth 100000
set_option maxHeartbeats 1200000
theorem DX9_groupAll_0W : DD cX9_groupAll 0 1 1 (.aload_n 0) := ⟨by decide +kernel, rfl⟩
theorem DX9_groupAll_1W : DD cX9_groupAll 1 1 2 (.iconst 0) := ⟨by decide +kernel, rfl⟩
theorem DX9_groupAll_2W : DD cX9_groupAll 2 3 5 (.putfield 957) := ⟨by decide +kernel, rfl⟩
theorem DX9_groupAll_5W : DD cX9_groupAll 5 1 6 (.aload_n 0) := ⟨by decide +kernel, rfl⟩
theorem DX9_groupAll_6W : DD cX9_groupAll 6 1 7 (.lload_n 2) := ⟨by decide +kernel, rfl⟩
theorem DX9_groupAll_7W : DD cX9_groupAll 7 1 8 (.lconst 0) := ⟨by decide +kernel, rfl⟩
theorem DX9_groupAll_8W : DD cX9_groupAll 8 1 9 (.lcmp) := ⟨by decide +kernel, rfl⟩
theorem DX9_groupAll_9W : DD cX9_groupAll 9 3 12 (.ifCond .ne 7) := ⟨by decide +kernel, rfl⟩
theorem DX9_groupAll_12W : DD cX9_groupAll 12 1 13 (.iconst 1) := ⟨by decide +kernel, rfl⟩
theorem DX9_groupAll_13W : DD cX9_groupAll 13 3 16 (.goto 4) := ⟨by decide +kernel, rfl⟩
theorem DX9_groupAll_16W : DD cX9_groupAll 16 1 17 (.iconst 0) := ⟨by decide +kernel, rfl⟩
theorem DX9_groupAll_17W : DD cX9_groupAll 17 3 20 (.putfield 1025) := ⟨by decide +kernel, rfl⟩
theorem DX9_groupAll_20W : DD cX9_groupAll 20 1 21 (.iconst 0) := ⟨by decide +kernel, rfl⟩
theorem DX9_groupAll_21W : DD cX9_groupAll 21 2 23 (.istore 4) := ⟨by decide +kernel, rfl⟩
theorem DX9_groupAll_23W : DD cX9_groupAll 23 2 25 (.iload 4) := ⟨by decide +kernel, rfl⟩
theorem DX9_groupAll_25W : DD cX9_groupAll 25 1 26 (.aload_n 0) := ⟨by decide +kernel, rfl⟩
theorem DX9_groupAll_26W : DD cX9_groupAll 26 3 29 (.getfield 948) := ⟨by decide +kernel, rfl⟩
theorem DX9_groupAll_29W : DD cX9_groupAll 29 3 32 (.if_icmp .ge 99) := ⟨by decide +kernel, rfl⟩
theorem DX9_groupAll_32W : DD cX9_groupAll 32 1 33 (.aload_n 0) := ⟨by decide +kernel, rfl⟩
theorem DX9_groupAll_33W : DD cX9_groupAll 33 3 36 (.getfield 272) := ⟨by decide +kernel, rfl⟩
theorem DX9_groupAll_36W : DD cX9_groupAll 36 2 38 (.iload 4) := ⟨by decide +kernel, rfl⟩
theorem DX9_groupAll_38W : DD cX9_groupAll 38 1 39 (.iaload) := ⟨by decide +kernel, rfl⟩
theorem DX9_groupAll_39W : DD cX9_groupAll 39 2 41 (.istore 5) := ⟨by decide +kernel, rfl⟩
theorem DX9_groupAll_41W : DD cX9_groupAll 41 1 42 (.aload_n 0) := ⟨by decide +kernel, rfl⟩
theorem DX9_groupAll_42W : DD cX9_groupAll 42 3 45 (.getfield 141) := ⟨by decide +kernel, rfl⟩
theorem DX9_groupAll_45W : DD cX9_groupAll 45 2 47 (.iload 5) := ⟨by decide +kernel, rfl⟩
theorem DX9_groupAll_47W : DD cX9_groupAll 47 1 48 (.iaload) := ⟨by decide +kernel, rfl⟩
theorem DX9_groupAll_48W : DD cX9_groupAll 48 2 50 (.istore 6) := ⟨by decide +kernel, rfl⟩
theorem DX9_groupAll_50W : DD cX9_groupAll 50 2 52 (.iload 6) := ⟨by decide +kernel, rfl⟩
theorem DX9_groupAll_52W : DD cX9_groupAll 52 1 53 (.aload_n 0) := ⟨by decide +kernel, rfl⟩
theorem DX9_groupAll_53W : DD cX9_groupAll 53 2 55 (.iload 5) := ⟨by decide +kernel, rfl⟩
theorem DX9_groupAll_55W : DD cX9_groupAll 55 3 58 (.invokevirtual 836) := ⟨by decide +kernel, rfl⟩
theorem DX9_groupAll_58W : DD cX9_groupAll 58 3 61 (.if_icmp .ge 64) := ⟨by decide +kernel, rfl⟩
theorem DX9_groupAll_61W : DD cX9_groupAll 61 1 62 (.aload_n 0) := ⟨by decide +kernel, rfl⟩
theorem DX9_groupAll_62W : DD cX9_groupAll 62 3 65 (.getfield 90) := ⟨by decide +kernel, rfl⟩
theorem DX9_groupAll_65W : DD cX9_groupAll 65 2 67 (.iload 6) := ⟨by decide +kernel, rfl⟩
theorem DX9_groupAll_67W : DD cX9_groupAll 67 1 68 (.iaload) := ⟨by decide +kernel, rfl⟩
theorem DX9_groupAll_68W : DD cX9_groupAll 68 1 69 (.iload_n 1) := ⟨by decide +kernel, rfl⟩
theorem DX9_groupAll_69W : DD cX9_groupAll 69 3 72 (.if_icmp .ne 47) := ⟨by decide +kernel, rfl⟩
theorem DX9_groupAll_72W : DD cX9_groupAll 72 1 73 (.aload_n 0) := ⟨by decide +kernel, rfl⟩
theorem DX9_groupAll_73W : DD cX9_groupAll 73 3 76 (.getfield 278) := ⟨by decide +kernel, rfl⟩
theorem DX9_groupAll_76W : DD cX9_groupAll 76 1 77 (.iload_n 1) := ⟨by decide +kernel, rfl⟩
theorem DX9_groupAll_77W : DD cX9_groupAll 77 1 78 (.baload) := ⟨by decide +kernel, rfl⟩
theorem DX9_groupAll_78W : DD cX9_groupAll 78 3 81 (.ifCond .eq 38) := ⟨by decide +kernel, rfl⟩
theorem DX9_groupAll_81W : DD cX9_groupAll 81 1 82 (.aload_n 0) := ⟨by decide +kernel, rfl⟩
theorem DX9_groupAll_82W : DD cX9_groupAll 82 2 84 (.iload 4) := ⟨by decide +kernel, rfl⟩
theorem DX9_groupAll_84W : DD cX9_groupAll 84 1 85 (.aload_n 0) := ⟨by decide +kernel, rfl⟩
theorem DX9_groupAll_85W : DD cX9_groupAll 85 3 88 (.getfield 99) := ⟨by decide +kernel, rfl⟩
theorem DX9_groupAll_88W : DD cX9_groupAll 88 2 90 (.iload 6) := ⟨by decide +kernel, rfl⟩
theorem DX9_groupAll_90W : DD cX9_groupAll 90 1 91 (.iaload) := ⟨by decide +kernel, rfl⟩
theorem DX9_groupAll_91W : DD cX9_groupAll 91 1 92 (.aload_n 0) := ⟨by decide +kernel, rfl⟩
theorem DX9_groupAll_92W : DD cX9_groupAll 92 3 95 (.getfield 1025) := ⟨by decide +kernel, rfl⟩
theorem DX9_groupAll_95W : DD cX9_groupAll 95 3 98 (.ifCond .eq 7) := ⟨by decide +kernel, rfl⟩
theorem DX9_groupAll_98W : DD cX9_groupAll 98 1 99 (.lconst 0) := ⟨by decide +kernel, rfl⟩
theorem DX9_groupAll_99W : DD cX9_groupAll 99 3 102 (.goto 14) := ⟨by decide +kernel, rfl⟩
theorem DX9_groupAll_102W : DD cX9_groupAll 102 1 103 (.aload_n 0) := ⟨by decide +kernel, rfl⟩
theorem DX9_groupAll_103W : DD cX9_groupAll 103 3 106 (.getfield 102) := ⟨by decide +kernel, rfl⟩
theorem DX9_groupAll_106W : DD cX9_groupAll 106 2 108 (.iload 6) := ⟨by decide +kernel, rfl⟩
theorem DX9_groupAll_108W : DD cX9_groupAll 108 1 109 (.laload) := ⟨by decide +kernel, rfl⟩
theorem DX9_groupAll_109W : DD cX9_groupAll 109 1 110 (.lload_n 2) := ⟨by decide +kernel, rfl⟩
theorem DX9_groupAll_110W : DD cX9_groupAll 110 3 113 (.invokestatic 1031) := ⟨by decide +kernel, rfl⟩
theorem DX9_groupAll_113W : DD cX9_groupAll 113 3 116 (.invokevirtual 1034) := ⟨by decide +kernel, rfl⟩
theorem DX9_groupAll_116W : DD cX9_groupAll 116 3 119 (.iinc 6 1) := ⟨by decide +kernel, rfl⟩
theorem DX9_groupAll_119W : DD cX9_groupAll 119 3 122 (.goto (-69)) := ⟨by decide +kernel, rfl⟩
theorem DX9_groupAll_122W : DD cX9_groupAll 122 3 125 (.iinc 4 1) := ⟨by decide +kernel, rfl⟩
theorem DX9_groupAll_125W : DD cX9_groupAll 125 3 128 (.goto (-102)) := ⟨by decide +kernel, rfl⟩
theorem DX9_groupAll_128W : DD cX9_groupAll 128 1 129 (.iconst 1) := ⟨by decide +kernel, rfl⟩
theorem DX9_groupAll_129W : DD cX9_groupAll 129 2 131 (.istore 4) := ⟨by decide +kernel, rfl⟩
theorem DX9_groupAll_131W : DD cX9_groupAll 131 2 133 (.iload 4) := ⟨by decide +kernel, rfl⟩
theorem DX9_groupAll_133W : DD cX9_groupAll 133 1 134 (.aload_n 0) := ⟨by decide +kernel, rfl⟩
theorem DX9_groupAll_134W : DD cX9_groupAll 134 3 137 (.getfield 957) := ⟨by decide +kernel, rfl⟩
theorem DX9_groupAll_137W : DD cX9_groupAll 137 3 140 (.if_icmp .ge 47) := ⟨by decide +kernel, rfl⟩
theorem DX9_groupAll_140W : DD cX9_groupAll 140 2 142 (.iload 4) := ⟨by decide +kernel, rfl⟩
theorem DX9_groupAll_142W : DD cX9_groupAll 142 2 144 (.istore 5) := ⟨by decide +kernel, rfl⟩
theorem DX9_groupAll_144W : DD cX9_groupAll 144 2 146 (.iload 5) := ⟨by decide +kernel, rfl⟩
theorem DX9_groupAll_146W : DD cX9_groupAll 146 3 149 (.ifCond .le 32) := ⟨by decide +kernel, rfl⟩
theorem DX9_groupAll_149W : DD cX9_groupAll 149 1 150 (.aload_n 0) := ⟨by decide +kernel, rfl⟩
theorem DX9_groupAll_150W : DD cX9_groupAll 150 2 152 (.iload 5) := ⟨by decide +kernel, rfl⟩
theorem DX9_groupAll_152W : DD cX9_groupAll 152 2 154 (.iload 5) := ⟨by decide +kernel, rfl⟩
theorem DX9_groupAll_154W : DD cX9_groupAll 154 1 155 (.iconst 1) := ⟨by decide +kernel, rfl⟩
theorem DX9_groupAll_155W : DD cX9_groupAll 155 1 156 (.isub) := ⟨by decide +kernel, rfl⟩
theorem DX9_groupAll_156W : DD cX9_groupAll 156 3 159 (.invokevirtual 1038) := ⟨by decide +kernel, rfl⟩
theorem DX9_groupAll_159W : DD cX9_groupAll 159 3 162 (.ifCond .eq 19) := ⟨by decide +kernel, rfl⟩
theorem DX9_groupAll_162W : DD cX9_groupAll 162 1 163 (.aload_n 0) := ⟨by decide +kernel, rfl⟩
theorem DX9_groupAll_163W : DD cX9_groupAll 163 2 165 (.iload 5) := ⟨by decide +kernel, rfl⟩
theorem DX9_groupAll_165W : DD cX9_groupAll 165 2 167 (.iload 5) := ⟨by decide +kernel, rfl⟩
theorem DX9_groupAll_167W : DD cX9_groupAll 167 1 168 (.iconst 1) := ⟨by decide +kernel, rfl⟩
theorem DX9_groupAll_168W : DD cX9_groupAll 168 1 169 (.isub) := ⟨by decide +kernel, rfl⟩
theorem DX9_groupAll_169W : DD cX9_groupAll 169 3 172 (.invokevirtual 1041) := ⟨by decide +kernel, rfl⟩
theorem DX9_groupAll_172W : DD cX9_groupAll 172 3 175 (.iinc 5 (-1)) := ⟨by decide +kernel, rfl⟩
theorem DX9_groupAll_175W : DD cX9_groupAll 175 3 178 (.goto (-31)) := ⟨by decide +kernel, rfl⟩
theorem DX9_groupAll_178W : DD cX9_groupAll 178 3 181 (.iinc 4 1) := ⟨by decide +kernel, rfl⟩
theorem DX9_groupAll_181W : DD cX9_groupAll 181 3 184 (.goto (-50)) := ⟨by decide +kernel, rfl⟩
theorem DX9_groupAll_184W : DD cX9_groupAll 184 1 185 (.return_) := ⟨by decide +kernel, rfl⟩
theorem ucX9_groupAll_0W {E : XE} {d : Nat} {σ : Sto} {Q : Res → Sto → Prop} {x1 : Int} {y2 : Int} (hL : Lay σ)  (h : (∀ σ1 : Sto, σ1 = σ.wI 555 135 0 → SF σ σ1 → inL y2 ∧ (y2 ≠ 0 → (∀ σ4 : Sto, σ4 = σ1.wI 555 141 0 → SF σ1 σ4 → VV E mX9_groupAll (d + 1) 23 [(0, aO 555), (1, aI (x1)), (2, aL (y2)), (4, aI (0))] [] σ4 Q)) ∧ (y2 = 0 → (∀ σ5 : Sto, σ5 = σ1.wI 555 141 1 → SF σ1 σ5 → VV E mX9_groupAll (d + 1) 23 [(0, aO 555), (1, aI (x1)), (2, aL (y2)), (4, aI (0))] [] σ5 Q)))) : VV E mX9_groupAll (d + 1) 0 [(0, aO 555), (1, aI (x1)), (2, aL (y2))] [] σ Q := by
  refine v_aload_n 0 DX9_groupAll_0W rfl rfl <| v_iconst DX9_groupAll_1W <| ?_
  refine w_putI (ci := 9) (kf := 135) (kz := 135) DX9_groupAll_2W (s_555 hL) rfl (by decide) rfl (Or.inl ⟨rfl, q2359⟩) (fun _ _ => rfl) ⟨by decide, by decide⟩ rfl rfl (fun σ1 eσ1 gσ1 => ?_)
  have h := h σ1 eσ1 gσ1
  refine v_aload_n 0 DX9_groupAll_5W rfl rfl <| v_lload_n 2 DX9_groupAll_6W rfl rfl <| v_lconst DX9_groupAll_7W <| ?_
  obtain ⟨k2, h⟩ := h
  refine v_lc_ne (tg := 16) DX9_groupAll_8W DX9_groupAll_9W (by decide) k2 ⟨by decide, by decide⟩ (fun c3 => ?_) (fun c3 => ?_)
  · have h := h.1 c3
    refine v_iconst DX9_groupAll_16W <| ?_
    refine w_putI (ci := 9) (kf := 141) (kz := 141) DX9_groupAll_17W (s_555 (hL.sf gσ1)) rfl (by decide) rfl (Or.inl ⟨rfl, q2365⟩) (fun _ _ => rfl) ⟨by decide, by decide⟩ (narZ ⟨by decide, by decide⟩) (fitZ ⟨by decide, by decide⟩) (fun σ4 eσ4 gσ4 => ?_)
    have h := h σ4 eσ4 gσ4
    refine v_iconst DX9_groupAll_20W <| v_istore DX9_groupAll_21W (by decide) rfl <| ?_
    exact v_pick [1, 2, 3, 0] rfl h
  · have h := h.2 c3
    refine v_iconst DX9_groupAll_12W <| v_goto (pc' := 17) DX9_groupAll_13W.1 (by decide) <| ?_
    refine w_putI (ci := 9) (kf := 141) (kz := 141) DX9_groupAll_17W (s_555 (hL.sf gσ1)) rfl (by decide) rfl (Or.inl ⟨rfl, q2365⟩) (fun _ _ => rfl) ⟨by decide, by decide⟩ (narZ ⟨by decide, by decide⟩) (fitZ ⟨by decide, by decide⟩) (fun σ5 eσ5 gσ5 => ?_)
    have h := h σ5 eσ5 gσ5
    refine v_iconst DX9_groupAll_20W <| v_istore DX9_groupAll_21W (by decide) rfl <| ?_
    exact v_pick [1, 2, 3, 0] rfl h
theorem ucX9_groupAll_23W {E : XE} {d : Nat} {σ : Sto} {Q : Res → Sto → Prop} {x1 : Int} {y2 : Int} {x4 : Int} (hL : Lay σ)  (h : (inR (σ.I 555 115) → inR x4 ∧ ((σ.I 555 115) ≤ x4 → VV E mX9_groupAll (d + 1) 131 [(0, aO 555), (4, aI (1))] [] σ Q) ∧ (x4 < (σ.I 555 115) → 0 ≤ x4 ∧ x4 < 600 ∧ (inR (σ.I 637 x4) → 0 ≤ (σ.I 637 x4) ∧ (σ.I 637 x4) < 601 ∧ (inR (σ.I 595 (σ.I 637 x4)) → VV E mX9_groupAll (d + 1) 50 [(0, aO 555), (1, aI (x1)), (2, aL (y2)), (4, aI (x4)), (5, aI (σ.I 637 x4)), (6, aI (σ.I 595 (σ.I 637 x4)))] [] σ Q))))) : VV E mX9_groupAll (d + 1) 23 [(0, aO 555), (1, aI (x1)), (2, aL (y2)), (4, aI (x4))] [] σ Q := by
  refine v_iload 3 DX9_groupAll_23W rfl <| v_aload_n 0 DX9_groupAll_25W rfl rfl <| ?_
  refine w_getI (ci := 9) (kf := 115) (kz := 115) DX9_groupAll_26W (s_555 hL) rfl (by decide) rfl (Or.inl q2339) (fun _ _ => rfl) (fun f1 => ?_)
  have h := h f1
  obtain ⟨k2, h⟩ := h
  refine v_icmp_ge (tg := 128) DX9_groupAll_29W (by decide) k2 f1 (fun c3 => ?_) (fun c3 => ?_)
  · have h := h.1 c3
    refine v_iconst DX9_groupAll_128W <| v_istore DX9_groupAll_129W (by decide) rfl <| ?_
    exact v_pick [1, 0] rfl h
  · have h := h.2 c3
    refine v_aload_n 0 DX9_groupAll_32W rfl rfl <| w_getR (ci := 9) (kf := 116) (kz := 116) DX9_groupAll_33W (s_555 hL) rfl (by decide) rfl (Or.inl q2340) (fun _ _ => rfl) (r_555_116 hL) <| v_iload 3 DX9_groupAll_36W rfl <| ?_
    obtain ⟨k4, k5, h⟩ := h
    refine v_iald DX9_groupAll_38W (s_637 hL) k4 k5 (fun f6 => ?_)
    have h := h f6
    refine v_istore DX9_groupAll_39W (by decide) rfl <| v_aload_n 1 DX9_groupAll_41W rfl rfl <| w_getR (ci := 9) (kf := 50) (kz := 50) DX9_groupAll_42W (s_555 hL) rfl (by decide) rfl (Or.inl q2274) (fun _ _ => rfl) (r_555_50 hL) <| v_iload 0 DX9_groupAll_45W rfl <| ?_
    obtain ⟨k7, k8, h⟩ := h
    refine v_iald DX9_groupAll_47W (s_595 hL) k7 k8 (fun f9 => ?_)
    have h := h f9
    refine v_istore DX9_groupAll_48W (by decide) rfl <| ?_
    exact v_pick [2, 3, 4, 5, 1, 0] rfl h
theorem ucX9_groupAll_131W {E : XE} {d : Nat} {σ : Sto} {Q : Res → Sto → Prop} {x4 : Int} (hL : Lay σ)  (h : (inR (σ.I 555 135) → inR x4 ∧ ((σ.I 555 135) ≤ x4 → Q (.inl none) σ) ∧ (x4 < (σ.I 555 135) → VV E mX9_groupAll (d + 1) 144 [(0, aO 555), (4, aI (x4)), (5, aI (x4))] [] σ Q))) : VV E mX9_groupAll (d + 1) 131 [(0, aO 555), (4, aI (x4))] [] σ Q := by
  refine v_iload 1 DX9_groupAll_131W rfl <| v_aload_n 0 DX9_groupAll_133W rfl rfl <| ?_
  refine w_getI (ci := 9) (kf := 135) (kz := 135) DX9_groupAll_134W (s_555 hL) rfl (by decide) rfl (Or.inl q2359) (fun _ _ => rfl) (fun f1 => ?_)
  have h := h f1
  obtain ⟨k2, h⟩ := h
  refine v_icmp_ge (tg := 184) DX9_groupAll_137W (by decide) k2 f1 (fun c3 => ?_) (fun c3 => ?_)
  · have h := h.1 c3
    exact v_vret DX9_groupAll_184W rfl h
  · have h := h.2 c3
    refine v_iload 1 DX9_groupAll_140W rfl <| v_istore DX9_groupAll_142W (by decide) rfl <| ?_
    exact v_pick [1, 2, 0] rfl h
theorem ucX9_groupAll_50W {E : XE} {d : Nat} {σ : Sto} {Q : Res → Sto → Prop} {x1 : Int} {y2 : Int} {x4 : Int} {x5 : Int} {x6 : Int} (hL : Lay σ)  (h : 1 ≤ d ∧ (0 ≤ x5 ∧ x5 < 601) ∧ (OB σ 595 596) ∧ (∀ y4 : Int, y4 = (σ.I 595 x5 + σ.I 596 x5) → inR y4 → inR x6 ∧ (y4 ≤ x6 → VV E mX9_groupAll (d + 1) 23 [(0, aO 555), (1, aI (x1)), (2, aL (y2)), (4, aI (x4 + 1))] [] σ Q) ∧ (x6 < y4 → 0 ≤ x6 ∧ x6 < 6000 ∧ (inR (σ.I 579 x6) → inR x1 ∧ ((σ.I 579 x6) ≠ x1 → VV E mX9_groupAll (d + 1) 50 [(0, aO 555), (1, aI (x1)), (2, aL (y2)), (4, aI (x4)), (5, aI (x5)), (6, aI (x6 + 1))] [] σ Q) ∧ ((σ.I 579 x6) = x1 → 0 ≤ x1 ∧ x1 < 12 ∧ (0 ≤ σ.I 639 x1 ∧ σ.I 639 x1 ≤ 1 → ((σ.I 639 x1) = 0 → VV E mX9_groupAll (d + 1) 50 [(0, aO 555), (1, aI (x1)), (2, aL (y2)), (4, aI (x4)), (5, aI (x5)), (6, aI (x6 + 1))] [] σ Q) ∧ ((σ.I 639 x1) ≠ 0 → 0 ≤ x6 ∧ x6 < 6001 ∧ (inR (σ.I 582 x6) → (0 ≤ σ.I 555 141 ∧ σ.I 555 141 ≤ 1 → ((σ.I 555 141) = 0 → 0 ≤ x6 ∧ x6 < 6000 ∧ (inL (σ.I 583 x6) → 1 ≤ d ∧ (inL (σ.I 583 x6)) ∧ (inL y2) ∧ (1 ≤ y2) ∧ (∀ y28 : Int, y28 = (fdv (σ.I 583 x6) y2) → inL y28 → 3 ≤ d ∧ (0 ≤ x4 ∧ x4 < 600) ∧ (0 ≤ (σ.I 582 x6) ∧ (σ.I 582 x6) ≤ 24000 ∧ (σ.I 555 141 ≠ 0 → (σ.I 582 x6) < 24000)) ∧ (inL y28) ∧ (0 ≤ σ.I 555 135 ∧ σ.I 555 135 < 6000) ∧ (∀ i, 0 ≤ i → i < σ.I 555 135 → σ.I 555 141 ≠ 0 → 0 ≤ σ.I 658 i ∧ σ.I 658 i < 24000) ∧ (bd_0_20 σ 587 24000) ∧ (σ.I 555 141 = 0 ∨ σ.I 555 141 = 1) ∧ (∀ i, 0 ≤ i → i < σ.I 555 135 → 0 ≤ σ.I 656 i ∧ σ.I 656 i ≤ 600) ∧ (∀ σ38 : Sto, SF σ σ38 → ((gsM σ38 = gjn (eqM σ) (gsM σ) x4 (if σ.I 555 141 = 0 then y28 else (σ.I 582 x6))) ∧ (KGj σ σ38)) → VV E mX9_groupAll (d + 1) 50 [(0, aO 555), (1, aI (x1)), (2, aL (y2)), (4, aI (x4)), (5, aI (x5)), (6, aI (x6 + 1))] [] σ38 Q)))) ∧ ((σ.I 555 141) ≠ 0 → 3 ≤ d ∧ (0 ≤ x4 ∧ x4 < 600) ∧ (0 ≤ (σ.I 582 x6) ∧ (σ.I 582 x6) ≤ 24000 ∧ (σ.I 555 141 ≠ 0 → (σ.I 582 x6) < 24000)) ∧ (inL (0 : Int)) ∧ (0 ≤ σ.I 555 135 ∧ σ.I 555 135 < 6000) ∧ (∀ i, 0 ≤ i → i < σ.I 555 135 → σ.I 555 141 ≠ 0 → 0 ≤ σ.I 658 i ∧ σ.I 658 i < 24000) ∧ (bd_0_20 σ 587 24000) ∧ (σ.I 555 141 = 0 ∨ σ.I 555 141 = 1) ∧ (∀ i, 0 ≤ i → i < σ.I 555 135 → 0 ≤ σ.I 656 i ∧ σ.I 656 i ≤ 600) ∧ (∀ σ48 : Sto, SF σ σ48 → ((gsM σ48 = gjn (eqM σ) (gsM σ) x4 (if σ.I 555 141 = 0 then (0 : Int) else (σ.I 582 x6))) ∧ (KGj σ σ48)) → VV E mX9_groupAll (d + 1) 50 [(0, aO 555), (1, aI (x1)), (2, aL (y2)), (4, aI (x4)), (5, aI (x5)), (6, aI (x6 + 1))] [] σ48 Q))))))))))) : VV E mX9_groupAll (d + 1) 50 [(0, aO 555), (1, aI (x1)), (2, aL (y2)), (4, aI (x4)), (5, aI (x5)), (6, aI (x6))] [] σ Q := by
  refine v_iload 5 DX9_groupAll_50W rfl <| v_aload_n 0 DX9_groupAll_52W rfl rfl <| v_iload 4 DX9_groupAll_53W rfl <| ?_
  obtain ⟨k1, h⟩ := h
  obtain ⟨k2, k3, h⟩ := h
  refine v_invV (ci := 9) (as := [aI (x5)]) (st := [aI (x6)]) DX9_groupAll_55W rfl okX9_lastOf (Or.inl q3222) q3224 (s_555 hL) rfl qs184 npX9_lastOf (sp_X9_lastOf (σ := σ) (x1 := x5) k1 hL k2 k3) (Nat.le_of_ble_eq_true rfl) (Nat.le_refl _) (Nat.le_of_ble_eq_true rfl) (RI_ret (fun y4 y4e y4f => ?_)) RI_thr
  have h := h y4 y4e y4f
  obtain ⟨k5, h⟩ := h
  refine v_icmp_ge (tg := 122) DX9_groupAll_58W (by decide) k5 y4f (fun c6 => ?_) (fun c6 => ?_)
  · have h := h.1 c6
    refine v_iinc 3 DX9_groupAll_122W rfl (by decide) rfl <| v_goto (pc' := 23) DX9_groupAll_125W.1 (by decide) <| ?_
    exact v_pick [1, 2, 3, 0] rfl h
  · have h := h.2 c6
    refine v_aload_n 0 DX9_groupAll_61W rfl rfl <| w_getR (ci := 9) (kf := 31) (kz := 31) DX9_groupAll_62W (s_555 hL) rfl (by decide) rfl (Or.inl q2255) (fun _ _ => rfl) (r_555_31 hL) <| v_iload 5 DX9_groupAll_65W rfl <| ?_
    obtain ⟨k7, k8, h⟩ := h
    refine v_iald DX9_groupAll_67W (s_579 hL) k7 k8 (fun f9 => ?_)
    have h := h f9
    refine v_iload_n 1 DX9_groupAll_68W rfl rfl <| ?_
    obtain ⟨k10, h⟩ := h
    refine v_icmp_ne (tg := 116) DX9_groupAll_69W (by decide) f9 k10 (fun c11 => ?_) (fun c11 => ?_)
    · have h := h.1 c11
      refine v_iinc 5 DX9_groupAll_116W rfl (by decide) rfl <| v_goto (pc' := 50) DX9_groupAll_119W.1 (by decide) <| ?_
      exact v_pick [1, 2, 3, 4, 5, 0] rfl h
    · have h := h.2 c11
      refine v_aload_n 0 DX9_groupAll_72W rfl rfl <| w_getR (ci := 9) (kf := 118) (kz := 118) DX9_groupAll_73W (s_555 hL) rfl (by decide) rfl (Or.inl q2342) (fun _ _ => rfl) (r_555_118 hL) <| v_iload_n 1 DX9_groupAll_76W rfl rfl <| ?_
      obtain ⟨k12, k13, h⟩ := h
      refine v_zald DX9_groupAll_77W (s_639 hL) k12 k13 (fun f14 => ?_)
      have h := h f14
      refine v_if_eq (tg := 116) DX9_groupAll_78W (by decide) (inR_z f14) (fun c15 => ?_) (fun c15 => ?_)
      · have h := h.1 c15
        refine v_iinc 5 DX9_groupAll_116W rfl (by decide) rfl <| v_goto (pc' := 50) DX9_groupAll_119W.1 (by decide) <| ?_
        exact v_pick [1, 2, 3, 4, 5, 0] rfl h
      · have h := h.2 c15
        refine v_aload_n 0 DX9_groupAll_81W rfl rfl <| v_iload 3 DX9_groupAll_82W rfl <| v_aload_n 0 DX9_groupAll_84W rfl rfl <| w_getR (ci := 9) (kf := 34) (kz := 34) DX9_groupAll_85W (s_555 hL) rfl (by decide) rfl (Or.inl q2258) (fun _ _ => rfl) (r_555_34 hL) <| v_iload 5 DX9_groupAll_88W rfl <| ?_
        obtain ⟨k16, k17, h⟩ := h
        refine v_iald DX9_groupAll_90W (s_582 hL) k16 k17 (fun f18 => ?_)
        have h := h f18
        refine v_aload_n 0 DX9_groupAll_91W rfl rfl <| ?_
        refine w_getI (ci := 9) (kf := 141) (kz := 141) DX9_groupAll_92W (s_555 hL) rfl (by decide) rfl (Or.inl q2365) (fun _ _ => rfl) (fun f19 => ?_)
        have h := h f19
        refine v_if_eq (tg := 102) DX9_groupAll_95W (by decide) (inR_z f19) (fun c20 => ?_) (fun c20 => ?_)
        · have h := h.1 c20
          refine v_aload_n 0 DX9_groupAll_102W rfl rfl <| w_getR (ci := 9) (kf := 35) (kz := 35) DX9_groupAll_103W (s_555 hL) rfl (by decide) rfl (Or.inl q2259) (fun _ _ => rfl) (r_555_35 hL) <| v_iload 5 DX9_groupAll_106W rfl <| ?_
          obtain ⟨k21, k22, h⟩ := h
          refine v_lald DX9_groupAll_108W (s_583 hL) k21 k22 (fun f23 => ?_)
          have h := h f23
          refine v_lload_n 2 DX9_groupAll_109W rfl rfl <| ?_
          obtain ⟨k24, h⟩ := h
          obtain ⟨k25, k26, k27, h⟩ := h
          refine v_invS (as := [aL (σ.I 583 x6), aL (y2)]) (st := [aI (σ.I 582 x6), aI (x4), aO 555]) DX9_groupAll_110W rfl okJ8_floorDiv (Or.inl q3465) q1991 npJ8_floorDiv (sp_J8_floorDiv (σ := σ) (y0 := σ.I 583 x6) (y2 := y2) k24 hL k25 k26 k27) (Nat.le_of_ble_eq_true rfl) (Nat.le_refl _) (Nat.le_of_ble_eq_true rfl) (RL_ret (fun y28 y28e y28f => ?_)) RL_thr
          have h := h y28 y28e y28f
          obtain ⟨k29, h⟩ := h
          obtain ⟨k30, k31, k32, k33, k34, k35, k36, k37, h⟩ := h
          refine v_invV (ci := 9) (as := [aI (x4), aI (σ.I 582 x6), aL (y28)]) (st := []) DX9_groupAll_113W rfl okX9_joinGroup (Or.inl q3466) q3468 (s_555 hL) rfl qs223 npX9_joinGroup (sp_X9_joinGroup (σ := σ) (x1 := x4) (x2 := σ.I 582 x6) (y3 := y28) k29 hL k30 k31 k32 k33 k34 k35 k36 k37) (Nat.le_of_ble_eq_true rfl) (Nat.le_refl _) (Nat.le_of_ble_eq_true rfl) (RV_ret (fun σ38 gσ38 eσ38 => ?_)) RV_thr
          have h := h σ38 gσ38 eσ38
          refine v_iinc 5 DX9_groupAll_116W rfl (by decide) rfl <| v_goto (pc' := 50) DX9_groupAll_119W.1 (by decide) <| ?_
          exact v_pick [1, 2, 3, 4, 5, 0] rfl h
        · have h := h.2 c20
          refine v_lconst DX9_groupAll_98W <| v_goto (pc' := 113) DX9_groupAll_99W.1 (by decide) <| ?_
          obtain ⟨k39, h⟩ := h
          obtain ⟨k40, k41, k42, k43, k44, k45, k46, k47, h⟩ := h
          refine v_invV (ci := 9) (as := [aI (x4), aI (σ.I 582 x6), aL (0)]) (st := []) DX9_groupAll_113W rfl okX9_joinGroup (Or.inl q3466) q3468 (s_555 hL) rfl qs223 npX9_joinGroup (sp_X9_joinGroup (σ := σ) (x1 := x4) (x2 := σ.I 582 x6) (y3 := (0 : Int)) k39 hL k40 k41 k42 k43 k44 k45 k46 k47) (Nat.le_of_ble_eq_true rfl) (Nat.le_refl _) (Nat.le_of_ble_eq_true rfl) (RV_ret (fun σ48 gσ48 eσ48 => ?_)) RV_thr
          have h := h σ48 gσ48 eσ48
          refine v_iinc 5 DX9_groupAll_116W rfl (by decide) rfl <| v_goto (pc' := 50) DX9_groupAll_119W.1 (by decide) <| ?_
          exact v_pick [1, 2, 3, 4, 5, 0] rfl h
theorem ucX9_groupAll_144W {E : XE} {d : Nat} {σ : Sto} {Q : Res → Sto → Prop} {x4 : Int} {x5 : Int} (hL : Lay σ)  (h : inR x5 ∧ (x5 ≤ 0 → VV E mX9_groupAll (d + 1) 131 [(0, aO 555), (4, aI (x4 + 1))] [] σ Q) ∧ (0 < x5 → 4 ≤ d ∧ (0 ≤ x5 ∧ x5 < 6000) ∧ (0 ≤ (x5 - 1) ∧ (x5 - 1) < 6000) ∧ (bd_0_20 σ 587 24000) ∧ (σ.I 555 141 ≠ 0 → 0 ≤ σ.I 658 x5 ∧ σ.I 658 x5 < 24000 ∧ 0 ≤ σ.I 658 (x5 - 1) ∧ σ.I 658 (x5 - 1) < 24000) ∧ ((gbM σ x5 (x5 - 1)) → 2 ≤ d ∧ (0 ≤ x5 ∧ x5 < 6000) ∧ (0 ≤ (x5 - 1) ∧ (x5 - 1) < 6000) ∧ (∀ σ13 : Sto, SF σ σ13 → (RD σ σ13 (fun c i => if at2 c i 656 x5 then σ.I 656 (x5 - 1) else if at2 c i 656 (x5 - 1) then σ.I 656 x5 else if at2 c i 657 x5 then σ.I 657 (x5 - 1) else if at2 c i 657 (x5 - 1) then σ.I 657 x5 else if at2 c i 658 x5 then σ.I 658 (x5 - 1) else if at2 c i 658 (x5 - 1) then σ.I 658 x5 else if at2 c i 659 x5 then σ.I 659 (x5 - 1) else if at2 c i 659 (x5 - 1) then σ.I 659 x5 else σ.I c i)) → VV E mX9_groupAll (d + 1) 144 [(0, aO 555), (4, aI (x4)), (5, aI (x5 + (-1)))] [] σ13 Q)) ∧ (¬ (gbM σ x5 (x5 - 1)) → VV E mX9_groupAll (d + 1) 131 [(0, aO 555), (4, aI (x4 + 1))] [] σ Q))) : VV E mX9_groupAll (d + 1) 144 [(0, aO 555), (4, aI (x4)), (5, aI (x5))] [] σ Q := by
  refine v_iload 2 DX9_groupAll_144W rfl <| ?_
  obtain ⟨k1, h⟩ := h
  refine v_if_le (tg := 178) DX9_groupAll_146W (by decide) k1 (fun c2 => ?_) (fun c2 => ?_)
  · have h := h.1 c2
    refine v_iinc 1 DX9_groupAll_178W rfl (by decide) rfl <| v_goto (pc' := 131) DX9_groupAll_181W.1 (by decide) <| ?_
    exact v_pick [1, 0] rfl h
  · have h := h.2 c2
    refine v_aload_n 0 DX9_groupAll_149W rfl rfl <| v_iload 2 DX9_groupAll_150W rfl <| v_iload 2 DX9_groupAll_152W rfl <| v_iconst DX9_groupAll_154W <| v_isub DX9_groupAll_155W <| ?_
    obtain ⟨k3, h⟩ := h
    obtain ⟨k4, k5, k6, k7, h⟩ := h
    refine v_invV (ci := 9) (as := [aI (x5), aI (x5 - 1)]) (st := []) DX9_groupAll_156W rfl okX9_isGroupBefore (Or.inl q3477) q3479 (s_555 hL) rfl qs225 npX9_isGroupBefore (sp_X9_isGroupBefore (σ := σ) (x1 := x5) (x2 := x5 - 1) k3 hL k4 k5 k6 k7) (Nat.le_of_ble_eq_true rfl) (Nat.le_refl _) (Nat.le_of_ble_eq_true rfl) (RZ_ret (fun c8 => ?_) (fun c8 => ?_)) RZ_thr
    · have h := h.1 c8
      refine v_if_eq (tg := 178) DX9_groupAll_159W (by decide) ⟨by decide, by decide⟩ (fun c9 => absurd c9 (by decide)) (fun c9 => ?_)
      refine v_aload_n 0 DX9_groupAll_162W rfl rfl <| v_iload 2 DX9_groupAll_163W rfl <| v_iload 2 DX9_groupAll_165W rfl <| v_iconst DX9_groupAll_167W <| v_isub DX9_groupAll_168W <| ?_
      obtain ⟨k10, h⟩ := h
      obtain ⟨k11, k12, h⟩ := h
      refine v_invV (ci := 9) (as := [aI (x5), aI (x5 - 1)]) (st := []) DX9_groupAll_169W rfl okX9_swapGroups (Or.inl q3481) q3483 (s_555 hL) rfl qs226 npX9_swapGroups (sp_X9_swapGroups (σ := σ) (x1 := x5) (x2 := x5 - 1) k10 hL k11 k12) (Nat.le_of_ble_eq_true rfl) (Nat.le_refl _) (Nat.le_of_ble_eq_true rfl) (RV_ret (fun σ13 gσ13 eσ13 => ?_)) RV_thr
      have h := h σ13 gσ13 eσ13
      refine v_iinc 2 DX9_groupAll_172W rfl (by decide) rfl <| v_goto (pc' := 144) DX9_groupAll_175W.1 (by decide) <| ?_
      exact v_pick [1, 2, 0] rfl h
    · have h := h.2 c8
      refine v_if_eq (tg := 178) DX9_groupAll_159W (by decide) ⟨by decide, by decide⟩ (fun c14 => ?_) (fun c14 => absurd c14 (by decide))
      refine v_iinc 1 DX9_groupAll_178W rfl (by decide) rfl <| v_goto (pc' := 131) DX9_groupAll_181W.1 (by decide) <| ?_
      exact v_pick [1, 0] rfl h
theorem sp_X9_groupAllW {E : XE} {d : Nat} {σ : Sto} {x1 : Int} {y2 : Int} (hd : 5 ≤ d) (hL : Lay σ)  (p0 : 0 ≤ x1 ∧ x1 < 12) (p1 : 0 ≤ y2 ∧ inL y2) (p2 : 0 ≤ σ.I 555 115 ∧ σ.I 555 115 ≤ 600) (p3 : ∀ k, 0 ≤ k → k < σ.I 555 115 → 0 ≤ σ.I 637 k ∧ σ.I 637 k < 601) (p4 : OB σ 595 596) (p5 : SCM σ (σ.I 555 115) ≤ 6000) (p6 : bd_0_20 σ 587 24000) (p7 : ∀ k j, 0 ≤ k → k < σ.I 555 115 → 0 ≤ j → j < σ.I 596 (σ.I 637 k) → (0 ≤ σ.I 582 (σ.I 595 (σ.I 637 k) + j) ∧ σ.I 582 (σ.I 595 (σ.I 637 k) + j) ≤ 24000) ∧ (y2 = 0 → σ.I 579 (σ.I 595 (σ.I 637 k) + j) = x1 → σ.I 582 (σ.I 595 (σ.I 637 k) + j) < 24000) ∧ inL (σ.I 583 (σ.I 595 (σ.I 637 k) + j))) : CC E mX9_groupAll d [aO 555, aI (x1), aL (y2)] σ (RV (fun τ => (GRM σ τ x1 y2 (τ.I 555 135) (-1)) ∧ (FCT τ y2) ∧ (0 ≤ τ.I 555 135 ∧ τ.I 555 135 ≤ 6000) ∧ (KGa σ τ))) := by
  obtain ⟨d, rfl⟩ : ∃ e, d = e + 1 := ⟨d - 1, by omega⟩
  have key : ∀ wa wb wc : Nat, (∀ (x4 : Int) (τ : Sto), SF σ τ → ((KGa σ τ) ∧ (FCT τ y2) ∧ (0 ≤ x4 ∧ x4 ≤ σ.I 555 115) ∧ (GIV (DMw y2) (EMw σ y2) (gsM τ) (PGM σ x1 y2 x4 0) x4) ∧ (τ.I 555 135 ≤ SCM σ x4)) → wa = (1000 - x4).toNat → wb = 10000 → wc = 0 → VV E mX9_groupAll (d + 1) 23 [(0, aO 555), (1, aI (x1)), (2, aL (y2)), (4, aI (x4))] [] τ (RV (fun τ => (GRM σ τ x1 y2 (τ.I 555 135) (-1)) ∧ (FCT τ y2) ∧ (0 ≤ τ.I 555 135 ∧ τ.I 555 135 ≤ 6000) ∧ (KGa σ τ)))) ∧ (∀ (x4 : Int) (τ : Sto), SF σ τ → ((KGa σ τ) ∧ (FCT τ y2) ∧ (GRM σ τ x1 y2 x4 (-1)) ∧ (0 ≤ τ.I 555 135 ∧ τ.I 555 135 ≤ 6000) ∧ (1 ≤ x4 ∧ (x4 ≤ τ.I 555 135 ∨ x4 = 1))) → wa = 0 → wb = (10000 * (6000 - x4) + 9999).toNat → wc = 0 → VV E mX9_groupAll (d + 1) 131 [(0, aO 555), (4, aI (x4))] [] τ (RV (fun τ => (GRM σ τ x1 y2 (τ.I 555 135) (-1)) ∧ (FCT τ y2) ∧ (0 ≤ τ.I 555 135 ∧ τ.I 555 135 ≤ 6000) ∧ (KGa σ τ)))) ∧ (∀ (x4 : Int) (x5 : Int) (x6 : Int) (τ : Sto), SF σ τ → ((KGa σ τ) ∧ (FCT τ y2) ∧ (τ.I 555 135 ≤ SCM σ x4 + (x6 - σ.I 595 (σ.I 637 x4))) ∧ (0 ≤ x4 ∧ x4 < σ.I 555 115 ∧ x5 = σ.I 637 x4) ∧ (0 ≤ (x6 - σ.I 595 (σ.I 637 x4)) ∧ (x6 - σ.I 595 (σ.I 637 x4)) ≤ σ.I 596 (σ.I 637 x4)) ∧ (GIV (DMw y2) (EMw σ y2) (gsM τ) (PGM σ x1 y2 x4 (x6 - σ.I 595 (σ.I 637 x4))) (x4 + 1))) → wa = (1000 - x4).toNat → wb = (6001 - x6).toNat → wc = 0 → VV E mX9_groupAll (d + 1) 50 [(0, aO 555), (1, aI (x1)), (2, aL (y2)), (4, aI (x4)), (5, aI (x5)), (6, aI (x6))] [] τ (RV (fun τ => (GRM σ τ x1 y2 (τ.I 555 135) (-1)) ∧ (FCT τ y2) ∧ (0 ≤ τ.I 555 135 ∧ τ.I 555 135 ≤ 6000) ∧ (KGa σ τ)))) ∧ (∀ (x4 : Int) (x5 : Int) (τ : Sto), SF σ τ → ((KGa σ τ) ∧ (FCT τ y2) ∧ (GRM σ τ x1 y2 (x4 + 1) x5) ∧ (0 ≤ τ.I 555 135 ∧ τ.I 555 135 ≤ 6000) ∧ (1 ≤ x4 ∧ x4 < τ.I 555 135) ∧ (0 ≤ x5 ∧ x5 ≤ x4)) → wa = 0 → wb = (10000 * (6000 - x4) + x5).toNat → wc = 0 → VV E mX9_groupAll (d + 1) 144 [(0, aO 555), (4, aI (x4)), (5, aI (x5))] [] τ (RV (fun τ => (GRM σ τ x1 y2 (τ.I 555 135) (-1)) ∧ (FCT τ y2) ∧ (0 ≤ τ.I 555 135 ∧ τ.I 555 135 ≤ 6000) ∧ (KGa σ τ)))) := by
    refine lex3 (fun wa wb wc ih => ?_)
    have ih0 : ∀ (x4 : Int) (τ : Sto), SF σ τ → ((KGa σ τ) ∧ (FCT τ y2) ∧ (0 ≤ x4 ∧ x4 ≤ σ.I 555 115) ∧ (GIV (DMw y2) (EMw σ y2) (gsM τ) (PGM σ x1 y2 x4 0) x4) ∧ (τ.I 555 135 ≤ SCM σ x4)) → lt3 ((1000 - x4).toNat) 10000 0 wa wb wc → VV E mX9_groupAll (d + 1) 23 [(0, aO 555), (1, aI (x1)), (2, aL (y2)), (4, aI (x4))] [] τ (RV (fun τ => (GRM σ τ x1 y2 (τ.I 555 135) (-1)) ∧ (FCT τ y2) ∧ (0 ≤ τ.I 555 135 ∧ τ.I 555 135 ≤ 6000) ∧ (KGa σ τ))) := fun z0 z1 h0 h1 hlt => (ih _ _ _ hlt).1 z0 z1 h0 h1 rfl rfl rfl
    have ih1 : ∀ (x4 : Int) (τ : Sto), SF σ τ → ((KGa σ τ) ∧ (FCT τ y2) ∧ (GRM σ τ x1 y2 x4 (-1)) ∧ (0 ≤ τ.I 555 135 ∧ τ.I 555 135 ≤ 6000) ∧ (1 ≤ x4 ∧ (x4 ≤ τ.I 555 135 ∨ x4 = 1))) → lt3 0 ((10000 * (6000 - x4) + 9999).toNat) 0 wa wb wc → VV E mX9_groupAll (d + 1) 131 [(0, aO 555), (4, aI (x4))] [] τ (RV (fun τ => (GRM σ τ x1 y2 (τ.I 555 135) (-1)) ∧ (FCT τ y2) ∧ (0 ≤ τ.I 555 135 ∧ τ.I 555 135 ≤ 6000) ∧ (KGa σ τ))) := fun z0 z1 h0 h1 hlt => (ih _ _ _ hlt).2.1 z0 z1 h0 h1 rfl rfl rfl
    have ih2 : ∀ (x4 : Int) (x5 : Int) (x6 : Int) (τ : Sto), SF σ τ → ((KGa σ τ) ∧ (FCT τ y2) ∧ (τ.I 555 135 ≤ SCM σ x4 + (x6 - σ.I 595 (σ.I 637 x4))) ∧ (0 ≤ x4 ∧ x4 < σ.I 555 115 ∧ x5 = σ.I 637 x4) ∧ (0 ≤ (x6 - σ.I 595 (σ.I 637 x4)) ∧ (x6 - σ.I 595 (σ.I 637 x4)) ≤ σ.I 596 (σ.I 637 x4)) ∧ (GIV (DMw y2) (EMw σ y2) (gsM τ) (PGM σ x1 y2 x4 (x6 - σ.I 595 (σ.I 637 x4))) (x4 + 1))) → lt3 ((1000 - x4).toNat) ((6001 - x6).toNat) 0 wa wb wc → VV E mX9_groupAll (d + 1) 50 [(0, aO 555), (1, aI (x1)), (2, aL (y2)), (4, aI (x4)), (5, aI (x5)), (6, aI (x6))] [] τ (RV (fun τ => (GRM σ τ x1 y2 (τ.I 555 135) (-1)) ∧ (FCT τ y2) ∧ (0 ≤ τ.I 555 135 ∧ τ.I 555 135 ≤ 6000) ∧ (KGa σ τ))) := fun z0 z1 z2 z3 h0 h1 hlt => (ih _ _ _ hlt).2.2.1 z0 z1 z2 z3 h0 h1 rfl rfl rfl
    have ih3 : ∀ (x4 : Int) (x5 : Int) (τ : Sto), SF σ τ → ((KGa σ τ) ∧ (FCT τ y2) ∧ (GRM σ τ x1 y2 (x4 + 1) x5) ∧ (0 ≤ τ.I 555 135 ∧ τ.I 555 135 ≤ 6000) ∧ (1 ≤ x4 ∧ x4 < τ.I 555 135) ∧ (0 ≤ x5 ∧ x5 ≤ x4)) → lt3 0 ((10000 * (6000 - x4) + x5).toNat) 0 wa wb wc → VV E mX9_groupAll (d + 1) 144 [(0, aO 555), (4, aI (x4)), (5, aI (x5))] [] τ (RV (fun τ => (GRM σ τ x1 y2 (τ.I 555 135) (-1)) ∧ (FCT τ y2) ∧ (0 ≤ τ.I 555 135 ∧ τ.I 555 135 ≤ 6000) ∧ (KGa σ τ))) := fun z0 z1 z2 h0 h1 hlt => (ih _ _ _ hlt).2.2.2 z0 z1 z2 h0 h1 rfl rfl rfl
    clear ih
    refine ⟨?_, ?_, ?_, ?_⟩
    · rintro x4 τ gτ ⟨i0, i1, i2, i3, i4⟩ ha hb hc
      subst ha hb hc
      have hk := fun (c : Nat) (q : c < 555 ∨ (555 < c ∧ c < 656) ∨ 660 < c) => kga i0 q
      have hH : τ.I 555 115 = σ.I 555 115 := Ch.at i0 (by unfold wsGa; omega)
      have hfc := hdI i1
      have hf01 : τ.I 555 141 = 0 ∨ τ.I 555 141 = 1 := (by unfold FCT at i1; omega)
      have hTS : bd_0_20 τ 587 24000 := bd_0_20_eq p6 (hk 587 (by decide))
      have hOB : OB τ 595 596 := (by unfold OB; rw [hk 595 (by decide), hk 596 (by decide)]; exact p4)
      have hSC := SCM_le (σ := σ) (a := x4) (b := σ.I 555 115) (by omega) (fun k a b => (p4 _ (p3 k a b).1 (p3 k a b).2).2.1) (by omega)
      have h37 := congrFun (hk 637 (by decide)) x4
      have h95 : τ.I 595 (τ.I 637 x4) = σ.I 595 (σ.I 637 x4) := (by rw [hk 595 (by decide), h37])
      have hg0 : 0 ≤ τ.I 555 135 := i3.1
      have h3 := hdI (fun (h : x4 < σ.I 555 115) => p3 x4 (by omega) h)
      have h4 := hdI (fun (h : x4 < σ.I 555 115) => p4 _ ((hdO h3) h).1 ((hdO h3) h).2)
      refine ucX9_groupAll_23W  (hL.sf gτ)  ?_
      rintro ⟨f1, f1q⟩
      refine ⟨?_, ?_⟩
      · (first | exact ⟨by omega, by omega⟩ | assumption)
      refine ⟨fun c2 => ?_, fun c3 => ?_⟩
      · refine ih1 _ _ gτ ⟨?_, ?_, ?_, ?_, ?_⟩ ?_
        · exact i0
        · (clear ih0 ih1 ih2 ih3; first | exact i1 | (unfold FCT at *; omega) | (unfold FCT at *; omega))
        · (clear ih0 ih1 ih2 ih3; (refine ⟨gsM τ, ?_, rfl, fun i => i, PRM_id, fun i a b => ⟨rfl, rfl, rfl⟩, fun _ => SRJ_0 (by omega)⟩; have z : x4 = σ.I 555 115 := (by omega); rw [← z]; exact i3))
        · (first | omega | exact ⟨by omega, by omega⟩ | assumption)
        · (first | omega | exact ⟨by omega, by omega⟩ | assumption)
        · (unfold lt3; first | omega | (have z := (hdO h4) (by omega); omega))
      · refine ⟨?_, ?_⟩
        · (first | omega | exact ⟨by omega, by omega⟩ | assumption)
        refine ⟨?_, ?_⟩
        · (first | omega | exact ⟨by omega, by omega⟩ | assumption)
        rintro ⟨f4, f4q⟩
        refine ⟨?_, ?_⟩
        · (clear ih0 ih1 ih2 ih3; (have z := (hdO h3) (by omega); omega))
        refine ⟨?_, ?_⟩
        · (clear ih0 ih1 ih2 ih3; (have z := (hdO h3) (by omega); omega))
        rintro ⟨f5, f5q⟩
        refine ih2 _ _ _ _ gτ ⟨?_, ?_, ?_, ?_, ?_, ?_⟩ ?_
        · exact i0
        · (clear ih0 ih1 ih2 ih3; first | exact i1 | (unfold FCT at *; omega) | (unfold FCT at *; omega))
        · (first | omega | exact ⟨by omega, by omega⟩ | assumption)
        · (first | omega | exact ⟨by omega, by omega⟩ | assumption)
        · (clear ih0 ih1 ih2 ih3; (have z := (hdO h4) (by omega); omega))
        · (clear ih0 ih1 ih2 ih3; (have z : τ.I 595 (τ.I 637 x4) - σ.I 595 (σ.I 637 x4) = 0 := (by omega); rw [z]; exact GIV_next i3 i2.1))
        · (unfold lt3; first | omega | (have z := (hdO h4) (by omega); omega))
    · rintro x4 τ gτ ⟨i0, i1, i2, i3, i4⟩ ha hb hc
      subst ha hb hc
      have hk := fun (c : Nat) (q : c < 555 ∨ (555 < c ∧ c < 656) ∨ 660 < c) => kga i0 q
      have hH : τ.I 555 115 = σ.I 555 115 := Ch.at i0 (by unfold wsGa; omega)
      have hfc := hdI i1
      have hf01 : τ.I 555 141 = 0 ∨ τ.I 555 141 = 1 := (by unfold FCT at i1; omega)
      have hTS : bd_0_20 τ 587 24000 := bd_0_20_eq p6 (hk 587 (by decide))
      have hOB : OB τ 595 596 := (by unfold OB; rw [hk 595 (by decide), hk 596 (by decide)]; exact p4)
      refine ucX9_groupAll_131W  (hL.sf gτ)  ?_
      rintro ⟨f1, f1q⟩
      refine ⟨?_, ?_⟩
      · (first | exact ⟨by omega, by omega⟩ | assumption)
      refine ⟨fun c2 => ?_, fun c3 => ?_⟩
      · refine RV_mk ?_
        · refine ⟨?_, ?_, ?_, ?_⟩
          · (clear ih0 ih1 ih2 ih3; (obtain ⟨s, h1, h2, q, h3, h4, h5⟩ := i2; exact ⟨s, h1, h2, q, h3, h4, fun _ => (by rcases (show x4 = τ.I 555 135 ∨ τ.I 555 135 ≤ 1 by omega) with z | z; (· rw [← z]; exact h5 trivial); (· exact SRJ_0 z))⟩))
          · (clear ih0 ih1 ih2 ih3; first | exact i1 | (unfold FCT at *; omega) | (unfold FCT at *; omega))
          · (first | omega | exact ⟨by omega, by omega⟩ | assumption)
          · exact i0
      · refine ih3 _ _ _ gτ ⟨?_, ?_, ?_, ?_, ?_, ?_⟩ ?_
        · exact i0
        · (clear ih0 ih1 ih2 ih3; first | exact i1 | (unfold FCT at *; omega) | (unfold FCT at *; omega))
        · (clear ih0 ih1 ih2 ih3; (obtain ⟨s, h1, h2, q, h3, h4, h5⟩ := i2; exact ⟨s, h1, h2, q, h3, h4, fun _ => SRJ_in (h5 trivial) (by omega)⟩))
        · (first | omega | exact ⟨by omega, by omega⟩ | assumption)
        · (first | omega | exact ⟨by omega, by omega⟩ | assumption)
        · (first | omega | exact ⟨by omega, by omega⟩ | assumption)
        · (unfold lt3; omega)
    · rintro x4 x5 x6 τ gτ ⟨i0, i1, i2, i3, i4, i5⟩ ha hb hc
      subst ha hb hc
      have hk := fun (c : Nat) (q : c < 555 ∨ (555 < c ∧ c < 656) ∨ 660 < c) => kga i0 q
      have hH : τ.I 555 115 = σ.I 555 115 := Ch.at i0 (by unfold wsGa; omega)
      have hfc := hdI i1
      have hf01 : τ.I 555 141 = 0 ∨ τ.I 555 141 = 1 := (by unfold FCT at i1; omega)
      have hTS : bd_0_20 τ 587 24000 := bd_0_20_eq p6 (hk 587 (by decide))
      have hOB : OB τ 595 596 := (by unfold OB; rw [hk 595 (by decide), hk 596 (by decide)]; exact p4)
      have e5 : τ.I 595 x5 = σ.I 595 (σ.I 637 x4) := (by rw [hk 595 (by decide), i3.2.2])
      have e6 : τ.I 596 x5 = σ.I 596 (σ.I 637 x4) := (by rw [hk 596 (by decide), i3.2.2])
      have hh4 := p3 x4 i3.1 i3.2.1
      have hob := p4 _ hh4.1 hh4.2
      have hle := SCM_le (σ := σ) (a := x4 + 1) (b := σ.I 555 115) (by omega) (fun k a b => (p4 _ (p3 k a b).1 (p3 k a b).2).2.1) (by omega)
      have hse := SCM_s (σ := σ) (n := x4) i3.1
      have e79 := congrFun (hk 579 (by decide)) x6
      have e82 := congrFun (hk 582 (by decide)) x6
      have e83 := congrFun (hk 583 (by decide)) x6
      have e39 := congrFun (hk 639 (by decide)) x1
      have hx6 : σ.I 595 (σ.I 637 x4) + (x6 - σ.I 595 (σ.I 637 x4)) = x6 := (by omega)
      have hgt : ∀ i, 0 ≤ i → i < τ.I 555 135 → τ.I 555 141 ≠ 0 → 0 ≤ τ.I 658 i ∧ τ.I 658 i < 24000 := fun i a b c => (by have z := kyG_f i1 c; have y := GIV_D i5 (i := i) a b z.2; have w : (gsM τ).2.1 i = τ.I 658 i := congrFun z.1 i; rw [w] at y; exact y)
      have hgh : ∀ i, 0 ≤ i → i < τ.I 555 135 → 0 ≤ τ.I 656 i ∧ τ.I 656 i ≤ 600 := fun i a b => (by have z := GIV_c i5 (EMw_e p6) (i := i) a b; have w : (gsM τ).2.2.1 i = τ.I 656 i := rfl; rw [w] at z; omega)
      have hgt := hdI hgt
      have hgh := hdI hgh
      have hg0 : 0 ≤ τ.I 555 135 := i5.1
      have eE := eqM_ka i0 i1
      have hqe : (σ.I 579 (σ.I 595 (σ.I 637 x4) + (x6 - σ.I 595 (σ.I 637 x4))) = x1 ∧ σ.I 639 x1 ≠ 0) ↔ (τ.I 579 x6 = x1 ∧ τ.I 639 x1 ≠ 0) := (by rw [hx6, e79, e39])
      have hqe := hdI hqe
      have hJn : x6 + 1 - σ.I 595 (σ.I 637 x4) = (x6 - σ.I 595 (σ.I 637 x4)) + 1 := (by omega)
      have h7 := hdI (fun (hj : (x6 - σ.I 595 (σ.I 637 x4)) < σ.I 596 (σ.I 637 x4)) => (by have z := p7 x4 (x6 - σ.I 595 (σ.I 637 x4)) i3.1 i3.2.1 (by omega) hj; rw [hx6] at z; exact z))
      refine ucX9_groupAll_50W  (hL.sf gτ)  ?_
      refine ⟨?_, ?_⟩
      · omega
      refine ⟨?_, ?_⟩
      · (first | omega | exact ⟨by omega, by omega⟩ | assumption)
      refine ⟨?_, ?_⟩
      · (clear ih0 ih1 ih2 ih3; exact hOB)
      rintro y4 y4e ⟨y4f, y4fq⟩
      refine ⟨?_, ?_⟩
      · (first | exact ⟨by omega, by omega⟩ | assumption)
      refine ⟨fun c1 => ?_, fun c2 => ?_⟩
      · refine ih0 _ _ gτ ⟨?_, ?_, ?_, ?_, ?_⟩ ?_
        · exact i0
        · (clear ih0 ih1 ih2 ih3; first | exact i1 | (unfold FCT at *; omega) | (unfold FCT at *; omega))
        · (first | omega | exact ⟨by omega, by omega⟩ | assumption)
        · (clear ih0 ih1 ih2 ih3; first | exact GIV_iff i5 (fun k v => by rw [hJn]; exact PGM_f (fun z => by have w := (hdO hqe).mp z; first | exact absurd w.1 (by assumption) | exact absurd (by assumption) w.2)) | (refine GIV_iff hG (fun k v => ?_); rw [hJn, ← hx6]; have w := PGM_t (σ := σ) (f := x1) (w := y2) (n := x4) (m := x6 - σ.I 595 (σ.I 637 x4)) (k := k) (u := v) (by omega) ((hdO hqe).mpr ⟨by assumption, by assumption⟩); rw [hx6] at w ⊢; exact w) | (refine GIV_iff i5 (fun k v => ?_); rw [PGM_n i3.1, show σ.I 596 (σ.I 637 x4) = x6 - σ.I 595 (σ.I 637 x4) by omega]))
        · (first | omega | exact ⟨by omega, by omega⟩ | assumption)
        · (unfold lt3; omega)
      · refine ⟨?_, ?_⟩
        · (first | omega | exact ⟨by omega, by omega⟩ | assumption)
        refine ⟨?_, ?_⟩
        · (first | omega | exact ⟨by omega, by omega⟩ | assumption)
        rintro ⟨f3, f3q⟩
        refine ⟨?_, ?_⟩
        · (first | exact ⟨by omega, by omega⟩ | assumption)
        refine ⟨fun c4 => ?_, fun c5 => ?_⟩
        · refine ih2 _ _ _ _ gτ ⟨?_, ?_, ?_, ?_, ?_, ?_⟩ ?_
          · exact i0
          · (clear ih0 ih1 ih2 ih3; first | exact i1 | (unfold FCT at *; omega) | (unfold FCT at *; omega))
          · (first | omega | exact ⟨by omega, by omega⟩ | assumption)
          · (first | omega | exact ⟨by omega, by omega⟩ | assumption)
          · (first | omega | exact ⟨by omega, by omega⟩ | assumption)
          · (clear ih0 ih1 ih2 ih3; first | exact GIV_iff i5 (fun k v => by rw [hJn]; exact PGM_f (fun z => by have w := (hdO hqe).mp z; first | exact absurd w.1 (by assumption) | exact absurd (by assumption) w.2)) | (refine GIV_iff hG (fun k v => ?_); rw [hJn, ← hx6]; have w := PGM_t (σ := σ) (f := x1) (w := y2) (n := x4) (m := x6 - σ.I 595 (σ.I 637 x4)) (k := k) (u := v) (by omega) ((hdO hqe).mpr ⟨by assumption, by assumption⟩); rw [hx6] at w ⊢; exact w) | (refine GIV_iff i5 (fun k v => ?_); rw [PGM_n i3.1, show σ.I 596 (σ.I 637 x4) = x6 - σ.I 595 (σ.I 637 x4) by omega]))
          · (unfold lt3; omega)
        · refine ⟨?_, ?_⟩
          · (first | omega | exact ⟨by omega, by omega⟩ | assumption)
          refine ⟨?_, ?_⟩
          · (first | omega | exact ⟨by omega, by omega⟩ | assumption)
          rintro ⟨f6, f6q⟩
          refine ⟨fun c7 => ?_, fun c8 => ?_⟩
          · refine ih2 _ _ _ _ gτ ⟨?_, ?_, ?_, ?_, ?_, ?_⟩ ?_
            · exact i0
            · (clear ih0 ih1 ih2 ih3; first | exact i1 | (unfold FCT at *; omega) | (unfold FCT at *; omega))
            · (first | omega | exact ⟨by omega, by omega⟩ | assumption)
            · (first | omega | exact ⟨by omega, by omega⟩ | assumption)
            · (first | omega | exact ⟨by omega, by omega⟩ | assumption)
            · (clear ih0 ih1 ih2 ih3; first | exact GIV_iff i5 (fun k v => by rw [hJn]; exact PGM_f (fun z => by have w := (hdO hqe).mp z; first | exact absurd w.1 (by assumption) | exact absurd (by assumption) w.2)) | (refine GIV_iff hG (fun k v => ?_); rw [hJn, ← hx6]; have w := PGM_t (σ := σ) (f := x1) (w := y2) (n := x4) (m := x6 - σ.I 595 (σ.I 637 x4)) (k := k) (u := v) (by omega) ((hdO hqe).mpr ⟨by assumption, by assumption⟩); rw [hx6] at w ⊢; exact w) | (refine GIV_iff i5 (fun k v => ?_); rw [PGM_n i3.1, show σ.I 596 (σ.I 637 x4) = x6 - σ.I 595 (σ.I 637 x4) by omega]))
            · (unfold lt3; omega)
          · refine ⟨?_, ?_⟩
            · (first | omega | exact ⟨by omega, by omega⟩ | assumption)
            refine ⟨?_, ?_⟩
            · (first | omega | exact ⟨by omega, by omega⟩ | assumption)
            rintro ⟨f9, f9q⟩
            rintro ⟨f10, f10q⟩
            refine ⟨fun c11 => ?_, fun c12 => ?_⟩
            · refine ⟨?_, ?_⟩
              · (first | omega | exact ⟨by omega, by omega⟩ | assumption)
              refine ⟨?_, ?_⟩
              · (first | omega | exact ⟨by omega, by omega⟩ | assumption)
              rintro ⟨f13, f13q⟩
              refine ⟨?_, ?_⟩
              · omega
              refine ⟨?_, ?_⟩
              · (clear ih0 ih1 ih2 ih3; (rw [e83]; exact ((hdO h7) (by omega)).2.2))
              refine ⟨?_, ?_⟩
              · (clear ih0 ih1 ih2 ih3; exact p1.2)
              refine ⟨?_, ?_⟩
              · (clear ih0 ih1 ih2 ih3; (have z := i1; unfold FCT at z; omega))
              rintro y28 y28e ⟨y28f, y28fq⟩
              refine ⟨?_, ?_⟩
              · omega
              refine ⟨?_, ?_⟩
              · (first | omega | exact ⟨by omega, by omega⟩ | assumption)
              refine ⟨?_, ?_⟩
              · (clear ih0 ih1 ih2 ih3; (have w := (hdO h7) (by omega); refine ⟨by omega, by omega, fun z => ?_⟩; have v := w.2.1 (by have z := i1; unfold FCT at z; omega) (by omega); omega))
              refine ⟨?_, ?_⟩
              · (first | omega | exact ⟨by omega, by omega⟩ | assumption)
              refine ⟨?_, ?_⟩
              · (first | omega | exact ⟨by omega, by omega⟩ | assumption)
              refine ⟨?_, ?_⟩
              · (clear ih0 ih1 ih2 ih3; exact hdO hgt)
              refine ⟨?_, ?_⟩
              · (clear ih0 ih1 ih2 ih3; exact hTS)
              refine ⟨?_, ?_⟩
              · (first | omega | exact ⟨by omega, by omega⟩ | assumption)
              refine ⟨?_, ?_⟩
              · (clear ih0 ih1 ih2 ih3; exact hdO hgh)
              rintro σ38 gσ38 ⟨eσ38_0, eσ38_1⟩
              have kσ38 : KGa τ σ38 := KGa_of_KGj eσ38_1
              have kσ38r := eσ38_1.1.1
              have hgc : σ38.I 555 135 = τ.I 555 135 ∨ σ38.I 555 135 = τ.I 555 135 + 1 := (by have z := gjn_le (E := eqM τ) (s := gsM τ) (hit := x4) (key := (if τ.I 555 141 = 0 then y28 else τ.I 582 x6)); rw [← eσ38_0] at z; exact z)
              have hdk : DMw y2 (keyV σ y2 x6) := (fun z => absurd z (by have z := i1; unfold FCT at z; omega))
              have hkx : (if τ.I 555 141 = 0 then y28 else τ.I 582 x6) = keyV σ y2 x6 := (by unfold keyV; rw [if_pos (by assumption), if_neg (by have z := i1; unfold FCT at z; omega), y28e, e83])
              have hfx : σ38.I 555 141 = τ.I 555 141 := Ch.at eσ38_1 (by unfold wsGj; omega)
              have hG := GIV_add (u := keyV σ y2 x6) i5 (EMw_e p6) (by omega) hdk
              have hgs : gsM σ38 = gjn (EMw σ y2) (gsM τ) (x4 + 1 - 1) (keyV σ y2 x6) := (by rw [eσ38_0, hkx, eE, show x4 + 1 - 1 = x4 by omega])
              rw [← hgs] at hG
              refine ih2 _ _ _ _ (gτ.tr gσ38) ⟨?_, ?_, ?_, ?_, ?_, ?_⟩ ?_
              · exact (Ch.tr i0 kσ38)
              · (clear ih0 ih1 ih2 ih3; first | exact i1 | (unfold FCT at *; omega) | (unfold FCT at *; omega))
              · (first | omega | exact ⟨by omega, by omega⟩ | assumption)
              · (first | omega | exact ⟨by omega, by omega⟩ | assumption)
              · (first | omega | exact ⟨by omega, by omega⟩ | assumption)
              · (clear ih0 ih1 ih2 ih3; first | exact GIV_iff i5 (fun k v => by rw [hJn]; exact PGM_f (fun z => by have w := (hdO hqe).mp z; first | exact absurd w.1 (by assumption) | exact absurd (by assumption) w.2)) | (refine GIV_iff hG (fun k v => ?_); rw [hJn, ← hx6]; have w := PGM_t (σ := σ) (f := x1) (w := y2) (n := x4) (m := x6 - σ.I 595 (σ.I 637 x4)) (k := k) (u := v) (by omega) ((hdO hqe).mpr ⟨by assumption, by assumption⟩); rw [hx6] at w ⊢; exact w) | (refine GIV_iff i5 (fun k v => ?_); rw [PGM_n i3.1, show σ.I 596 (σ.I 637 x4) = x6 - σ.I 595 (σ.I 637 x4) by omega]))
              · (unfold lt3; omega)
            · refine ⟨?_, ?_⟩
              · omega
              refine ⟨?_, ?_⟩
              · (first | omega | exact ⟨by omega, by omega⟩ | assumption)
              refine ⟨?_, ?_⟩
              · (clear ih0 ih1 ih2 ih3; (have w := (hdO h7) (by omega); refine ⟨by omega, by omega, fun z => ?_⟩; have v := w.2.1 (by have z := i1; unfold FCT at z; omega) (by omega); omega))
              refine ⟨?_, ?_⟩
              · (first | omega | exact ⟨by omega, by omega⟩ | assumption)
              refine ⟨?_, ?_⟩
              · (first | omega | exact ⟨by omega, by omega⟩ | assumption)
              refine ⟨?_, ?_⟩
              · (clear ih0 ih1 ih2 ih3; exact hdO hgt)
              refine ⟨?_, ?_⟩
              · (clear ih0 ih1 ih2 ih3; exact hTS)
              refine ⟨?_, ?_⟩
              · (first | omega | exact ⟨by omega, by omega⟩ | assumption)
              refine ⟨?_, ?_⟩
              · (clear ih0 ih1 ih2 ih3; exact hdO hgh)
              rintro σ48 gσ48 ⟨eσ48_0, eσ48_1⟩
              have kσ48 : KGa τ σ48 := KGa_of_KGj eσ48_1
              have kσ48r := eσ48_1.1.1
              have hgc : σ48.I 555 135 = τ.I 555 135 ∨ σ48.I 555 135 = τ.I 555 135 + 1 := (by have z := gjn_le (E := eqM τ) (s := gsM τ) (hit := x4) (key := (if τ.I 555 141 = 0 then 0 else τ.I 582 x6)); rw [← eσ48_0] at z; exact z)
              have hy0 : y2 = 0 := (by have z := i1; unfold FCT at z; omega)
              have hdk : DMw y2 (keyV σ y2 x6) := (fun z => (by unfold keyV; rw [if_pos z]; have w := (hdO h7) (by omega); exact ⟨w.1.1, w.2.1 z (by omega)⟩))
              have hkx : (if τ.I 555 141 = 0 then 0 else τ.I 582 x6) = keyV σ y2 x6 := (by unfold keyV; rw [if_neg (by assumption), if_pos (by have z := i1; unfold FCT at z; omega), e82])
              have hfx : σ48.I 555 141 = τ.I 555 141 := Ch.at eσ48_1 (by unfold wsGj; omega)
              have hG := GIV_add (u := keyV σ y2 x6) i5 (EMw_e p6) (by omega) hdk
              have hgs : gsM σ48 = gjn (EMw σ y2) (gsM τ) (x4 + 1 - 1) (keyV σ y2 x6) := (by rw [eσ48_0, hkx, eE, show x4 + 1 - 1 = x4 by omega])
              rw [← hgs] at hG
              refine ih2 _ _ _ _ (gτ.tr gσ48) ⟨?_, ?_, ?_, ?_, ?_, ?_⟩ ?_
              · exact (Ch.tr i0 kσ48)
              · (clear ih0 ih1 ih2 ih3; first | exact i1 | (unfold FCT at *; omega) | (unfold FCT at *; omega))
              · (first | omega | exact ⟨by omega, by omega⟩ | assumption)
              · (first | omega | exact ⟨by omega, by omega⟩ | assumption)
              · (first | omega | exact ⟨by omega, by omega⟩ | assumption)
              · (clear ih0 ih1 ih2 ih3; first | exact GIV_iff i5 (fun k v => by rw [hJn]; exact PGM_f (fun z => by have w := (hdO hqe).mp z; first | exact absurd w.1 (by assumption) | exact absurd (by assumption) w.2)) | (refine GIV_iff hG (fun k v => ?_); rw [hJn, ← hx6]; have w := PGM_t (σ := σ) (f := x1) (w := y2) (n := x4) (m := x6 - σ.I 595 (σ.I 637 x4)) (k := k) (u := v) (by omega) ((hdO hqe).mpr ⟨by assumption, by assumption⟩); rw [hx6] at w ⊢; exact w) | (refine GIV_iff i5 (fun k v => ?_); rw [PGM_n i3.1, show σ.I 596 (σ.I 637 x4) = x6 - σ.I 595 (σ.I 637 x4) by omega]))
              · (unfold lt3; omega)
    · rintro x4 x5 τ gτ ⟨i0, i1, i2, i3, i4, i5⟩ ha hb hc
      subst ha hb hc
      have hk := fun (c : Nat) (q : c < 555 ∨ (555 < c ∧ c < 656) ∨ 660 < c) => kga i0 q
      have hH : τ.I 555 115 = σ.I 555 115 := Ch.at i0 (by unfold wsGa; omega)
      have hfc := hdI i1
      have hf01 : τ.I 555 141 = 0 ∨ τ.I 555 141 = 1 := (by unfold FCT at i1; omega)
      have hTS : bd_0_20 τ 587 24000 := bd_0_20_eq p6 (hk 587 (by decide))
      have hOB : OB τ 595 596 := (by unfold OB; rw [hk 595 (by decide), hk 596 (by decide)]; exact p4)
      have hgt : ∀ i, 0 ≤ i → i < τ.I 555 135 → τ.I 555 141 ≠ 0 → 0 ≤ τ.I 658 i ∧ τ.I 658 i < 24000 := fun i a b c => (by have z := kyG_f i1 c; obtain ⟨s, h1, h2, q, h3, h4, h5⟩ := i2; have hp := h3.1 i a (by omega); have y := GIV_D h1 (i := q i) hp.1 hp.2 z.2; rw [← (h4 i a (by omega)).1, z.1] at y; exact y)
      have hgt := hdI hgt
      refine ucX9_groupAll_144W  (hL.sf gτ)  ?_
      refine ⟨?_, ?_⟩
      · (first | exact ⟨by omega, by omega⟩ | assumption)
      refine ⟨fun c1 => ?_, fun c2 => ?_⟩
      · refine ih1 _ _ gτ ⟨?_, ?_, ?_, ?_, ?_⟩ ?_
        · exact i0
        · (clear ih0 ih1 ih2 ih3; first | exact i1 | (unfold FCT at *; omega) | (unfold FCT at *; omega))
        · (clear ih0 ih1 ih2 ih3; first | (rw [show x5 + -1 = x5 - 1 by omega]; obtain ⟨s, h1, h2, q, h3, h4, h5⟩ := i2; refine ⟨s, h1, (h2.trans z135.symm), swp q x5 (x5 - 1), PRM_sw h3 (by omega) (by omega), RWS_sw h4 (by omega) (by omega) eσ13, fun _ => ?_⟩; exact SRJ_sw (h5 trivial) h3 (LMs_swo p6 (fun i a b => GIV_D h1 a b)) (by omega) (by omega) ((RWS_bf i0 i1 h4 (by omega) (by omega)).mp (by assumption))) | (obtain ⟨s, h1, h2, q, h3, h4, h5⟩ := i2; exact ⟨s, h1, h2, q, h3, h4, fun _ => SRJ_z (h5 trivial) (by omega)⟩) | (obtain ⟨s, h1, h2, q, h3, h4, h5⟩ := i2; exact ⟨s, h1, h2, q, h3, h4, fun _ => SRJ_x (h5 trivial) h3 (LMs_swo p6 (fun i a b => GIV_D h1 a b)) (by omega) (by omega) (fun z => (by assumption : ¬ gbM τ x5 (x5 - 1)) ((RWS_bf i0 i1 h4 (by omega) (by omega)).mpr z))⟩))
        · (first | omega | exact ⟨by omega, by omega⟩ | assumption)
        · (first | omega | exact ⟨by omega, by omega⟩ | assumption)
        · (unfold lt3; omega)
      · refine ⟨?_, ?_⟩
        · omega
        refine ⟨?_, ?_⟩
        · (first | omega | exact ⟨by omega, by omega⟩ | assumption)
        refine ⟨?_, ?_⟩
        · (first | omega | exact ⟨by omega, by omega⟩ | assumption)
        refine ⟨?_, ?_⟩
        · (clear ih0 ih1 ih2 ih3; exact hTS)
        refine ⟨?_, ?_⟩
        · (clear ih0 ih1 ih2 ih3; (intro z; have a := (hdO hgt) x5 (by omega) (by omega) z; have b := (hdO hgt) (x5 - 1) (by omega) (by omega) z; exact ⟨a.1, a.2, b.1, b.2⟩))
        refine ⟨fun c3 => ?_, fun c4 => ?_⟩
        · refine ⟨?_, ?_⟩
          · omega
          refine ⟨?_, ?_⟩
          · (first | omega | exact ⟨by omega, by omega⟩ | assumption)
          refine ⟨?_, ?_⟩
          · (first | omega | exact ⟨by omega, by omega⟩ | assumption)
          rintro σ13 gσ13 ⟨⟨eσ13r, eσ13s, eσ13n⟩, eσ13⟩
          have kσ13 : KGa τ σ13 := KGa_rd eσ13r eσ13s eσ13n eσ13 (fun c i hP => by unfold wsGa at hP; first | grind | grind (splits := 40))
          have z141 : σ13.I 555 141 = τ.I 555 141 := (by rw [eσ13]; grind)
          have z135 : σ13.I 555 135 = τ.I 555 135 := (by rw [eσ13]; grind)
          refine ih3 _ _ _ (gτ.tr gσ13) ⟨?_, ?_, ?_, ?_, ?_, ?_⟩ ?_
          · exact (Ch.tr i0 kσ13)
          · (clear ih0 ih1 ih2 ih3; first | exact i1 | (unfold FCT at *; omega) | (unfold FCT at *; omega))
          · (clear ih0 ih1 ih2 ih3; first | (rw [show x5 + -1 = x5 - 1 by omega]; obtain ⟨s, h1, h2, q, h3, h4, h5⟩ := i2; refine ⟨s, h1, (h2.trans z135.symm), swp q x5 (x5 - 1), PRM_sw h3 (by omega) (by omega), RWS_sw h4 (by omega) (by omega) eσ13, fun _ => ?_⟩; exact SRJ_sw (h5 trivial) h3 (LMs_swo p6 (fun i a b => GIV_D h1 a b)) (by omega) (by omega) ((RWS_bf i0 i1 h4 (by omega) (by omega)).mp (by assumption))) | (obtain ⟨s, h1, h2, q, h3, h4, h5⟩ := i2; exact ⟨s, h1, h2, q, h3, h4, fun _ => SRJ_z (h5 trivial) (by omega)⟩) | (obtain ⟨s, h1, h2, q, h3, h4, h5⟩ := i2; exact ⟨s, h1, h2, q, h3, h4, fun _ => SRJ_x (h5 trivial) h3 (LMs_swo p6 (fun i a b => GIV_D h1 a b)) (by omega) (by omega) (fun z => (by assumption : ¬ gbM τ x5 (x5 - 1)) ((RWS_bf i0 i1 h4 (by omega) (by omega)).mpr z))⟩))
          · (first | omega | exact ⟨by omega, by omega⟩ | assumption)
          · (first | omega | exact ⟨by omega, by omega⟩ | assumption)
          · (first | omega | exact ⟨by omega, by omega⟩ | assumption)
          · (unfold lt3; omega)
        · refine ih1 _ _ gτ ⟨?_, ?_, ?_, ?_, ?_⟩ ?_
          · exact i0
          · (clear ih0 ih1 ih2 ih3; first | exact i1 | (unfold FCT at *; omega) | (unfold FCT at *; omega))
          · (clear ih0 ih1 ih2 ih3; first | (rw [show x5 + -1 = x5 - 1 by omega]; obtain ⟨s, h1, h2, q, h3, h4, h5⟩ := i2; refine ⟨s, h1, (h2.trans z135.symm), swp q x5 (x5 - 1), PRM_sw h3 (by omega) (by omega), RWS_sw h4 (by omega) (by omega) eσ13, fun _ => ?_⟩; exact SRJ_sw (h5 trivial) h3 (LMs_swo p6 (fun i a b => GIV_D h1 a b)) (by omega) (by omega) ((RWS_bf i0 i1 h4 (by omega) (by omega)).mp (by assumption))) | (obtain ⟨s, h1, h2, q, h3, h4, h5⟩ := i2; exact ⟨s, h1, h2, q, h3, h4, fun _ => SRJ_z (h5 trivial) (by omega)⟩) | (obtain ⟨s, h1, h2, q, h3, h4, h5⟩ := i2; exact ⟨s, h1, h2, q, h3, h4, fun _ => SRJ_x (h5 trivial) h3 (LMs_swo p6 (fun i a b => GIV_D h1 a b)) (by omega) (by omega) (fun z => (by assumption : ¬ gbM τ x5 (x5 - 1)) ((RWS_bf i0 i1 h4 (by omega) (by omega)).mpr z))⟩))
          · (first | omega | exact ⟨by omega, by omega⟩ | assumption)
          · (first | omega | exact ⟨by omega, by omega⟩ | assumption)
          · (unfold lt3; omega)
  have k0_ : ∀ (x4 : Int) (τ : Sto), SF σ τ → ((KGa σ τ) ∧ (FCT τ y2) ∧ (0 ≤ x4 ∧ x4 ≤ σ.I 555 115) ∧ (GIV (DMw y2) (EMw σ y2) (gsM τ) (PGM σ x1 y2 x4 0) x4) ∧ (τ.I 555 135 ≤ SCM σ x4)) → VV E mX9_groupAll (d + 1) 23 [(0, aO 555), (1, aI (x1)), (2, aL (y2)), (4, aI (x4))] [] τ (RV (fun τ => (GRM σ τ x1 y2 (τ.I 555 135) (-1)) ∧ (FCT τ y2) ∧ (0 ≤ τ.I 555 135 ∧ τ.I 555 135 ≤ 6000) ∧ (KGa σ τ))) := fun z0 z1 h0 h1 => (key _ _ _).1 z0 z1 h0 h1 rfl rfl rfl
  have k1_ : ∀ (x4 : Int) (τ : Sto), SF σ τ → ((KGa σ τ) ∧ (FCT τ y2) ∧ (GRM σ τ x1 y2 x4 (-1)) ∧ (0 ≤ τ.I 555 135 ∧ τ.I 555 135 ≤ 6000) ∧ (1 ≤ x4 ∧ (x4 ≤ τ.I 555 135 ∨ x4 = 1))) → VV E mX9_groupAll (d + 1) 131 [(0, aO 555), (4, aI (x4))] [] τ (RV (fun τ => (GRM σ τ x1 y2 (τ.I 555 135) (-1)) ∧ (FCT τ y2) ∧ (0 ≤ τ.I 555 135 ∧ τ.I 555 135 ≤ 6000) ∧ (KGa σ τ))) := fun z0 z1 h0 h1 => (key _ _ _).2.1 z0 z1 h0 h1 rfl rfl rfl
  have k2_ : ∀ (x4 : Int) (x5 : Int) (x6 : Int) (τ : Sto), SF σ τ → ((KGa σ τ) ∧ (FCT τ y2) ∧ (τ.I 555 135 ≤ SCM σ x4 + (x6 - σ.I 595 (σ.I 637 x4))) ∧ (0 ≤ x4 ∧ x4 < σ.I 555 115 ∧ x5 = σ.I 637 x4) ∧ (0 ≤ (x6 - σ.I 595 (σ.I 637 x4)) ∧ (x6 - σ.I 595 (σ.I 637 x4)) ≤ σ.I 596 (σ.I 637 x4)) ∧ (GIV (DMw y2) (EMw σ y2) (gsM τ) (PGM σ x1 y2 x4 (x6 - σ.I 595 (σ.I 637 x4))) (x4 + 1))) → VV E mX9_groupAll (d + 1) 50 [(0, aO 555), (1, aI (x1)), (2, aL (y2)), (4, aI (x4)), (5, aI (x5)), (6, aI (x6))] [] τ (RV (fun τ => (GRM σ τ x1 y2 (τ.I 555 135) (-1)) ∧ (FCT τ y2) ∧ (0 ≤ τ.I 555 135 ∧ τ.I 555 135 ≤ 6000) ∧ (KGa σ τ))) := fun z0 z1 z2 z3 h0 h1 => (key _ _ _).2.2.1 z0 z1 z2 z3 h0 h1 rfl rfl rfl
  have k3_ : ∀ (x4 : Int) (x5 : Int) (τ : Sto), SF σ τ → ((KGa σ τ) ∧ (FCT τ y2) ∧ (GRM σ τ x1 y2 (x4 + 1) x5) ∧ (0 ≤ τ.I 555 135 ∧ τ.I 555 135 ≤ 6000) ∧ (1 ≤ x4 ∧ x4 < τ.I 555 135) ∧ (0 ≤ x5 ∧ x5 ≤ x4)) → VV E mX9_groupAll (d + 1) 144 [(0, aO 555), (4, aI (x4)), (5, aI (x5))] [] τ (RV (fun τ => (GRM σ τ x1 y2 (τ.I 555 135) (-1)) ∧ (FCT τ y2) ∧ (0 ≤ τ.I 555 135 ∧ τ.I 555 135 ≤ 6000) ∧ (KGa σ τ))) := fun z0 z1 z2 h0 h1 => (key _ _ _).2.2.2 z0 z1 z2 h0 h1 rfl rfl rfl
  clear key
  refine ucX9_groupAll_0W  hL  ?_
  intro σ1 eσ1 gσ1
  have kσ1 : KGa σ σ1 := KGa_w eσ1 (by unfold wsGa; omega)
  refine ⟨?_, ?_⟩
  · (clear k0_ k1_ k2_ k3_; exact p1.2)
  refine ⟨fun c1 => ?_, fun c2 => ?_⟩
  · intro σ4 eσ4 gσ4
    have kσ4 : KGa σ1 σ4 := KGa_w eσ4 (by unfold wsGa; omega)
    refine k0_ _ _ (gσ1.tr gσ4) ⟨?_, ?_, ?_, ?_, ?_⟩
    · exact (Ch.tr kσ1 kσ4)
    · (clear k0_ k1_ k2_ k3_; first | (left; exact ⟨by assumption, by rw [eσ5, I_same]⟩) | (right; exact ⟨by assumption, by rw [eσ4, I_same]⟩))
    · (first | omega | exact ⟨by omega, by omega⟩ | assumption)
    · (clear k0_ k1_ k2_ k3_; (refine GIV_iff (GIV_0 ?_) (fun k v => PGM_0); first | (show σ4.I 555 135 = 0; rw [eσ4, I_nj _ _ _ _ (by decide), eσ1, I_same]) | (show σ5.I 555 135 = 0; rw [eσ5, I_nj _ _ _ _ (by decide), eσ1, I_same])))
    · (clear k0_ k1_ k2_ k3_; (have z : SCM σ 0 = 0 := smP_0 _ _ _ (Int.le_refl _); first | (have y : σ4.I 555 135 = 0 := (by rw [eσ4, I_nj _ _ _ _ (by decide), eσ1, I_same]); omega) | (have y : σ5.I 555 135 = 0 := (by rw [eσ5, I_nj _ _ _ _ (by decide), eσ1, I_same]); omega)))
  · intro σ5 eσ5 gσ5
    have kσ5 : KGa σ1 σ5 := KGa_w eσ5 (by unfold wsGa; omega)
    refine k0_ _ _ (gσ1.tr gσ5) ⟨?_, ?_, ?_, ?_, ?_⟩
    · exact (Ch.tr kσ1 kσ5)
    · (clear k0_ k1_ k2_ k3_; first | (left; exact ⟨by assumption, by rw [eσ5, I_same]⟩) | (right; exact ⟨by assumption, by rw [eσ4, I_same]⟩))
    · (first | omega | exact ⟨by omega, by omega⟩ | assumption)
    · (clear k0_ k1_ k2_ k3_; (refine GIV_iff (GIV_0 ?_) (fun k v => PGM_0); first | (show σ4.I 555 135 = 0; rw [eσ4, I_nj _ _ _ _ (by decide), eσ1, I_same]) | (show σ5.I 555 135 = 0; rw [eσ5, I_nj _ _ _ _ (by decide), eσ1, I_same])))
    · (clear k0_ k1_ k2_ k3_; (have z : SCM σ 0 = 0 := smP_0 _ _ _ (Int.le_refl _); first | (have y : σ4.I 555 135 = 0 := (by rw [eσ4, I_nj _ _ _ _ (by decide), eσ1, I_same]); omega) | (have y : σ5.I 555 135 = 0 := (by rw [eσ5, I_nj _ _ _ _ (by decide), eσ1, I_same]); omega)))
