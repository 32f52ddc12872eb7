set_option maxRecDepth 100000
set_option maxHeartbeats 1200000
theorem DX0_near_0W : DD cX0_near 0 1 1 (.aload_n 0) := ⟨by decide +kernel, rfl⟩
theorem DX0_near_1W : DD cX0_near 1 3 4 (.invokevirtual 467) := ⟨by decide +kernel, rfl⟩
theorem DX0_near_4W : DD cX0_near 4 1 5 (.aload_n 0) := ⟨by decide +kernel, rfl⟩
theorem DX0_near_5W : DD cX0_near 5 1 6 (.iload_n 1) := ⟨by decide +kernel, rfl⟩
theorem DX0_near_6W : DD cX0_near 6 3 9 (.invokevirtual 598) := ⟨by decide +kernel, rfl⟩
theorem DX0_near_9W : DD cX0_near 9 2 11 (.istore 8) := ⟨by decide +kernel, rfl⟩
theorem DX0_near_11W : DD cX0_near 11 2 13 (.iload 8) := ⟨by decide +kernel, rfl⟩
theorem DX0_near_13W : DD cX0_near 13 3 16 (.ifCond .lt 54) := ⟨by decide +kernel, rfl⟩
theorem DX0_near_16W : DD cX0_near 16 1 17 (.aload_n 0) := ⟨by decide +kernel, rfl⟩
theorem DX0_near_17W : DD cX0_near 17 1 18 (.iload_n 2) := ⟨by decide +kernel, rfl⟩
theorem DX0_near_18W : DD cX0_near 18 1 19 (.iconst 4) := ⟨by decide +kernel, rfl⟩
theorem DX0_near_19W : DD cX0_near 19 3 22 (.invokevirtual 388) := ⟨by decide +kernel, rfl⟩
theorem DX0_near_22W : DD cX0_near 22 3 25 (.ifCond .eq 45) := ⟨by decide +kernel, rfl⟩
theorem DX0_near_25W : DD cX0_near 25 1 26 (.iload_n 3) := ⟨by decide +kernel, rfl⟩
theorem DX0_near_26W : DD cX0_near 26 3 29 (.invokestatic 422) := ⟨by decide +kernel, rfl⟩
theorem DX0_near_29W : DD cX0_near 29 3 32 (.ifCond .eq 38) := ⟨by decide +kernel, rfl⟩
theorem DX0_near_32W : DD cX0_near 32 2 34 (.iload 4) := ⟨by decide +kernel, rfl⟩
theorem DX0_near_34W : DD cX0_near 34 3 37 (.invokestatic 422) := ⟨by decide +kernel, rfl⟩
theorem DX0_near_37W : DD cX0_near 37 3 40 (.ifCond .eq 30) := ⟨by decide +kernel, rfl⟩
theorem DX0_near_40W : DD cX0_near 40 2 42 (.iload 5) := ⟨by decide +kernel, rfl⟩
theorem DX0_near_42W : DD cX0_near 42 3 45 (.invokestatic 422) := ⟨by decide +kernel, rfl⟩
theorem DX0_near_45W : DD cX0_near 45 3 48 (.ifCond .eq 22) := ⟨by decide +kernel, rfl⟩
theorem DX0_near_48W : DD cX0_near 48 2 50 (.iload 6) := ⟨by decide +kernel, rfl⟩
theorem DX0_near_50W : DD cX0_near 50 3 53 (.invokestatic 422) := ⟨by decide +kernel, rfl⟩
theorem DX0_near_53W : DD cX0_near 53 3 56 (.ifCond .eq 14) := ⟨by decide +kernel, rfl⟩
theorem DX0_near_56W : DD cX0_near 56 2 58 (.iload 7) := ⟨by decide +kernel, rfl⟩
theorem DX0_near_58W : DD cX0_near 58 1 59 (.iconst 1) := ⟨by decide +kernel, rfl⟩
theorem DX0_near_59W : DD cX0_near 59 2 61 (.bipush 50) := ⟨by decide +kernel, rfl⟩
theorem DX0_near_61W : DD cX0_near 61 3 64 (.invokestatic 18) := ⟨by decide +kernel, rfl⟩
theorem DX0_near_64W : DD cX0_near 64 3 67 (.ifCond .ne 5) := ⟨by decide +kernel, rfl⟩
theorem DX0_near_67W : DD cX0_near 67 1 68 (.iconst (-1)) := ⟨by decide +kernel, rfl⟩
theorem DX0_near_68W : DD cX0_near 68 1 69 (.ireturn) := ⟨by decide +kernel, rfl⟩
theorem DX0_near_69W : DD cX0_near 69 1 70 (.aload_n 0) := ⟨by decide +kernel, rfl⟩
theorem DX0_near_70W : DD cX0_near 70 3 73 (.invokevirtual 601) := ⟨by decide +kernel, rfl⟩
theorem DX0_near_73W : DD cX0_near 73 3 76 (.ifCond .ne 6) := ⟨by decide +kernel, rfl⟩
theorem DX0_near_76W : DD cX0_near 76 2 78 (.bipush (-4)) := ⟨by decide +kernel, rfl⟩
theorem DX0_near_78W : DD cX0_near 78 1 79 (.ireturn) := ⟨by decide +kernel, rfl⟩
theorem DX0_near_79W : DD cX0_near 79 1 80 (.aload_n 0) := ⟨by decide +kernel, rfl⟩
theorem DX0_near_80W : DD cX0_near 80 1 81 (.aload_n 0) := ⟨by decide +kernel, rfl⟩
theorem DX0_near_81W : DD cX0_near 81 3 84 (.getfield 268) := ⟨by decide +kernel, rfl⟩
theorem DX0_near_84W : DD cX0_near 84 2 86 (.iload 8) := ⟨by decide +kernel, rfl⟩
theorem DX0_near_86W : DD cX0_near 86 3 89 (.invokevirtual 605) := ⟨by decide +kernel, rfl⟩
theorem DX0_near_89W : DD cX0_near 89 1 90 (.iload_n 3) := ⟨by decide +kernel, rfl⟩
theorem DX0_near_90W : DD cX0_near 90 2 92 (.iload 4) := ⟨by decide +kernel, rfl⟩
theorem DX0_near_92W : DD cX0_near 92 2 94 (.iload 5) := ⟨by decide +kernel, rfl⟩
theorem DX0_near_94W : DD cX0_near 94 2 96 (.iload 6) := ⟨by decide +kernel, rfl⟩
theorem DX0_near_96W : DD cX0_near 96 3 99 (.invokestatic 425) := ⟨by decide +kernel, rfl⟩
theorem DX0_near_99W : DD cX0_near 99 2 101 (.lstore 9) := ⟨by decide +kernel, rfl⟩
theorem DX0_near_101W : DD cX0_near 101 1 102 (.iconst 0) := ⟨by decide +kernel, rfl⟩
theorem DX0_near_102W : DD cX0_near 102 2 104 (.istore 11) := ⟨by decide +kernel, rfl⟩
theorem DX0_near_104W : DD cX0_near 104 2 106 (.iload 11) := ⟨by decide +kernel, rfl⟩
theorem DX0_near_106W : DD cX0_near 106 1 107 (.aload_n 0) := ⟨by decide +kernel, rfl⟩
theorem DX0_near_107W : DD cX0_near 107 3 110 (.getfield 437) := ⟨by decide +kernel, rfl⟩
theorem DX0_near_110W : DD cX0_near 110 3 113 (.if_icmp .ge 71) := ⟨by decide +kernel, rfl⟩
theorem DX0_near_113W : DD cX0_near 113 1 114 (.aload_n 0) := ⟨by decide +kernel, rfl⟩
theorem DX0_near_114W : DD cX0_near 114 3 117 (.getfield 268) := ⟨by decide +kernel, rfl⟩
theorem DX0_near_117W : DD cX0_near 117 3 120 (.getfield 568) := ⟨by decide +kernel, rfl⟩
theorem DX0_near_120W : DD cX0_near 120 1 121 (.iload_n 2) := ⟨by decide +kernel, rfl⟩
theorem DX0_near_121W : DD cX0_near 121 3 124 (.invokevirtual 619) := ⟨by decide +kernel, rfl⟩
theorem DX0_near_124W : DD cX0_near 124 3 127 (.ifCond .eq 57) := ⟨by decide +kernel, rfl⟩
theorem DX0_near_127W : DD cX0_near 127 1 128 (.aload_n 0) := ⟨by decide +kernel, rfl⟩
theorem DX0_near_128W : DD cX0_near 128 3 131 (.getfield 268) := ⟨by decide +kernel, rfl⟩
theorem DX0_near_131W : DD cX0_near 131 3 134 (.getfield 568) := ⟨by decide +kernel, rfl⟩
theorem DX0_near_134W : DD cX0_near 134 3 137 (.getfield 584) := ⟨by decide +kernel, rfl⟩
theorem DX0_near_137W : DD cX0_near 137 2 139 (.iload 11) := ⟨by decide +kernel, rfl⟩
theorem DX0_near_139W : DD cX0_near 139 1 140 (.baload) := ⟨by decide +kernel, rfl⟩
theorem DX0_near_140W : DD cX0_near 140 3 143 (.ifCond .eq 15) := ⟨by decide +kernel, rfl⟩
theorem DX0_near_143W : DD cX0_near 143 1 144 (.aload_n 0) := ⟨by decide +kernel, rfl⟩
theorem DX0_near_144W : DD cX0_near 144 2 146 (.iload 11) := ⟨by decide +kernel, rfl⟩
theorem DX0_near_146W : DD cX0_near 146 1 147 (.iload_n 2) := ⟨by decide +kernel, rfl⟩
theorem DX0_near_147W : DD cX0_near 147 2 149 (.lload 9) := ⟨by decide +kernel, rfl⟩
theorem DX0_near_149W : DD cX0_near 149 3 152 (.invokevirtual 714) := ⟨by decide +kernel, rfl⟩
theorem DX0_near_152W : DD cX0_near 152 3 155 (.goto 6) := ⟨by decide +kernel, rfl⟩
theorem DX0_near_155W : DD cX0_near 155 3 158 (.ldc2_w 609) := ⟨by decide +kernel, rfl⟩
theorem DX0_near_158W : DD cX0_near 158 2 160 (.lstore 12) := ⟨by decide +kernel, rfl⟩
theorem DX0_near_160W : DD cX0_near 160 2 162 (.lload 12) := ⟨by decide +kernel, rfl⟩
theorem DX0_near_162W : DD cX0_near 162 1 163 (.lconst 0) := ⟨by decide +kernel, rfl⟩
theorem DX0_near_163W : DD cX0_near 163 1 164 (.lcmp) := ⟨by decide +kernel, rfl⟩
theorem DX0_near_164W : DD cX0_near 164 3 167 (.ifCond .lt 11) := ⟨by decide +kernel, rfl⟩
theorem DX0_near_167W : DD cX0_near 167 1 168 (.aload_n 0) := ⟨by decide +kernel, rfl⟩
theorem DX0_near_168W : DD cX0_near 168 2 170 (.iload 11) := ⟨by decide +kernel, rfl⟩
theorem DX0_near_170W : DD cX0_near 170 2 172 (.lload 12) := ⟨by decide +kernel, rfl⟩
theorem DX0_near_172W : DD cX0_near 172 3 175 (.invokevirtual 611) := ⟨by decide +kernel, rfl⟩
theorem DX0_near_175W : DD cX0_near 175 3 178 (.iinc 11 1) := ⟨by decide +kernel, rfl⟩
theorem DX0_near_178W : DD cX0_near 178 3 181 (.goto (-74)) := ⟨by decide +kernel, rfl⟩
theorem DX0_near_181W : DD cX0_near 181 1 182 (.aload_n 0) := ⟨by decide +kernel, rfl⟩
theorem DX0_near_182W : DD cX0_near 182 1 183 (.iconst (-1)) := ⟨by decide +kernel, rfl⟩
theorem DX0_near_183W : DD cX0_near 183 1 184 (.iconst 0) := ⟨by decide +kernel, rfl⟩
theorem DX0_near_184W : DD cX0_near 184 1 185 (.iconst 0) := ⟨by decide +kernel, rfl⟩
theorem DX0_near_185W : DD cX0_near 185 3 188 (.invokevirtual 615) := ⟨by decide +kernel, rfl⟩
theorem DX0_near_188W : DD cX0_near 188 1 189 (.aload_n 0) := ⟨by decide +kernel, rfl⟩
theorem DX0_near_189W : DD cX0_near 189 1 190 (.aload_n 0) := ⟨by decide +kernel, rfl⟩
theorem DX0_near_190W : DD cX0_near 190 3 193 (.getfield 547) := ⟨by decide +kernel, rfl⟩
theorem DX0_near_193W : DD cX0_near 193 2 195 (.iload 7) := ⟨by decide +kernel, rfl⟩
theorem DX0_near_195W : DD cX0_near 195 3 198 (.invokestatic 541) := ⟨by decide +kernel, rfl⟩
theorem DX0_near_198W : DD cX0_near 198 3 201 (.putfield 547) := ⟨by decide +kernel, rfl⟩
theorem DX0_near_201W : DD cX0_near 201 1 202 (.aload_n 0) := ⟨by decide +kernel, rfl⟩
theorem DX0_near_202W : DD cX0_near 202 3 205 (.getfield 547) := ⟨by decide +kernel, rfl⟩
theorem DX0_near_205W : DD cX0_near 205 1 206 (.ireturn) := ⟨by decide +kernel, rfl⟩
theorem ucX0_near_0W {E : XE} {d : Nat} {σ : Sto} {Q : Res → Sto → Prop} {K : Int} {V : Int} {x1 : Int} {x2 : Int} {x3 : Int} {x4 : Int} {x5 : Int} {x6 : Int} {x7 : Int} (hL : Lay σ)  (h : 1 ≤ d ∧ (∀ σ2 : Sto, SF σ σ2 → (RD σ σ2 (fun c i => if fgX c i then 0 else σ.I c i)) → 2 ≤ d ∧ (inR x1) ∧ (∀ y5 : Int, y5 = (if x1 = -1 then σ2.I 0 40 else if 0 ≤ x1 ∧ x1 ≤ 3 then σ2.I 48 x1 else -1) → inR y5 → (y5 < 0 → Q (.inl (some (aI (-1)))) σ2) ∧ (0 ≤ y5 → 3 ≤ d ∧ (inR x2) ∧ (inR (4 : Int)) ∧ (0 ≤ σ2.I 0 9 ∧ σ2.I 0 9 ≤ 12) ∧ (((0 ≤ x2 ∧ x2 < σ2.I 0 9) ∧ σ2.I 16 x2 = (4 : Int)) → 2 ≤ d ∧ (inR x3) ∧ ((-1000 ≤ x3 ∧ x3 ≤ 1000) → 2 ≤ d ∧ (inR x4) ∧ ((-1000 ≤ x4 ∧ x4 ≤ 1000) → 2 ≤ d ∧ (inR x5) ∧ ((-1000 ≤ x5 ∧ x5 ≤ 1000) → 2 ≤ d ∧ (inR x6) ∧ ((-1000 ≤ x6 ∧ x6 ≤ 1000) → 1 ≤ d ∧ (inR x7) ∧ (inR (1 : Int)) ∧ (inR (50 : Int)) ∧ (((1 : Int) ≤ x7 ∧ x7 ≤ (50 : Int)) → 2 ≤ d ∧ (1 ≤ σ2.I 0 96 ∧ σ2.I 0 96 ≤ 8) ∧ (1 ≤ σ2.I 0 95 ∧ σ2.I 0 95 ≤ 8) ∧ (bd_0_1000000 σ2 211 8) ∧ (∀ (y40 : Int) (σ39 : Sto), 0 ≤ y40 ∧ y40 ≤ 1 → SF σ2 σ39 → ((y40 = 1 ↔ alN (fun s => 0 ≤ nOf (σ2.I 210) (σ2.I 0 96) s) (σ2.I 0 95)) ∧ (RD σ2 σ39 (fun c i => if y40 = 1 ∧ c = 211 then σ2.I c i + cn (fun s => nOf (σ2.I 210) (σ2.I 0 96) s = i) (σ2.I 0 95) else σ2.I c i))) → (y40 ≠ 0 → 527 ≤ d ∧ (87 = 87 ∨ 87 = 121) ∧ (inR y5) ∧ (0 ≤ σ39.I 0 46 ∧ σ39.I 0 46 < 4) ∧ (BSX σ39 K V) ∧ (0 < σ39.I 0 46 → σ39.I (ubX σ39) 1 ≠ 0 → QLX σ39 (ubX σ39)) ∧ (PBD σ39 155) ∧ (∀ σ49 : Sto, SF σ39 σ49 → (((σ49.I (87 + 15) 6 = 0 ∧ σ49.I (87 + 15) 7 = (σ39.I 0 39) ∧ σ49.I (87 + 15) 8 = 0) ∧ σ49.I (87 + 15) 1 = (if 0 < σ39.I 0 46 then σ39.I (ubX σ39) 2 else 0)) ∧ (CHN σ49 (87 + 15)) ∧ (SEX σ39 σ49 87 K V y5) ∧ (PBD σ49 155) ∧ (KMw 87 σ39 σ49)) → 1 ≤ d ∧ (inR x3) ∧ (inR x4) ∧ (inR x5) ∧ (inR x6) ∧ (∀ y55 : Int, y55 = (pk4 x3 x4 x5 x6) → inL y55 → VV E mX0_near (d + 1) 104 [(0, aO 0), (2, aI (x2)), (7, aI (x7)), (9, aL (y55)), (11, aI (0))] [] σ49 Q))) ∧ (y40 = 0 → Q (.inl (some (aI (-4)))) σ39))) ∧ (¬ ((1 : Int) ≤ x7 ∧ x7 ≤ (50 : Int)) → Q (.inl (some (aI (-1)))) σ2)) ∧ (¬ (-1000 ≤ x6 ∧ x6 ≤ 1000) → Q (.inl (some (aI (-1)))) σ2)) ∧ (¬ (-1000 ≤ x5 ∧ x5 ≤ 1000) → Q (.inl (some (aI (-1)))) σ2)) ∧ (¬ (-1000 ≤ x4 ∧ x4 ≤ 1000) → Q (.inl (some (aI (-1)))) σ2)) ∧ (¬ (-1000 ≤ x3 ∧ x3 ≤ 1000) → Q (.inl (some (aI (-1)))) σ2)) ∧ (¬ ((0 ≤ x2 ∧ x2 < σ2.I 0 9) ∧ σ2.I 16 x2 = (4 : Int)) → Q (.inl (some (aI (-1)))) σ2))))) : VV E mX0_near (d + 1) 0 [(0, aO 0), (1, aI (x1)), (2, aI (x2)), (3, aI (x3)), (4, aI (x4)), (5, aI (x5)), (6, aI (x6)), (7, aI (x7))] [] σ Q := by
  refine v_aload_n 0 DX0_near_0W rfl rfl <| ?_
  obtain ⟨k1, h⟩ := h
  refine v_invV (ci := 0) (as := []) (st := []) DX0_near_1W rfl okX0_forgetHits (Or.inl q1468) q1470 (s_0 hL) rfl qs27 npX0_forgetHits (sp_X0_forgetHits (σ := σ)  k1 hL ) (Nat.le_of_ble_eq_true rfl) (Nat.le_refl _) (Nat.le_of_ble_eq_true rfl) (RV_ret (fun σ2 gσ2 eσ2 => ?_)) RV_thr
  have h := h σ2 gσ2 eσ2
  refine v_aload_n 0 DX0_near_4W rfl rfl <| v_iload_n 1 DX0_near_5W rfl rfl <| ?_
  obtain ⟨k3, h⟩ := h
  obtain ⟨k4, h⟩ := h
  refine v_invV (ci := 0) (as := [aI (x1)]) (st := []) DX0_near_6W rfl okX0_versionOf (Or.inl q1725) q1727 (s_0 (hL.sf gσ2)) rfl qs55 npX0_versionOf (sp_X0_versionOf (σ := σ2) (x1 := x1) k3 (hL.sf gσ2) k4) (Nat.le_of_ble_eq_true rfl) (Nat.le_refl _) (Nat.le_of_ble_eq_true rfl) (RI_ret (fun y5 y5e y5f => ?_)) RI_thr
  have h := h y5 y5e y5f
  refine v_istore DX0_near_9W (by decide) rfl <| v_iload 0 DX0_near_11W rfl <| ?_
  refine v_if_lt (tg := 67) DX0_near_13W (by decide) y5f (fun c6 => ?_) (fun c6 => ?_)
  · have h := h.1 c6
    refine v_iconst DX0_near_67W <| ?_
    exact v_iret DX0_near_68W rfl rfl h
  · have h := h.2 c6
    refine v_aload_n 1 DX0_near_16W rfl rfl <| v_iload_n 3 DX0_near_17W rfl rfl <| v_iconst DX0_near_18W <| ?_
    obtain ⟨k7, h⟩ := h
    obtain ⟨k8, k9, k10, h⟩ := h
    refine v_invV (ci := 0) (as := [aI (x2), aI (4)]) (st := []) DX0_near_19W rfl okX0_isKind (Or.inl q1363) q1365 (s_0 (hL.sf gσ2)) rfl qs16 npX0_isKind (sp_X0_isKind (σ := σ2) (x1 := x2) (x2 := (4 : Int)) k7 (hL.sf gσ2) k8 k9 k10) (Nat.le_of_ble_eq_true rfl) (Nat.le_refl _) (Nat.le_of_ble_eq_true rfl) (RZ_ret (fun c11 => ?_) (fun c11 => ?_)) RZ_thr
    · have h := h.1 c11
      refine v_if_eq (tg := 67) DX0_near_22W (by decide) ⟨by decide, by decide⟩ (fun c12 => absurd c12 (by decide)) (fun c12 => ?_)
      refine v_iload_n 4 DX0_near_25W rfl rfl <| ?_
      obtain ⟨k13, h⟩ := h
      obtain ⟨k14, h⟩ := h
      refine v_invS (as := [aI (x3)]) (st := []) DX0_near_26W rfl okX0_isSmall (Or.inl q1424) q1425 npX0_isSmall (sp_X0_isSmall (σ := σ2) (x0 := x3) k13 (hL.sf gσ2) k14) (Nat.le_of_ble_eq_true rfl) (Nat.le_refl _) (Nat.le_of_ble_eq_true rfl) (RZ_ret (fun c15 => ?_) (fun c15 => ?_)) RZ_thr
      · have h := h.1 c15
        refine v_if_eq (tg := 67) DX0_near_29W (by decide) ⟨by decide, by decide⟩ (fun c16 => absurd c16 (by decide)) (fun c16 => ?_)
        refine v_iload 5 DX0_near_32W rfl <| ?_
        obtain ⟨k17, h⟩ := h
        obtain ⟨k18, h⟩ := h
        refine v_invS (as := [aI (x4)]) (st := []) DX0_near_34W rfl okX0_isSmall (Or.inl q1424) q1425 npX0_isSmall (sp_X0_isSmall (σ := σ2) (x0 := x4) k17 (hL.sf gσ2) k18) (Nat.le_of_ble_eq_true rfl) (Nat.le_refl _) (Nat.le_of_ble_eq_true rfl) (RZ_ret (fun c19 => ?_) (fun c19 => ?_)) RZ_thr
        · have h := h.1 c19
          refine v_if_eq (tg := 67) DX0_near_37W (by decide) ⟨by decide, by decide⟩ (fun c20 => absurd c20 (by decide)) (fun c20 => ?_)
          refine v_iload 6 DX0_near_40W rfl <| ?_
          obtain ⟨k21, h⟩ := h
          obtain ⟨k22, h⟩ := h
          refine v_invS (as := [aI (x5)]) (st := []) DX0_near_42W rfl okX0_isSmall (Or.inl q1424) q1425 npX0_isSmall (sp_X0_isSmall (σ := σ2) (x0 := x5) k21 (hL.sf gσ2) k22) (Nat.le_of_ble_eq_true rfl) (Nat.le_refl _) (Nat.le_of_ble_eq_true rfl) (RZ_ret (fun c23 => ?_) (fun c23 => ?_)) RZ_thr
          · have h := h.1 c23
            refine v_if_eq (tg := 67) DX0_near_45W (by decide) ⟨by decide, by decide⟩ (fun c24 => absurd c24 (by decide)) (fun c24 => ?_)
            refine v_iload 7 DX0_near_48W rfl <| ?_
            obtain ⟨k25, h⟩ := h
            obtain ⟨k26, h⟩ := h
            refine v_invS (as := [aI (x6)]) (st := []) DX0_near_50W rfl okX0_isSmall (Or.inl q1424) q1425 npX0_isSmall (sp_X0_isSmall (σ := σ2) (x0 := x6) k25 (hL.sf gσ2) k26) (Nat.le_of_ble_eq_true rfl) (Nat.le_refl _) (Nat.le_of_ble_eq_true rfl) (RZ_ret (fun c27 => ?_) (fun c27 => ?_)) RZ_thr
            · have h := h.1 c27
              refine v_if_eq (tg := 67) DX0_near_53W (by decide) ⟨by decide, by decide⟩ (fun c28 => absurd c28 (by decide)) (fun c28 => ?_)
              refine v_iload 8 DX0_near_56W rfl <| v_iconst DX0_near_58W <| v_bipush DX0_near_59W ⟨by decide, by decide⟩ <| ?_
              obtain ⟨k29, h⟩ := h
              obtain ⟨k30, k31, k32, h⟩ := h
              refine v_invS (as := [aI (x7), aI (1), aI (50)]) (st := []) DX0_near_61W rfl okX0_isIn (Or.inl q300) q301 npX0_isIn (sp_X0_isIn (σ := σ2) (x0 := x7) (x1 := (1 : Int)) (x2 := (50 : Int)) k29 (hL.sf gσ2) k30 k31 k32) (Nat.le_of_ble_eq_true rfl) (Nat.le_refl _) (Nat.le_of_ble_eq_true rfl) (RZ_ret (fun c33 => ?_) (fun c33 => ?_)) RZ_thr
              · have h := h.1 c33
                refine v_if_ne (tg := 69) DX0_near_64W (by decide) ⟨by decide, by decide⟩ (fun c34 => ?_) (fun c34 => absurd c34 (by decide))
                refine v_aload_n 1 DX0_near_69W rfl rfl <| ?_
                obtain ⟨k35, h⟩ := h
                obtain ⟨k36, k37, k38, h⟩ := h
                refine v_invV (ci := 0) (as := []) (st := []) DX0_near_70W rfl okX0_askShards (Or.inl q1729) q1731 (s_0 (hL.sf gσ2)) rfl qs56 npX0_askShards (sp_X0_askShards (σ := σ2)  k35 (hL.sf gσ2) k36 k37 k38) (Nat.le_of_ble_eq_true rfl) (Nat.le_refl _) (Nat.le_of_ble_eq_true rfl) (RVZ_ret (fun y40 σ39 y40f gσ39 eσ39 => ?_)) RVZ_thr
                have h := h y40 σ39 y40f gσ39 eσ39
                refine v_if_ne (tg := 79) DX0_near_73W (by decide) (inR_z y40f) (fun c41 => ?_) (fun c41 => ?_)
                · have h := h.1 c41
                  refine v_aload_n 1 DX0_near_79W rfl rfl <| v_aload_n 1 DX0_near_80W rfl rfl <| w_getR (ci := 0) (kf := 60) (kz := 60) DX0_near_81W (s_0 ((hL.sf gσ2).sf gσ39)) rfl (by decide) rfl (Or.inl q1106) (fun _ _ => rfl) (r_0_60 ((hL.sf gσ2).sf gσ39)) <| v_iload 0 DX0_near_84W rfl <| ?_
                  obtain ⟨k42, h⟩ := h
                  obtain ⟨k43, k44, k45, k46, k47, k48, h⟩ := h
                  refine v_invV (ci := 0) (as := [aO 87, aI (y5)]) (st := []) DX0_near_86W rfl okX0_makeWorld (Or.inl q1737) q1739 (s_0 ((hL.sf gσ2).sf gσ39)) rfl qs58 npX0_makeWorld (sp_X0_makeWorld (σ := σ39) (o1 := 87) (x2 := y5) (K := K) (V := V) k42 ((hL.sf gσ2).sf gσ39) (lat_87 ((hL.sf gσ2).sf gσ39)) k43 k44 k45 k46 k47 k48) (Nat.le_of_ble_eq_true rfl) (Nat.le_refl _) (Nat.le_of_ble_eq_true rfl) (RV_ret (fun σ49 gσ49 eσ49 => ?_)) RV_thr
                  have h := h σ49 gσ49 eσ49
                  refine v_iload_n 4 DX0_near_89W rfl rfl <| v_iload 5 DX0_near_90W rfl <| v_iload 6 DX0_near_92W rfl <| v_iload 7 DX0_near_94W rfl <| ?_
                  obtain ⟨k50, h⟩ := h
                  obtain ⟨k51, k52, k53, k54, h⟩ := h
                  refine v_invS (as := [aI (x3), aI (x4), aI (x5), aI (x6)]) (st := []) DX0_near_96W rfl okX0_packed (Or.inl q1427) q1428 npX0_packed (sp_X0_packed (σ := σ49) (x0 := x3) (x1 := x4) (x2 := x5) (x3 := x6) k50 (((hL.sf gσ2).sf gσ39).sf gσ49) k51 k52 k53 k54) (Nat.le_of_ble_eq_true rfl) (Nat.le_refl _) (Nat.le_of_ble_eq_true rfl) (RL_ret (fun y55 y55e y55f => ?_)) RL_thr
                  have h := h y55 y55e y55f
                  refine v_lstore DX0_near_99W (by decide) rfl <| v_iconst DX0_near_101W <| v_istore DX0_near_102W (by decide) rfl <| ?_
                  exact v_pick [3, 5, 10, 1, 0] rfl h
                · have h := h.2 c41
                  refine v_bipush DX0_near_76W ⟨by decide, by decide⟩ <| ?_
                  exact v_iret DX0_near_78W rfl rfl h
              · have h := h.2 c33
                refine v_if_ne (tg := 69) DX0_near_64W (by decide) ⟨by decide, by decide⟩ (fun c56 => absurd c56 (by decide)) (fun c56 => ?_)
                refine v_iconst DX0_near_67W <| ?_
                exact v_iret DX0_near_68W rfl rfl h
            · have h := h.2 c27
              refine v_if_eq (tg := 67) DX0_near_53W (by decide) ⟨by decide, by decide⟩ (fun c57 => ?_) (fun c57 => absurd c57 (by decide))
              refine v_iconst DX0_near_67W <| ?_
              exact v_iret DX0_near_68W rfl rfl h
          · have h := h.2 c23
            refine v_if_eq (tg := 67) DX0_near_45W (by decide) ⟨by decide, by decide⟩ (fun c58 => ?_) (fun c58 => absurd c58 (by decide))
            refine v_iconst DX0_near_67W <| ?_
            exact v_iret DX0_near_68W rfl rfl h
        · have h := h.2 c19
          refine v_if_eq (tg := 67) DX0_near_37W (by decide) ⟨by decide, by decide⟩ (fun c59 => ?_) (fun c59 => absurd c59 (by decide))
          refine v_iconst DX0_near_67W <| ?_
          exact v_iret DX0_near_68W rfl rfl h
      · have h := h.2 c15
        refine v_if_eq (tg := 67) DX0_near_29W (by decide) ⟨by decide, by decide⟩ (fun c60 => ?_) (fun c60 => absurd c60 (by decide))
        refine v_iconst DX0_near_67W <| ?_
        exact v_iret DX0_near_68W rfl rfl h
    · have h := h.2 c11
      refine v_if_eq (tg := 67) DX0_near_22W (by decide) ⟨by decide, by decide⟩ (fun c61 => ?_) (fun c61 => absurd c61 (by decide))
      refine v_iconst DX0_near_67W <| ?_
      exact v_iret DX0_near_68W rfl rfl h
theorem ucX0_near_104W {E : XE} {d : Nat} {σ : Sto} {Q : Res → Sto → Prop} {K : Int} {V : Int} {x2 : Int} {x7 : Int} {y9 : Int} {x11 : Int} (hL : Lay σ)  (h : (inR (σ.I 0 39) → inR x11 ∧ ((σ.I 0 39) ≤ x11 → 5 ≤ d ∧ (-1 ≤ ((-1) : Int) ∧ ((-1) : Int) < 12) ∧ (0 ≤ (0 : Int) ∧ (0 : Int) ≤ 1) ∧ (0 ≤ (0 : Int) ∧ (0 : Int) ≤ 1) ∧ (0 ≤ σ.I 0 70 ∧ σ.I 0 70 ≤ 600) ∧ (OB σ 42 43) ∧ (∀ i, 0 ≤ i → i < σ.I 0 70 → 0 ≤ σ.I 189 i ∧ σ.I 189 i < 600) ∧ (∀ σ11 : Sto, SF σ σ11 → ((∃ p, PRM (σ.I 0 70) p ∧ RWH σ σ11 ((-1) : Int) (0 : Int) (σ.I 0 70) p ∧ ∀ a b, 0 ≤ a → a < b → b < (σ.I 0 70) → ¬ LX2 σ ((-1) : Int) (0 : Int) (0 : Int) (p b) (p a)) ∧ (KSo σ σ11)) → (inR (σ11.I 0 70) → inR x7 ∧ (∀ σ14 : Sto, σ14 = σ11.wI 0 70 (min (σ11.I 0 70) x7) → SF σ11 σ14 → (inR (σ14.I 0 70) → Q (.inl (some (aI (σ14.I 0 70)))) σ14))))) ∧ (x11 < (σ.I 0 39) → 1 ≤ d ∧ (0 ≤ x2 ∧ x2 < 12) ∧ ((¬ bt32 (σ.I 102 1) x2) → 0 ≤ x11 ∧ x11 < 601 ∧ (0 ≤ σ.I 103 x11 ∧ σ.I 103 x11 ≤ 1 → ((σ.I 103 x11) = 0 → ((-1) < 0 → VV E mX0_near (d + 1) 104 [(0, aO 0), (2, aI (x2)), (7, aI (x7)), (9, aL (y9)), (11, aI (x11 + 1))] [] σ Q) ∧ (0 ≤ (-1) → 1 ≤ d ∧ (0 ≤ σ.I 0 70 ∧ σ.I 0 70 < 600) ∧ (inR x11) ∧ (inL ((-1) : Int)) ∧ (∀ σ29 : Sto, SF σ σ29 → (RD σ σ29 (fun c i => if at2 c i 189 (σ.I 0 70) then x11 else if at2 c i 190 (σ.I 0 70) then ((-1) : Int) else if at2 c i 0 70 then σ.I 0 70 + 1 else σ.I c i)) → VV E mX0_near (d + 1) 104 [(0, aO 0), (2, aI (x2)), (7, aI (x7)), (9, aL (y9)), (11, aI (x11 + 1))] [] σ29 Q))) ∧ ((σ.I 103 x11) ≠ 0 → 1 ≤ d ∧ (0 ≤ x11 ∧ x11 < 601) ∧ (OB σ 42 43) ∧ (inR x2) ∧ (inL y9) ∧ (∀ y35 : Int, y35 = (mnP (fun j => σ.I 26 (σ.I 42 x11 + j) = x2) (fun j => sqX (σ.I 30 (σ.I 42 x11 + j)) y9) (σ.I 43 x11)) → inL y35 → (y35 < 0 → VV E mX0_near (d + 1) 104 [(0, aO 0), (2, aI (x2)), (7, aI (x7)), (9, aL (y9)), (11, aI (x11 + 1))] [] σ Q) ∧ (0 ≤ y35 → 1 ≤ d ∧ (0 ≤ σ.I 0 70 ∧ σ.I 0 70 < 600) ∧ (inR x11) ∧ (inL y35) ∧ (∀ σ41 : Sto, SF σ σ41 → (RD σ σ41 (fun c i => if at2 c i 189 (σ.I 0 70) then x11 else if at2 c i 190 (σ.I 0 70) then y35 else if at2 c i 0 70 then σ.I 0 70 + 1 else σ.I c i)) → VV E mX0_near (d + 1) 104 [(0, aO 0), (2, aI (x2)), (7, aI (x7)), (9, aL (y9)), (11, aI (x11 + 1))] [] σ41 Q)))))) ∧ (¬ (¬ bt32 (σ.I 102 1) x2) → 5 ≤ d ∧ (-1 ≤ ((-1) : Int) ∧ ((-1) : Int) < 12) ∧ (0 ≤ (0 : Int) ∧ (0 : Int) ≤ 1) ∧ (0 ≤ (0 : Int) ∧ (0 : Int) ≤ 1) ∧ (0 ≤ σ.I 0 70 ∧ σ.I 0 70 ≤ 600) ∧ (OB σ 42 43) ∧ (∀ i, 0 ≤ i → i < σ.I 0 70 → 0 ≤ σ.I 189 i ∧ σ.I 189 i < 600) ∧ (∀ σ50 : Sto, SF σ σ50 → ((∃ p, PRM (σ.I 0 70) p ∧ RWH σ σ50 ((-1) : Int) (0 : Int) (σ.I 0 70) p ∧ ∀ a b, 0 ≤ a → a < b → b < (σ.I 0 70) → ¬ LX2 σ ((-1) : Int) (0 : Int) (0 : Int) (p b) (p a)) ∧ (KSo σ σ50)) → (inR (σ50.I 0 70) → inR x7 ∧ (∀ σ53 : Sto, σ53 = σ50.wI 0 70 (min (σ50.I 0 70) x7) → SF σ50 σ53 → (inR (σ53.I 0 70) → Q (.inl (some (aI (σ53.I 0 70)))) σ53)))))))) : VV E mX0_near (d + 1) 104 [(0, aO 0), (2, aI (x2)), (7, aI (x7)), (9, aL (y9)), (11, aI (x11))] [] σ Q := by
  refine v_iload 4 DX0_near_104W rfl <| v_aload_n 0 DX0_near_106W rfl rfl <| ?_
  refine w_getI (ci := 0) (kf := 39) (kz := 39) DX0_near_107W (s_0 hL) rfl (by decide) rfl (Or.inl q1079) (fun _ _ => rfl) (fun f1 => ?_)
  have h := h f1
  obtain ⟨k2, h⟩ := h
  refine v_icmp_ge (tg := 181) DX0_near_110W (by decide) k2 f1 (fun c3 => ?_) (fun c3 => ?_)
  · have h := h.1 c3
    refine v_aload_n 0 DX0_near_181W rfl rfl <| v_iconst DX0_near_182W <| v_iconst DX0_near_183W <| v_iconst DX0_near_184W <| ?_
    obtain ⟨k4, h⟩ := h
    obtain ⟨k5, k6, k7, k8, k9, k10, h⟩ := h
    refine v_invV (ci := 0) (as := [aI ((-1)), aI (0), aI (0)]) (st := []) DX0_near_185W rfl okX0_sortHits (Or.inl q1903) q1905 (s_0 hL) rfl qs80 npX0_sortHits (sp_X0_sortHits (σ := σ) (x1 := ((-1) : Int)) (x2 := (0 : Int)) (x3 := (0 : Int)) k4 hL k5 k6 k7 k8 k9 k10) (Nat.le_of_ble_eq_true rfl) (Nat.le_refl _) (Nat.le_of_ble_eq_true rfl) (RV_ret (fun σ11 gσ11 eσ11 => ?_)) RV_thr
    have h := h σ11 gσ11 eσ11
    refine v_aload_n 0 DX0_near_188W rfl rfl <| v_aload_n 0 DX0_near_189W rfl rfl <| ?_
    refine w_getI (ci := 0) (kf := 70) (kz := 70) DX0_near_190W (s_0 (hL.sf gσ11)) rfl (by decide) rfl (Or.inl q1116) (fun _ _ => rfl) (fun f12 => ?_)
    have h := h f12
    refine v_iload 2 DX0_near_193W rfl <| ?_
    obtain ⟨k13, h⟩ := h
    refine v_imin DX0_near_195W q1851 q554 q274 q555 f12 k13 (Nat.le_add_left 1 d) (Nat.le_of_ble_eq_true rfl) <| ?_
    refine w_putI (ci := 0) (kf := 70) (kz := 70) DX0_near_198W (s_0 (hL.sf gσ11)) rfl (by decide) rfl (Or.inl ⟨rfl, q1116⟩) (fun _ _ => rfl) (inR_min f12 k13) rfl rfl (fun σ14 eσ14 gσ14 => ?_)
    have h := h σ14 eσ14 gσ14
    refine v_aload_n 0 DX0_near_201W rfl rfl <| ?_
    refine w_getI (ci := 0) (kf := 70) (kz := 70) DX0_near_202W (s_0 ((hL.sf gσ11).sf gσ14)) rfl (by decide) rfl (Or.inl q1116) (fun _ _ => rfl) (fun f15 => ?_)
    have h := h f15
    exact v_iret DX0_near_205W rfl rfl h
  · have h := h.2 c3
    refine v_aload_n 0 DX0_near_113W rfl rfl <| w_getR (ci := 0) (kf := 60) (kz := 60) DX0_near_114W (s_0 hL) rfl (by decide) rfl (Or.inl q1106) (fun _ _ => rfl) (r_0_60 hL) <| w_getR (ci := 5) (kf := 1) (kz := 1) DX0_near_117W (s_87 hL) rfl (by decide) rfl (Or.inr ⟨_, q888⟩) (fun _ _ => rfl) (r_87_1 hL) <| v_iload_n 1 DX0_near_120W rfl rfl <| ?_
    obtain ⟨k16, h⟩ := h
    obtain ⟨k17, h⟩ := h
    refine v_invV (ci := 6) (as := [aI (x2)]) (st := []) DX0_near_121W rfl okX6_shows (Or.inl q1907) q1764 (s_102 hL) rfl q1765 npX6_shows (sp_X6_shows (σ := σ) (o0 := 102) (x1 := x2) k16 hL (lat_102 hL) k17) (Nat.le_of_ble_eq_true rfl) (Nat.le_refl _) (Nat.le_of_ble_eq_true rfl) (RZ_ret (fun c18 => ?_) (fun c18 => ?_)) RZ_thr
    · have h := h.1 c18
      refine v_if_eq (tg := 181) DX0_near_124W (by decide) ⟨by decide, by decide⟩ (fun c19 => absurd c19 (by decide)) (fun c19 => ?_)
      refine v_aload_n 0 DX0_near_127W rfl rfl <| w_getR (ci := 0) (kf := 60) (kz := 60) DX0_near_128W (s_0 hL) rfl (by decide) rfl (Or.inl q1106) (fun _ _ => rfl) (r_0_60 hL) <| w_getR (ci := 5) (kf := 1) (kz := 1) DX0_near_131W (s_87 hL) rfl (by decide) rfl (Or.inr ⟨_, q888⟩) (fun _ _ => rfl) (r_87_1 hL) <| w_getR (ci := 6) (kf := 0) (kz := 0) DX0_near_134W (s_102 hL) rfl (by decide) rfl (Or.inr ⟨_, q844⟩) (fun _ _ => rfl) (r_102_0 hL) <| v_iload 4 DX0_near_137W rfl <| ?_
      obtain ⟨k20, k21, h⟩ := h
      refine v_zald DX0_near_139W (s_103 hL) k20 k21 (fun f22 => ?_)
      have h := h f22
      refine v_if_eq (tg := 155) DX0_near_140W (by decide) (inR_z f22) (fun c23 => ?_) (fun c23 => ?_)
      · have h := h.1 c23
        refine v_ldc2 (x := (-1)) DX0_near_155W q1898 rfl <| v_lstore DX0_near_158W (by decide) rfl <| v_lload 0 DX0_near_160W rfl <| v_lconst DX0_near_162W <| ?_
        refine v_lc_lt (tg := 175) DX0_near_163W DX0_near_164W (by decide) ⟨by decide, by decide⟩ ⟨by decide, by decide⟩ (fun c24 => ?_) (fun c24 => ?_)
        · have h := h.1 c24
          refine v_iinc 5 DX0_near_175W rfl (by decide) rfl <| v_goto (pc' := 104) DX0_near_178W.1 (by decide) <| ?_
          exact v_pick [2, 3, 4, 5, 0] rfl h
        · have h := h.2 c24
          refine v_aload_n 1 DX0_near_167W rfl rfl <| v_iload 5 DX0_near_168W rfl <| v_lload 0 DX0_near_170W rfl <| ?_
          obtain ⟨k25, h⟩ := h
          obtain ⟨k26, k27, k28, h⟩ := h
          refine v_invV (ci := 0) (as := [aI (x11), aL ((-1))]) (st := []) DX0_near_172W rfl okX0_addHit (Or.inl q1899) q1901 (s_0 hL) rfl qs79 npX0_addHit (sp_X0_addHit (σ := σ) (x1 := x11) (y2 := ((-1) : Int)) k25 hL k26 k27 k28) (Nat.le_of_ble_eq_true rfl) (Nat.le_refl _) (Nat.le_of_ble_eq_true rfl) (RV_ret (fun σ29 gσ29 eσ29 => ?_)) RV_thr
          have h := h σ29 gσ29 eσ29
          refine v_iinc 5 DX0_near_175W rfl (by decide) rfl <| v_goto (pc' := 104) DX0_near_178W.1 (by decide) <| ?_
          exact v_pick [2, 3, 4, 5, 0] rfl h
      · have h := h.2 c23
        refine v_aload_n 0 DX0_near_143W rfl rfl <| v_iload 4 DX0_near_144W rfl <| v_iload_n 1 DX0_near_146W rfl rfl <| v_lload 3 DX0_near_147W rfl <| ?_
        obtain ⟨k30, h⟩ := h
        obtain ⟨k31, k32, k33, k34, h⟩ := h
        refine v_invV (ci := 0) (as := [aI (x11), aI (x2), aL (y9)]) (st := []) DX0_near_149W rfl okX0_leastDistance (Or.inl q2063) q2065 (s_0 hL) rfl qs98 npX0_leastDistance (sp_X0_leastDistance (σ := σ) (x1 := x11) (x2 := x2) (y3 := y9) k30 hL k31 k32 k33 k34) (Nat.le_of_ble_eq_true rfl) (Nat.le_refl _) (Nat.le_of_ble_eq_true rfl) (RL_ret (fun y35 y35e y35f => ?_)) RL_thr
        have h := h y35 y35e y35f
        refine v_goto (pc' := 158) DX0_near_152W.1 (by decide) <| v_lstore DX0_near_158W (by decide) rfl <| v_lload 0 DX0_near_160W rfl <| v_lconst DX0_near_162W <| ?_
        refine v_lc_lt (tg := 175) DX0_near_163W DX0_near_164W (by decide) y35f ⟨by decide, by decide⟩ (fun c36 => ?_) (fun c36 => ?_)
        · have h := h.1 c36
          refine v_iinc 5 DX0_near_175W rfl (by decide) rfl <| v_goto (pc' := 104) DX0_near_178W.1 (by decide) <| ?_
          exact v_pick [2, 3, 4, 5, 0] rfl h
        · have h := h.2 c36
          refine v_aload_n 1 DX0_near_167W rfl rfl <| v_iload 5 DX0_near_168W rfl <| v_lload 0 DX0_near_170W rfl <| ?_
          obtain ⟨k37, h⟩ := h
          obtain ⟨k38, k39, k40, h⟩ := h
          refine v_invV (ci := 0) (as := [aI (x11), aL (y35)]) (st := []) DX0_near_172W rfl okX0_addHit (Or.inl q1899) q1901 (s_0 hL) rfl qs79 npX0_addHit (sp_X0_addHit (σ := σ) (x1 := x11) (y2 := y35) k37 hL k38 k39 k40) (Nat.le_of_ble_eq_true rfl) (Nat.le_refl _) (Nat.le_of_ble_eq_true rfl) (RV_ret (fun σ41 gσ41 eσ41 => ?_)) RV_thr
          have h := h σ41 gσ41 eσ41
          refine v_iinc 5 DX0_near_175W rfl (by decide) rfl <| v_goto (pc' := 104) DX0_near_178W.1 (by decide) <| ?_
          exact v_pick [2, 3, 4, 5, 0] rfl h
    · have h := h.2 c18
      refine v_if_eq (tg := 181) DX0_near_124W (by decide) ⟨by decide, by decide⟩ (fun c42 => ?_) (fun c42 => absurd c42 (by decide))
      refine v_aload_n 0 DX0_near_181W rfl rfl <| v_iconst DX0_near_182W <| v_iconst DX0_near_183W <| v_iconst DX0_near_184W <| ?_
      obtain ⟨k43, h⟩ := h
      obtain ⟨k44, k45, k46, k47, k48, k49, h⟩ := h
      refine v_invV (ci := 0) (as := [aI ((-1)), aI (0), aI (0)]) (st := []) DX0_near_185W rfl okX0_sortHits (Or.inl q1903) q1905 (s_0 hL) rfl qs80 npX0_sortHits (sp_X0_sortHits (σ := σ) (x1 := ((-1) : Int)) (x2 := (0 : Int)) (x3 := (0 : Int)) k43 hL k44 k45 k46 k47 k48 k49) (Nat.le_of_ble_eq_true rfl) (Nat.le_refl _) (Nat.le_of_ble_eq_true rfl) (RV_ret (fun σ50 gσ50 eσ50 => ?_)) RV_thr
      have h := h σ50 gσ50 eσ50
      refine v_aload_n 0 DX0_near_188W rfl rfl <| v_aload_n 0 DX0_near_189W rfl rfl <| ?_
      refine w_getI (ci := 0) (kf := 70) (kz := 70) DX0_near_190W (s_0 (hL.sf gσ50)) rfl (by decide) rfl (Or.inl q1116) (fun _ _ => rfl) (fun f51 => ?_)
      have h := h f51
      refine v_iload 2 DX0_near_193W rfl <| ?_
      obtain ⟨k52, h⟩ := h
      refine v_imin DX0_near_195W q1851 q554 q274 q555 f51 k52 (Nat.le_add_left 1 d) (Nat.le_of_ble_eq_true rfl) <| ?_
      refine w_putI (ci := 0) (kf := 70) (kz := 70) DX0_near_198W (s_0 (hL.sf gσ50)) rfl (by decide) rfl (Or.inl ⟨rfl, q1116⟩) (fun _ _ => rfl) (inR_min f51 k52) rfl rfl (fun σ53 eσ53 gσ53 => ?_)
      have h := h σ53 eσ53 gσ53
      refine v_aload_n 0 DX0_near_201W rfl rfl <| ?_
      refine w_getI (ci := 0) (kf := 70) (kz := 70) DX0_near_202W (s_0 ((hL.sf gσ50).sf gσ53)) rfl (by decide) rfl (Or.inl q1116) (fun _ _ => rfl) (fun f54 => ?_)
      have h := h f54
      exact v_iret DX0_near_205W rfl rfl h
theorem sp_X0_nearW {E : XE} {d : Nat} {σ : Sto} {K : Int} {V : Int} {x1 : Int} {x2 : Int} {x3 : Int} {x4 : Int} {x5 : Int} {x6 : Int} {x7 : Int} (hd : 528 ≤ d) (hL : Lay σ)  (p0 : inR x1) (p1 : 0 ≤ σ.I 0 46 ∧ σ.I 0 46 < 4) (p2 : BSX σ K V) (p3 : 0 < σ.I 0 46 → σ.I (ubX σ) 1 ≠ 0 → QLX σ (ubX σ)) (p4 : PBD σ 155) (p5 : inR x2 ∧ inR x3) (p6 : inR x4 ∧ inR x5) (p7 : (1 ≤ σ.I 0 96 ∧ σ.I 0 96 ≤ 8) ∧ (1 ≤ σ.I 0 95 ∧ σ.I 0 95 ≤ 8)) (p8 : bd_0_1000000 σ 211 8) (p9 : inR (if x1 = -1 then σ.I 0 40 else if 0 ≤ x1 ∧ x1 ≤ 3 then σ.I 48 x1 else -1)) (p10 : inR x6 ∧ inR x7) : CC E mX0_near d [aO 0, aI (x1), aI (x2), aI (x3), aI (x4), aI (x5), aI (x6), aI (x7)] σ (RVI (fun y τ => ((¬ (0 ≤ (if x1 = -1 then σ.I 0 40 else if 0 ≤ x1 ∧ x1 ≤ 3 then σ.I 48 x1 else -1) ∧ ((0 ≤ x2 ∧ x2 < σ.I 0 9) ∧ σ.I 16 x2 = 4) ∧ ((-1000 ≤ x3 ∧ x3 ≤ 1000) ∧ (-1000 ≤ x4 ∧ x4 ≤ 1000) ∧ (-1000 ≤ x5 ∧ x5 ≤ 1000) ∧ (-1000 ≤ x6 ∧ x6 ≤ 1000)) ∧ (1 ≤ x7 ∧ x7 ≤ 50)) ∧ y = -1 ∧ RD σ τ (fun c i => if fgX c i then 0 else σ.I c i)) ∨ ((0 ≤ (if x1 = -1 then σ.I 0 40 else if 0 ≤ x1 ∧ x1 ≤ 3 then σ.I 48 x1 else -1) ∧ ((0 ≤ x2 ∧ x2 < σ.I 0 9) ∧ σ.I 16 x2 = 4) ∧ ((-1000 ≤ x3 ∧ x3 ≤ 1000) ∧ (-1000 ≤ x4 ∧ x4 ≤ 1000) ∧ (-1000 ≤ x5 ∧ x5 ≤ 1000) ∧ (-1000 ≤ x6 ∧ x6 ≤ 1000)) ∧ (1 ≤ x7 ∧ x7 ≤ 50)) ∧ ¬ alN (fun s => 0 ≤ nOf (σ.I 210) (σ.I 0 96) s) (σ.I 0 95) ∧ y = -4 ∧ RD σ τ (fun c i => if fgX c i then 0 else σ.I c i)) ∨ ((0 ≤ (if x1 = -1 then σ.I 0 40 else if 0 ≤ x1 ∧ x1 ≤ 3 then σ.I 48 x1 else -1) ∧ ((0 ≤ x2 ∧ x2 < σ.I 0 9) ∧ σ.I 16 x2 = 4) ∧ ((-1000 ≤ x3 ∧ x3 ≤ 1000) ∧ (-1000 ≤ x4 ∧ x4 ≤ 1000) ∧ (-1000 ≤ x5 ∧ x5 ≤ 1000) ∧ (-1000 ≤ x6 ∧ x6 ≤ 1000)) ∧ (1 ≤ x7 ∧ x7 ≤ 50)) ∧ alN (fun s => 0 ≤ nOf (σ.I 210) (σ.I 0 96) s) (σ.I 0 95) ∧ y = τ.I 0 70 ∧ NXR σ τ K V (if x1 = -1 then σ.I 0 40 else if 0 ≤ x1 ∧ x1 ≤ 3 then σ.I 48 x1 else -1) x2 (pk4 x3 x4 x5 x6) x7)) ∧ (PBD τ 155) ∧ (KXs σ τ))) := by
  obtain ⟨d, rfl⟩ : ∃ e, d = e + 1 := ⟨d - 1, by omega⟩
  have p0a := p0.1; have p0b := p0.2
  have p5a := p5.1; have p5b := p5.2
  have p6a := p6.1; have p6b := p6.2
  have p9a := p9.1; have p9b := p9.2
  have p10a := p10.1; have p10b := p10.2
  have hnx := p2.2.1
  have hfc := p2.1.1
  have key : ∀ wa wb wc : Nat, (∀ (y9 : Int) (x11 : Int) (τ : Sto), SF σ τ → ((KXs σ τ) ∧ (0 ≤ x11 ∧ x11 ≤ (σ.I 0 39)) ∧ (NX7 σ τ K V (if x1 = -1 then σ.I 0 40 else if 0 ≤ x1 ∧ x1 ≤ 3 then σ.I 48 x1 else -1) x2 (pk4 x3 x4 x5 x6) x11) ∧ ((0 ≤ (if x1 = -1 then σ.I 0 40 else if 0 ≤ x1 ∧ x1 ≤ 3 then σ.I 48 x1 else -1) ∧ ((0 ≤ x2 ∧ x2 < σ.I 0 9) ∧ σ.I 16 x2 = 4) ∧ ((-1000 ≤ x3 ∧ x3 ≤ 1000) ∧ (-1000 ≤ x4 ∧ x4 ≤ 1000) ∧ (-1000 ≤ x5 ∧ x5 ≤ 1000) ∧ (-1000 ≤ x6 ∧ x6 ≤ 1000)) ∧ (1 ≤ x7 ∧ x7 ≤ 50)) ∧ alN (fun s => 0 ≤ nOf (σ.I 210) (σ.I 0 96) s) (σ.I 0 95)) ∧ (τ.I 0 39 = (σ.I 0 39)) ∧ (OB τ 42 43) ∧ (PBD τ 155) ∧ (y9 = (pk4 x3 x4 x5 x6))) → wa = (601 - x11).toNat → wb = 0 → wc = 0 → VV E mX0_near (d + 1) 104 [(0, aO 0), (2, aI (x2)), (7, aI (x7)), (9, aL (y9)), (11, aI (x11))] [] τ (RVI (fun y τ => ((¬ (0 ≤ (if x1 = -1 then σ.I 0 40 else if 0 ≤ x1 ∧ x1 ≤ 3 then σ.I 48 x1 else -1) ∧ ((0 ≤ x2 ∧ x2 < σ.I 0 9) ∧ σ.I 16 x2 = 4) ∧ ((-1000 ≤ x3 ∧ x3 ≤ 1000) ∧ (-1000 ≤ x4 ∧ x4 ≤ 1000) ∧ (-1000 ≤ x5 ∧ x5 ≤ 1000) ∧ (-1000 ≤ x6 ∧ x6 ≤ 1000)) ∧ (1 ≤ x7 ∧ x7 ≤ 50)) ∧ y = -1 ∧ RD σ τ (fun c i => if fgX c i then 0 else σ.I c i)) ∨ ((0 ≤ (if x1 = -1 then σ.I 0 40 else if 0 ≤ x1 ∧ x1 ≤ 3 then σ.I 48 x1 else -1) ∧ ((0 ≤ x2 ∧ x2 < σ.I 0 9) ∧ σ.I 16 x2 = 4) ∧ ((-1000 ≤ x3 ∧ x3 ≤ 1000) ∧ (-1000 ≤ x4 ∧ x4 ≤ 1000) ∧ (-1000 ≤ x5 ∧ x5 ≤ 1000) ∧ (-1000 ≤ x6 ∧ x6 ≤ 1000)) ∧ (1 ≤ x7 ∧ x7 ≤ 50)) ∧ ¬ alN (fun s => 0 ≤ nOf (σ.I 210) (σ.I 0 96) s) (σ.I 0 95) ∧ y = -4 ∧ RD σ τ (fun c i => if fgX c i then 0 else σ.I c i)) ∨ ((0 ≤ (if x1 = -1 then σ.I 0 40 else if 0 ≤ x1 ∧ x1 ≤ 3 then σ.I 48 x1 else -1) ∧ ((0 ≤ x2 ∧ x2 < σ.I 0 9) ∧ σ.I 16 x2 = 4) ∧ ((-1000 ≤ x3 ∧ x3 ≤ 1000) ∧ (-1000 ≤ x4 ∧ x4 ≤ 1000) ∧ (-1000 ≤ x5 ∧ x5 ≤ 1000) ∧ (-1000 ≤ x6 ∧ x6 ≤ 1000)) ∧ (1 ≤ x7 ∧ x7 ≤ 50)) ∧ alN (fun s => 0 ≤ nOf (σ.I 210) (σ.I 0 96) s) (σ.I 0 95) ∧ y = τ.I 0 70 ∧ NXR σ τ K V (if x1 = -1 then σ.I 0 40 else if 0 ≤ x1 ∧ x1 ≤ 3 then σ.I 48 x1 else -1) x2 (pk4 x3 x4 x5 x6) x7)) ∧ (PBD τ 155) ∧ (KXs σ τ)))) := by
    refine lex3 (fun wa wb wc ih => ?_)
    have ih0 : ∀ (y9 : Int) (x11 : Int) (τ : Sto), SF σ τ → ((KXs σ τ) ∧ (0 ≤ x11 ∧ x11 ≤ (σ.I 0 39)) ∧ (NX7 σ τ K V (if x1 = -1 then σ.I 0 40 else if 0 ≤ x1 ∧ x1 ≤ 3 then σ.I 48 x1 else -1) x2 (pk4 x3 x4 x5 x6) x11) ∧ ((0 ≤ (if x1 = -1 then σ.I 0 40 else if 0 ≤ x1 ∧ x1 ≤ 3 then σ.I 48 x1 else -1) ∧ ((0 ≤ x2 ∧ x2 < σ.I 0 9) ∧ σ.I 16 x2 = 4) ∧ ((-1000 ≤ x3 ∧ x3 ≤ 1000) ∧ (-1000 ≤ x4 ∧ x4 ≤ 1000) ∧ (-1000 ≤ x5 ∧ x5 ≤ 1000) ∧ (-1000 ≤ x6 ∧ x6 ≤ 1000)) ∧ (1 ≤ x7 ∧ x7 ≤ 50)) ∧ alN (fun s => 0 ≤ nOf (σ.I 210) (σ.I 0 96) s) (σ.I 0 95)) ∧ (τ.I 0 39 = (σ.I 0 39)) ∧ (OB τ 42 43) ∧ (PBD τ 155) ∧ (y9 = (pk4 x3 x4 x5 x6))) → lt3 ((601 - x11).toNat) 0 0 wa wb wc → VV E mX0_near (d + 1) 104 [(0, aO 0), (2, aI (x2)), (7, aI (x7)), (9, aL (y9)), (11, aI (x11))] [] τ (RVI (fun y τ => ((¬ (0 ≤ (if x1 = -1 then σ.I 0 40 else if 0 ≤ x1 ∧ x1 ≤ 3 then σ.I 48 x1 else -1) ∧ ((0 ≤ x2 ∧ x2 < σ.I 0 9) ∧ σ.I 16 x2 = 4) ∧ ((-1000 ≤ x3 ∧ x3 ≤ 1000) ∧ (-1000 ≤ x4 ∧ x4 ≤ 1000) ∧ (-1000 ≤ x5 ∧ x5 ≤ 1000) ∧ (-1000 ≤ x6 ∧ x6 ≤ 1000)) ∧ (1 ≤ x7 ∧ x7 ≤ 50)) ∧ y = -1 ∧ RD σ τ (fun c i => if fgX c i then 0 else σ.I c i)) ∨ ((0 ≤ (if x1 = -1 then σ.I 0 40 else if 0 ≤ x1 ∧ x1 ≤ 3 then σ.I 48 x1 else -1) ∧ ((0 ≤ x2 ∧ x2 < σ.I 0 9) ∧ σ.I 16 x2 = 4) ∧ ((-1000 ≤ x3 ∧ x3 ≤ 1000) ∧ (-1000 ≤ x4 ∧ x4 ≤ 1000) ∧ (-1000 ≤ x5 ∧ x5 ≤ 1000) ∧ (-1000 ≤ x6 ∧ x6 ≤ 1000)) ∧ (1 ≤ x7 ∧ x7 ≤ 50)) ∧ ¬ alN (fun s => 0 ≤ nOf (σ.I 210) (σ.I 0 96) s) (σ.I 0 95) ∧ y = -4 ∧ RD σ τ (fun c i => if fgX c i then 0 else σ.I c i)) ∨ ((0 ≤ (if x1 = -1 then σ.I 0 40 else if 0 ≤ x1 ∧ x1 ≤ 3 then σ.I 48 x1 else -1) ∧ ((0 ≤ x2 ∧ x2 < σ.I 0 9) ∧ σ.I 16 x2 = 4) ∧ ((-1000 ≤ x3 ∧ x3 ≤ 1000) ∧ (-1000 ≤ x4 ∧ x4 ≤ 1000) ∧ (-1000 ≤ x5 ∧ x5 ≤ 1000) ∧ (-1000 ≤ x6 ∧ x6 ≤ 1000)) ∧ (1 ≤ x7 ∧ x7 ≤ 50)) ∧ alN (fun s => 0 ≤ nOf (σ.I 210) (σ.I 0 96) s) (σ.I 0 95) ∧ y = τ.I 0 70 ∧ NXR σ τ K V (if x1 = -1 then σ.I 0 40 else if 0 ≤ x1 ∧ x1 ≤ 3 then σ.I 48 x1 else -1) x2 (pk4 x3 x4 x5 x6) x7)) ∧ (PBD τ 155) ∧ (KXs σ τ))) := fun z0 z1 z2 h0 h1 hlt => (ih _ _ _ hlt) z0 z1 z2 h0 h1 rfl rfl rfl
    clear ih
    skip
    · rintro y9 x11 τ gτ ⟨i0, i1, i2, i3, i4, i5, i6, i7⟩ ha hb hc
      subst ha hb hc
      obtain ⟨hb1, hb2⟩ := NX7_b i2 i1.1
      have h103 := hdI (fun (h : x11 < (σ.I 0 39)) => NX7_s i2 i1.1 h)
      have hob := i5 x11 i1.1 (by omega)
      have hmi := mnP_in (fun j => τ.I 26 (τ.I 42 x11 + j) = x2) (fun j => sqX (τ.I 30 (τ.I 42 x11 + j)) y9) 17179344900 (τ.I 43 x11) (fun k _ _ _ => sqX_in _ _)
      have hok := i3.1
      have hpk := pk4_in x3 x4 x5 x6
      have hb2 := hdI hb2
      refine ucX0_near_104W (K := K) (V := V) (hL.sf gτ)  ?_
      rintro ⟨f1, f1q⟩
      refine ⟨?_, ?_⟩
      · (first | exact ⟨by omega, by omega⟩ | assumption)
      refine ⟨fun c2 => ?_, fun c3 => ?_⟩
      · refine ⟨?_, ?_⟩
        · omega
        refine ⟨?_, ?_⟩
        · (first | omega | exact ⟨by omega, by omega⟩ | assumption)
        refine ⟨?_, ?_⟩
        · (first | omega | exact ⟨by omega, by omega⟩ | assumption)
        refine ⟨?_, ?_⟩
        · (first | omega | exact ⟨by omega, by omega⟩ | assumption)
        refine ⟨?_, ?_⟩
        · (first | omega | exact ⟨by omega, by omega⟩ | assumption)
        refine ⟨?_, ?_⟩
        · (clear ih0; first | exact i5 | exact hO41 | (exfalso; omega))
        refine ⟨?_, ?_⟩
        · (clear ih0; (intro i a b; have z := (hdO hb2) i a b; omega))
        rintro σ11 gσ11 ⟨eσ11_0, eσ11_1⟩
        have kσ11 : KXs τ σ11 := KXs_of_KSo eσ11_1
        have kσ11r := eσ11_1.1.1
        have hf11 : NX7 σ τ K V (if x1 = -1 then σ.I 0 40 else if 0 ≤ x1 ∧ x1 ≤ 3 then σ.I 48 x1 else -1) x2 (pk4 x3 x4 x5 x6) (σ.I 0 39) := (by rw [show (σ.I 0 39) = x11 by omega]; exact i2)
        have k11 : ∀ c i, ¬ wsSo c i → σ11.I c i = τ.I c i := eσ11_1.2
        rintro ⟨f4, f4q⟩
        refine ⟨?_, ?_⟩
        · (first | exact ⟨by omega, by omega⟩ | assumption)
        intro σ14 eσ14 gσ14
        have kσ14 : KXs σ11 σ14 := KXs_w eσ14 (by unfold wsXs; omega)
        have hX : NXR σ σ14 K V (if x1 = -1 then σ.I 0 40 else if 0 ≤ x1 ∧ x1 ≤ 3 then σ.I 48 x1 else -1) x2 (pk4 x3 x4 x5 x6) x7 := ⟨τ, σ11, hf11, eσ11_0, eσ11_1, eσ14⟩
        have hPe : PBD σ14 155 := PBD_e i6 (fun c i q => by rw [eσ14, I_ne _ _ _ _ (by omega)]; exact k11 c i (by unfold wsSo; omega))
        rintro ⟨f5, f5q⟩
        refine RVI_mk ?_ ?_
        · (first | exact ⟨by omega, by omega⟩ | assumption)
        · refine ⟨?_, ?_, ?_⟩
          · (clear ih0; exact Or.inr (Or.inr ⟨i3.1, i3.2, rfl, hX⟩))
          · (clear ih0; first | exact hPe | exact hP41 | exact i6 | (exfalso; omega))
          · exact (Ch.tr (Ch.tr i0 kσ11) kσ14)
      · refine ⟨?_, ?_⟩
        · omega
        refine ⟨?_, ?_⟩
        · (first | omega | exact ⟨by omega, by omega⟩ | assumption)
        refine ⟨fun c6 => ?_, fun c7 => ?_⟩
        · refine ⟨?_, ?_⟩
          · (first | omega | exact ⟨by omega, by omega⟩ | assumption)
          refine ⟨?_, ?_⟩
          · (first | omega | exact ⟨by omega, by omega⟩ | assumption)
          rintro ⟨f8, f8q⟩
          refine ⟨fun c9 => ?_, fun c10 => ?_⟩
          · refine ⟨fun c11 => ?_, fun c12 => ?_⟩
            · refine ih0 _ _ _ gτ ⟨?_, ?_, ?_, ?_, ?_, ?_, ?_, ?_⟩ ?_
              · exact i0
              · (first | omega | exact ⟨by omega, by omega⟩ | assumption)
              · (clear ih0; first | exact hN | exact NX7_n i2 i1.1 (fun z => by have z1 := z.1; omega) | exact NX7_n i2 i1.1 (fun z => by have z1 := z.2.2; unfold ndX at z1; rw [← i7, ← y35e] at z1; omega) | (exfalso; omega))
              · (clear ih0; exact i3)
              · (clear ih0; first | exact i4 | exact (k41 _ _ (by decide) (by decide) (by omega)).trans i4 | (exfalso; omega))
              · (clear ih0; first | exact i5 | exact hO41 | (exfalso; omega))
              · (clear ih0; first | exact hPe | exact hP41 | exact i6 | (exfalso; omega))
              · (first | omega | exact ⟨by omega, by omega⟩ | assumption)
              · (unfold lt3; omega)
            · refine ⟨?_, ?_⟩
              · omega
              refine ⟨?_, ?_⟩
              · (first | omega | exact ⟨by omega, by omega⟩ | assumption)
              refine ⟨?_, ?_⟩
              · (first | omega | exact ⟨by omega, by omega⟩ | assumption)
              refine ⟨?_, ?_⟩
              · (clear ih0; first | (rw [i7]; exact hpk) | exact ⟨by omega, by omega⟩)
              rintro σ29 gσ29 ⟨⟨eσ29r, eσ29s, eσ29n⟩, eσ29⟩
              have kσ29 : KXs τ σ29 := (by exfalso; omega)
              refine ih0 _ _ _ (gτ.tr gσ29) ⟨?_, ?_, ?_, ?_, ?_, ?_, ?_, ?_⟩ ?_
              · exact (Ch.tr i0 kσ29)
              · (first | omega | exact ⟨by omega, by omega⟩ | assumption)
              · (clear ih0; first | exact hN | exact NX7_n i2 i1.1 (fun z => by have z1 := z.1; omega) | exact NX7_n i2 i1.1 (fun z => by have z1 := z.2.2; unfold ndX at z1; rw [← i7, ← y35e] at z1; omega) | (exfalso; omega))
              · (clear ih0; exact i3)
              · (clear ih0; first | exact i4 | exact (k41 _ _ (by decide) (by decide) (by omega)).trans i4 | (exfalso; omega))
              · (clear ih0; first | exact i5 | exact hO41 | (exfalso; omega))
              · (clear ih0; first | exact hPe | exact hP41 | exact i6 | (exfalso; omega))
              · (first | omega | exact ⟨by omega, by omega⟩ | assumption)
              · (unfold lt3; omega)
          · refine ⟨?_, ?_⟩
            · omega
            refine ⟨?_, ?_⟩
            · (first | omega | exact ⟨by omega, by omega⟩ | assumption)
            refine ⟨?_, ?_⟩
            · (clear ih0; first | exact i5 | exact hO41 | (exfalso; omega))
            refine ⟨?_, ?_⟩
            · (first | omega | exact ⟨by omega, by omega⟩ | assumption)
            refine ⟨?_, ?_⟩
            · (clear ih0; first | (rw [i7]; exact hpk) | exact ⟨by omega, by omega⟩)
            rintro y35 y35e ⟨y35f, y35fq⟩
            refine ⟨fun c13 => ?_, fun c14 => ?_⟩
            · refine ih0 _ _ _ gτ ⟨?_, ?_, ?_, ?_, ?_, ?_, ?_, ?_⟩ ?_
              · exact i0
              · (first | omega | exact ⟨by omega, by omega⟩ | assumption)
              · (clear ih0; first | exact hN | exact NX7_n i2 i1.1 (fun z => by have z1 := z.1; omega) | exact NX7_n i2 i1.1 (fun z => by have z1 := z.2.2; unfold ndX at z1; rw [← i7, ← y35e] at z1; omega) | (exfalso; omega))
              · (clear ih0; exact i3)
              · (clear ih0; first | exact i4 | exact (k41 _ _ (by decide) (by decide) (by omega)).trans i4 | (exfalso; omega))
              · (clear ih0; first | exact i5 | exact hO41 | (exfalso; omega))
              · (clear ih0; first | exact hPe | exact hP41 | exact i6 | (exfalso; omega))
              · (first | omega | exact ⟨by omega, by omega⟩ | assumption)
              · (unfold lt3; omega)
            · refine ⟨?_, ?_⟩
              · omega
              refine ⟨?_, ?_⟩
              · (first | omega | exact ⟨by omega, by omega⟩ | assumption)
              refine ⟨?_, ?_⟩
              · (first | omega | exact ⟨by omega, by omega⟩ | assumption)
              refine ⟨?_, ?_⟩
              · (clear ih0; first | (rw [i7]; exact hpk) | exact ⟨by omega, by omega⟩)
              rintro σ41 gσ41 ⟨⟨eσ41r, eσ41s, eσ41n⟩, eσ41⟩
              have k41 : ∀ c i, c ≠ 189 → c ≠ 190 → ¬ (c = 0 ∧ i = 70) → σ41.I c i = τ.I c i := fun c i a b d => (by rw [eσ41]; show (if at2 c i _ _ then _ else if at2 c i _ _ then _ else if at2 c i _ _ then _ else _) = _; rw [if_neg (fun z => a z.1), if_neg (fun z => b z.1), if_neg (fun z => d z)])
              have kσ41 : KXs τ σ41 := ⟨⟨eσ41r, eσ41s, eσ41n⟩, fun c i q => k41 c i (fun z => q (by unfold wsXs; omega)) (fun z => q (by unfold wsXs; omega)) (fun z => q (by unfold wsXs fgX; omega))⟩
              have a41 : SAG τ σ41 87 := fun c i q => k41 c i (by omega) (by omega) (by omega)
              have hy : y35 = ndX τ x2 (pk4 x3 x4 x5 x6) x11 := (by rw [y35e, i7]; rfl)
              have hN : NX7 σ σ41 K V (if x1 = -1 then σ.I 0 40 else if 0 ≤ x1 ∧ x1 ≤ 3 then σ.I 48 x1 else -1) x2 (pk4 x3 x4 x5 x6) (x11 + 1) := NX7_y i2 i1.1 ⟨by have z := (hdO h103) (by omega); omega, by assumption, by omega⟩ hy a41 eσ41
              have hO41 : OB σ41 42 43 := (by unfold OB; rw [show σ41.I 42 = τ.I 42 from funext fun i => k41 _ _ (by decide) (by decide) (by omega), show σ41.I 43 = τ.I 43 from funext fun i => k41 _ _ (by decide) (by decide) (by omega)]; exact i5)
              have hP41 : PBD σ41 155 := PBD_e i6 (fun c i q => k41 c i (by omega) (by omega) (by omega))
              refine ih0 _ _ _ (gτ.tr gσ41) ⟨?_, ?_, ?_, ?_, ?_, ?_, ?_, ?_⟩ ?_
              · exact (Ch.tr i0 kσ41)
              · (first | omega | exact ⟨by omega, by omega⟩ | assumption)
              · (clear ih0; first | exact hN | exact NX7_n i2 i1.1 (fun z => by have z1 := z.1; omega) | exact NX7_n i2 i1.1 (fun z => by have z1 := z.2.2; unfold ndX at z1; rw [← i7, ← y35e] at z1; omega) | (exfalso; omega))
              · (clear ih0; exact i3)
              · (clear ih0; first | exact i4 | exact (k41 _ _ (by decide) (by decide) (by omega)).trans i4 | (exfalso; omega))
              · (clear ih0; first | exact i5 | exact hO41 | (exfalso; omega))
              · (clear ih0; first | exact hPe | exact hP41 | exact i6 | (exfalso; omega))
              · (first | omega | exact ⟨by omega, by omega⟩ | assumption)
              · (unfold lt3; omega)
        · refine ⟨?_, ?_⟩
          · omega
          refine ⟨?_, ?_⟩
          · (first | omega | exact ⟨by omega, by omega⟩ | assumption)
          refine ⟨?_, ?_⟩
          · (first | omega | exact ⟨by omega, by omega⟩ | assumption)
          refine ⟨?_, ?_⟩
          · (first | omega | exact ⟨by omega, by omega⟩ | assumption)
          refine ⟨?_, ?_⟩
          · (first | omega | exact ⟨by omega, by omega⟩ | assumption)
          refine ⟨?_, ?_⟩
          · (clear ih0; first | exact i5 | exact hO41 | (exfalso; omega))
          refine ⟨?_, ?_⟩
          · (clear ih0; (intro i a b; have z := (hdO hb2) i a b; omega))
          rintro σ50 gσ50 ⟨eσ50_0, eσ50_1⟩
          have kσ50 : KXs τ σ50 := KXs_of_KSo eσ50_1
          have kσ50r := eσ50_1.1.1
          have hf50 : NX7 σ τ K V (if x1 = -1 then σ.I 0 40 else if 0 ≤ x1 ∧ x1 ≤ 3 then σ.I 48 x1 else -1) x2 (pk4 x3 x4 x5 x6) (σ.I 0 39) := NX7_k i2 i1.1 (by omega) (Classical.byContradiction (fun z => by contradiction))
          have k50 : ∀ c i, ¬ wsSo c i → σ50.I c i = τ.I c i := eσ50_1.2
          rintro ⟨f15, f15q⟩
          refine ⟨?_, ?_⟩
          · (first | exact ⟨by omega, by omega⟩ | assumption)
          intro σ53 eσ53 gσ53
          have kσ53 : KXs σ50 σ53 := KXs_w eσ53 (by unfold wsXs; omega)
          have hX : NXR σ σ53 K V (if x1 = -1 then σ.I 0 40 else if 0 ≤ x1 ∧ x1 ≤ 3 then σ.I 48 x1 else -1) x2 (pk4 x3 x4 x5 x6) x7 := ⟨τ, σ50, hf50, eσ50_0, eσ50_1, eσ53⟩
          have hPe : PBD σ53 155 := PBD_e i6 (fun c i q => by rw [eσ53, I_ne _ _ _ _ (by omega)]; exact k50 c i (by unfold wsSo; omega))
          rintro ⟨f16, f16q⟩
          refine RVI_mk ?_ ?_
          · (first | exact ⟨by omega, by omega⟩ | assumption)
          · refine ⟨?_, ?_, ?_⟩
            · (clear ih0; exact Or.inr (Or.inr ⟨i3.1, i3.2, rfl, hX⟩))
            · (clear ih0; first | exact hPe | exact hP41 | exact i6 | (exfalso; omega))
            · exact (Ch.tr (Ch.tr i0 kσ50) kσ53)
  have k0_ : ∀ (y9 : Int) (x11 : Int) (τ : Sto), SF σ τ → ((KXs σ τ) ∧ (0 ≤ x11 ∧ x11 ≤ (σ.I 0 39)) ∧ (NX7 σ τ K V (if x1 = -1 then σ.I 0 40 else if 0 ≤ x1 ∧ x1 ≤ 3 then σ.I 48 x1 else -1) x2 (pk4 x3 x4 x5 x6) x11) ∧ ((0 ≤ (if x1 = -1 then σ.I 0 40 else if 0 ≤ x1 ∧ x1 ≤ 3 then σ.I 48 x1 else -1) ∧ ((0 ≤ x2 ∧ x2 < σ.I 0 9) ∧ σ.I 16 x2 = 4) ∧ ((-1000 ≤ x3 ∧ x3 ≤ 1000) ∧ (-1000 ≤ x4 ∧ x4 ≤ 1000) ∧ (-1000 ≤ x5 ∧ x5 ≤ 1000) ∧ (-1000 ≤ x6 ∧ x6 ≤ 1000)) ∧ (1 ≤ x7 ∧ x7 ≤ 50)) ∧ alN (fun s => 0 ≤ nOf (σ.I 210) (σ.I 0 96) s) (σ.I 0 95)) ∧ (τ.I 0 39 = (σ.I 0 39)) ∧ (OB τ 42 43) ∧ (PBD τ 155) ∧ (y9 = (pk4 x3 x4 x5 x6))) → VV E mX0_near (d + 1) 104 [(0, aO 0), (2, aI (x2)), (7, aI (x7)), (9, aL (y9)), (11, aI (x11))] [] τ (RVI (fun y τ => ((¬ (0 ≤ (if x1 = -1 then σ.I 0 40 else if 0 ≤ x1 ∧ x1 ≤ 3 then σ.I 48 x1 else -1) ∧ ((0 ≤ x2 ∧ x2 < σ.I 0 9) ∧ σ.I 16 x2 = 4) ∧ ((-1000 ≤ x3 ∧ x3 ≤ 1000) ∧ (-1000 ≤ x4 ∧ x4 ≤ 1000) ∧ (-1000 ≤ x5 ∧ x5 ≤ 1000) ∧ (-1000 ≤ x6 ∧ x6 ≤ 1000)) ∧ (1 ≤ x7 ∧ x7 ≤ 50)) ∧ y = -1 ∧ RD σ τ (fun c i => if fgX c i then 0 else σ.I c i)) ∨ ((0 ≤ (if x1 = -1 then σ.I 0 40 else if 0 ≤ x1 ∧ x1 ≤ 3 then σ.I 48 x1 else -1) ∧ ((0 ≤ x2 ∧ x2 < σ.I 0 9) ∧ σ.I 16 x2 = 4) ∧ ((-1000 ≤ x3 ∧ x3 ≤ 1000) ∧ (-1000 ≤ x4 ∧ x4 ≤ 1000) ∧ (-1000 ≤ x5 ∧ x5 ≤ 1000) ∧ (-1000 ≤ x6 ∧ x6 ≤ 1000)) ∧ (1 ≤ x7 ∧ x7 ≤ 50)) ∧ ¬ alN (fun s => 0 ≤ nOf (σ.I 210) (σ.I 0 96) s) (σ.I 0 95) ∧ y = -4 ∧ RD σ τ (fun c i => if fgX c i then 0 else σ.I c i)) ∨ ((0 ≤ (if x1 = -1 then σ.I 0 40 else if 0 ≤ x1 ∧ x1 ≤ 3 then σ.I 48 x1 else -1) ∧ ((0 ≤ x2 ∧ x2 < σ.I 0 9) ∧ σ.I 16 x2 = 4) ∧ ((-1000 ≤ x3 ∧ x3 ≤ 1000) ∧ (-1000 ≤ x4 ∧ x4 ≤ 1000) ∧ (-1000 ≤ x5 ∧ x5 ≤ 1000) ∧ (-1000 ≤ x6 ∧ x6 ≤ 1000)) ∧ (1 ≤ x7 ∧ x7 ≤ 50)) ∧ alN (fun s => 0 ≤ nOf (σ.I 210) (σ.I 0 96) s) (σ.I 0 95) ∧ y = τ.I 0 70 ∧ NXR σ τ K V (if x1 = -1 then σ.I 0 40 else if 0 ≤ x1 ∧ x1 ≤ 3 then σ.I 48 x1 else -1) x2 (pk4 x3 x4 x5 x6) x7)) ∧ (PBD τ 155) ∧ (KXs σ τ))) := fun z0 z1 z2 h0 h1 => (key _ _ _) z0 z1 z2 h0 h1 rfl rfl rfl
  clear key
  refine ucX0_near_0W (K := K) (V := V) hL  ?_
  refine ⟨?_, ?_⟩
  · omega
  rintro σ2 gσ2 ⟨⟨eσ2r, eσ2s, eσ2n⟩, eσ2⟩
  have h2 : ∀ c i, ¬ fgX c i → σ2.I c i = σ.I c i := fun c i q => (by rw [eσ2]; exact if_neg q)
  have h2c : ∀ c i, c ≠ 0 → σ2.I c i = σ.I c i := fun c i q => h2 c i (fun z => by unfold fgX at z; omega)
  have h2f : σ2.I 0 9 = σ.I 0 9 ∧ σ2.I 0 40 = σ.I 0 40 ∧ σ2.I 0 96 = σ.I 0 96 ∧ σ2.I 0 95 = σ.I 0 95 ∧ σ2.I 48 x1 = σ.I 48 x1 := ⟨h2 _ _ (by unfold fgX; omega), h2 _ _ (by unfold fgX; omega), h2 _ _ (by unfold fgX; omega), h2 _ _ (by unfold fgX; omega), h2c _ _ (by decide)⟩
  have h2k : σ2.I 16 x2 = σ.I 16 x2 := h2c _ _ (by decide)
  have kσ2 : KXs σ σ2 := ⟨⟨eσ2r, eσ2s, eσ2n⟩, fun c i q => h2 c i (fun z => q (by unfold wsXs; exact Or.inr (Or.inr (Or.inr (Or.inr (Or.inr (Or.inr (Or.inr (Or.inr (Or.inr z))))))))))⟩
  have hR2 : RD σ σ2 (fun c i => if fgX c i then 0 else σ.I c i) := ⟨⟨eσ2r, eσ2s, eσ2n⟩, eσ2⟩
  have hP2 : PBD σ2 155 := PBD_e p4 (fun c i q => h2c c i (by omega))
  have h9 : bd_0_1000000 σ2 211 8 := bd_0_1000000_eq p8 (funext fun i => h2c _ _ (by decide))
  refine ⟨?_, ?_⟩
  · omega
  refine ⟨?_, ?_⟩
  · (first | omega | exact ⟨by omega, by omega⟩ | assumption)
  rintro y5 y5e ⟨y5f, y5fq⟩
  have hy5 : y5 = (if x1 = -1 then σ.I 0 40 else if 0 ≤ x1 ∧ x1 ≤ 3 then σ.I 48 x1 else -1) := (by rw [y5e, h2f.2.1, h2f.2.2.2.2])
  refine ⟨fun c1 => ?_, fun c2 => ?_⟩
  · refine RVI_mk ?_ ?_
    · (first | exact ⟨by omega, by omega⟩ | assumption)
    · refine ⟨?_, ?_, ?_⟩
      · (clear k0_; first | exact Or.inl ⟨fun z => by omega, rfl, hR2⟩ | exact Or.inr (Or.inl ⟨⟨by omega, by omega, by omega, by omega⟩, fun z => absurd (eσ39_0.mpr (hal.mpr z)) (by omega), rfl, hR39 (by omega)⟩))
      · (clear k0_; first | exact eσ49_3 | exact hP39 | exact hP2)
      · exact kσ2
  · refine ⟨?_, ?_⟩
    · omega
    refine ⟨?_, ?_⟩
    · (first | omega | exact ⟨by omega, by omega⟩ | assumption)
    refine ⟨?_, ?_⟩
    · (first | omega | exact ⟨by omega, by omega⟩ | assumption)
    refine ⟨?_, ?_⟩
    · (first | omega | exact ⟨by omega, by omega⟩ | assumption)
    refine ⟨fun c3 => ?_, fun c4 => ?_⟩
    · refine ⟨?_, ?_⟩
      · omega
      refine ⟨?_, ?_⟩
      · (first | omega | exact ⟨by omega, by omega⟩ | assumption)
      refine ⟨fun c5 => ?_, fun c6 => ?_⟩
      · refine ⟨?_, ?_⟩
        · omega
        refine ⟨?_, ?_⟩
        · (first | omega | exact ⟨by omega, by omega⟩ | assumption)
        refine ⟨fun c7 => ?_, fun c8 => ?_⟩
        · refine ⟨?_, ?_⟩
          · omega
          refine ⟨?_, ?_⟩
          · (first | omega | exact ⟨by omega, by omega⟩ | assumption)
          refine ⟨fun c9 => ?_, fun c10 => ?_⟩
          · refine ⟨?_, ?_⟩
            · omega
            refine ⟨?_, ?_⟩
            · (first | omega | exact ⟨by omega, by omega⟩ | assumption)
            refine ⟨fun c11 => ?_, fun c12 => ?_⟩
            · refine ⟨?_, ?_⟩
              · omega
              refine ⟨?_, ?_⟩
              · (first | omega | exact ⟨by omega, by omega⟩ | assumption)
              refine ⟨?_, ?_⟩
              · (first | omega | exact ⟨by omega, by omega⟩ | assumption)
              refine ⟨?_, ?_⟩
              · (first | omega | exact ⟨by omega, by omega⟩ | assumption)
              refine ⟨fun c13 => ?_, fun c14 => ?_⟩
              · refine ⟨?_, ?_⟩
                · omega
                refine ⟨?_, ?_⟩
                · (first | omega | exact ⟨by omega, by omega⟩ | assumption)
                refine ⟨?_, ?_⟩
                · (first | omega | exact ⟨by omega, by omega⟩ | assumption)
                refine ⟨?_, ?_⟩
                · (clear k0_; exact h9)
                rintro y40 σ39 ⟨y40f, y40fq⟩ gσ39 ⟨eσ39_0, ⟨⟨eσ39_1r, eσ39_1s, eσ39_1n⟩, eσ39_1⟩⟩
                have hal : alN (fun s => 0 ≤ nOf (σ2.I 210) (σ2.I 0 96) s) (σ2.I 0 95) ↔ alN (fun s => 0 ≤ nOf (σ.I 210) (σ.I 0 96) s) (σ.I 0 95) := (by rw [h2f.2.2.1, h2f.2.2.2.1, show σ2.I 210 = σ.I 210 from funext fun i => h2c _ _ (by decide)])
                have h39i := eσ39_1
                have e39 : ∀ c i, c ≠ 211 → σ39.I c i = σ2.I c i := fun c i q => (by rw [h39i]; exact if_neg (fun z => q z.2))
                have kσ39 : KXs σ2 σ39 := ⟨⟨eσ39_1r, eσ39_1s, eσ39_1n⟩, fun c i q => e39 c i (fun z => q (by unfold wsXs; omega))⟩
                have hR39 : y40 = 0 → RD σ σ39 (fun c i => if fgX c i then 0 else σ.I c i) := fun h => ⟨⟨eσ39_1r.trans eσ2r, eσ39_1s.trans eσ2s, eσ39_1n.trans eσ2n⟩, (by rw [h39i]; funext c i; rw [if_neg (fun z => by have z1 := z.1; omega), eσ2])⟩
                have hS39 : y40 = 1 → SX0 σ σ39 := fun h => ⟨⟨eσ39_1r.trans eσ2r, eσ39_1s.trans eσ2s, eσ39_1n.trans eσ2n⟩, (by rw [h39i]; funext c i; by_cases z : c = 211; (rw [if_pos ⟨h, z⟩, if_pos z, h2c c i (by omega), h2f.2.2.1, h2f.2.2.2.1, show σ2.I 210 = σ.I 210 from funext fun i => h2c _ _ (by decide)]); (rw [if_neg (fun w => z w.2), if_neg z, eσ2]))⟩
                have n39 : ∀ c i, c ≠ 211 → ¬ fgX c i → σ39.I c i = σ.I c i := fun c i a b => (e39 c i a).trans (h2 c i b)
                have n39c : ∀ c i, c ≠ 211 → c ≠ 0 → σ39.I c i = σ.I c i := fun c i a b => (e39 c i a).trans (h2c c i b)
                have hP39 : PBD σ39 155 := PBD_e hP2 (fun c i q => e39 c i (by omega))
                have g46 : σ39.I 0 46 = σ.I 0 46 := n39 _ _ (by decide) (by unfold fgX; omega)
                have f39 : σ39.I 0 39 = (σ.I 0 39) := n39 _ _ (by decide) (by unfold fgX; omega)
                have h70 : σ39.I 0 70 = 0 := (e39 _ _ (by decide)).trans (by rw [eσ2]; exact if_pos (by unfold fgX; omega))
                have er39 : σ39.2 = σ.2 := Prod.ext (eσ39_1r.trans eσ2r) (Prod.ext (eσ39_1s.trans eσ2s) (eσ39_1n.trans eσ2n))
                have eA39 : ∀ c, 16 ≤ c ∧ c < 80 → σ39.I c = σ.I c := fun c q => funext fun i => n39c c i (by omega) (by omega)
                have eG39 : ∀ c, 675 ≤ c → σ39.I c = σ.I c := fun c q => funext fun i => n39c c i (by omega) (by omega)
                have eF39 : ∀ i, i = 4 ∨ i = 9 ∨ i = 20 ∨ i = 31 ∨ i = 39 → σ39.I 0 i = σ.I 0 i := fun i q => n39 0 i (by omega) (by unfold fgX; omega)
                have hB39 : BSX σ39 K V := BSX_e p2 eA39 eF39 (congrArg (·.1) er39) (congrArg (·.2.1) er39) (congrArg (·.2.2) er39) eG39 (HOWA_e p2.2.2.2.2.2.2.2.2.2.2.2.2 eA39 eF39)
                have hub : 215 ≤ (ubX σ) ∧ (ubX σ) ≤ 260 := (by unfold ubX; omega)
                have hub2 : ubX σ39 = (ubX σ) := (by unfold ubX; rw [g46])
                have hQu : 0 < σ39.I 0 46 → σ39.I (ubX σ39) 1 ≠ 0 → QLX σ39 (ubX σ39) := (by rw [hub2, g46]; intro a b; exact (CPR_q (CPR_id (fun c i x y => n39c c i (by omega) (by omega))) (p3 a (by rw [← n39c _ _ (by omega) (by omega)]; exact b)) eA39 ⟨eF39 9 (by omega), eF39 4 (by omega), eF39 20 (by omega)⟩ er39 eG39 p2.2.2.2.1).1)
                refine ⟨fun c15 => ?_, fun c16 => ?_⟩
                · refine ⟨?_, ?_⟩
                  · omega
                  refine ⟨?_, ?_⟩
                  · (first | omega | exact ⟨by omega, by omega⟩ | assumption)
                  refine ⟨?_, ?_⟩
                  · (first | omega | exact ⟨by omega, by omega⟩ | assumption)
                  refine ⟨?_, ?_⟩
                  · (first | omega | exact ⟨by omega, by omega⟩ | assumption)
                  refine ⟨?_, ?_⟩
                  · (clear k0_; exact hB39)
                  refine ⟨?_, ?_⟩
                  · (clear k0_; exact hQu)
                  refine ⟨?_, ?_⟩
                  · (clear k0_; exact hP39)
                  rintro σ49 gσ49 ⟨eσ49_0, eσ49_1, eσ49_2, eσ49_3, eσ49_4⟩
                  have kσ49 : KXs σ39 σ49 := KXs_of_KMw eσ49_4
                  have kσ49r := eσ49_4.1.1
                  have n49 : ∀ c i, ¬ wsMw 87 c i → σ49.I c i = σ39.I c i := eσ49_4.2
                  have hW : WNX σ39 σ49 K V y5 := ⟨eσ49_0, eσ49_2, eσ49_4⟩
                  have c49 : σ49.I 0 70 = 0 := (n49 _ _ (by unfold wsMw; omega)).trans h70
                  have hN : NX7 σ σ49 K V (if x1 = -1 then σ.I 0 40 else if 0 ≤ x1 ∧ x1 ≤ 3 then σ.I 48 x1 else -1) x2 (pk4 x3 x4 x5 x6) 0 := ⟨σ39, σ49, hS39 (by omega), (by rw [← hy5]; exact hW), fun c i q => rfl, ⟨by rw [show σ49.I 0 70 = 0 from c49]; exact (cn_0 _ _ (Int.le_refl _)).symm, fun k a b => by omega⟩⟩
                  have hO49 : OB σ49 42 43 := (by unfold OB; rw [show σ49.I 42 = σ.I 42 from funext fun i => (n49 _ _ (by unfold wsMw; omega)).trans (n39c _ _ (by decide) (by decide)), show σ49.I 43 = σ.I 43 from funext fun i => (n49 _ _ (by unfold wsMw; omega)).trans (n39c _ _ (by decide) (by decide))]; exact p2.1.2.1)
                  have m39 : σ49.I 0 39 = (σ.I 0 39) := (n49 _ _ (by unfold wsMw; omega)).trans f39
                  have hok : (0 ≤ (if x1 = -1 then σ.I 0 40 else if 0 ≤ x1 ∧ x1 ≤ 3 then σ.I 48 x1 else -1) ∧ ((0 ≤ x2 ∧ x2 < σ.I 0 9) ∧ σ.I 16 x2 = 4) ∧ ((-1000 ≤ x3 ∧ x3 ≤ 1000) ∧ (-1000 ≤ x4 ∧ x4 ≤ 1000) ∧ (-1000 ≤ x5 ∧ x5 ≤ 1000) ∧ (-1000 ≤ x6 ∧ x6 ≤ 1000)) ∧ (1 ≤ x7 ∧ x7 ≤ 50)) ∧ alN (fun s => 0 ≤ nOf (σ.I 210) (σ.I 0 96) s) (σ.I 0 95) := ⟨⟨by omega, by omega, by omega, by omega⟩, hal.mp (eσ39_0.mp (by omega))⟩
                  refine ⟨?_, ?_⟩
                  · omega
                  refine ⟨?_, ?_⟩
                  · (first | omega | exact ⟨by omega, by omega⟩ | assumption)
                  refine ⟨?_, ?_⟩
                  · (first | omega | exact ⟨by omega, by omega⟩ | assumption)
                  refine ⟨?_, ?_⟩
                  · (first | omega | exact ⟨by omega, by omega⟩ | assumption)
                  refine ⟨?_, ?_⟩
                  · (first | omega | exact ⟨by omega, by omega⟩ | assumption)
                  rintro y55 y55e ⟨y55f, y55fq⟩
                  refine k0_ _ _ _ ((gσ2.tr gσ39).tr gσ49) ⟨?_, ?_, ?_, ?_, ?_, ?_, ?_, ?_⟩
                  · exact (Ch.tr (Ch.tr kσ2 kσ39) kσ49)
                  · (first | omega | exact ⟨by omega, by omega⟩ | assumption)
                  · (clear k0_; exact hN)
                  · (clear k0_; exact hok)
                  · (first | omega | exact ⟨by omega, by omega⟩ | assumption)
                  · (clear k0_; exact hO49)
                  · (clear k0_; first | exact eσ49_3 | exact hP39 | exact hP2)
                  · (first | omega | exact ⟨by omega, by omega⟩ | assumption)
                · refine RVI_mk ?_ ?_
                  · (first | exact ⟨by omega, by omega⟩ | assumption)
                  · refine ⟨?_, ?_, ?_⟩
                    · (clear k0_; first | exact Or.inl ⟨fun z => by omega, rfl, hR2⟩ | exact Or.inr (Or.inl ⟨⟨by omega, by omega, by omega, by omega⟩, fun z => absurd (eσ39_0.mpr (hal.mpr z)) (by omega), rfl, hR39 (by omega)⟩))
                    · (clear k0_; first | exact eσ49_3 | exact hP39 | exact hP2)
                    · exact (Ch.tr kσ2 kσ39)
              · refine RVI_mk ?_ ?_
                · (first | exact ⟨by omega, by omega⟩ | assumption)
                · refine ⟨?_, ?_, ?_⟩
                  · (clear k0_; first | exact Or.inl ⟨fun z => by omega, rfl, hR2⟩ | exact Or.inr (Or.inl ⟨⟨by omega, by omega, by omega, by omega⟩, fun z => absurd (eσ39_0.mpr (hal.mpr z)) (by omega), rfl, hR39 (by omega)⟩))
                  · (clear k0_; first | exact eσ49_3 | exact hP39 | exact hP2)
                  · exact kσ2
            · refine RVI_mk ?_ ?_
              · (first | exact ⟨by omega, by omega⟩ | assumption)
              · refine ⟨?_, ?_, ?_⟩
                · (clear k0_; first | exact Or.inl ⟨fun z => by omega, rfl, hR2⟩ | exact Or.inr (Or.inl ⟨⟨by omega, by omega, by omega, by omega⟩, fun z => absurd (eσ39_0.mpr (hal.mpr z)) (by omega), rfl, hR39 (by omega)⟩))
                · (clear k0_; first | exact eσ49_3 | exact hP39 | exact hP2)
                · exact kσ2
          · refine RVI_mk ?_ ?_
            · (first | exact ⟨by omega, by omega⟩ | assumption)
            · refine ⟨?_, ?_, ?_⟩
              · (clear k0_; first | exact Or.inl ⟨fun z => by omega, rfl, hR2⟩ | exact Or.inr (Or.inl ⟨⟨by omega, by omega, by omega, by omega⟩, fun z => absurd (eσ39_0.mpr (hal.mpr z)) (by omega), rfl, hR39 (by omega)⟩))
              · (clear k0_; first | exact eσ49_3 | exact hP39 | exact hP2)
              · exact kσ2
        · refine RVI_mk ?_ ?_
          · (first | exact ⟨by omega, by omega⟩ | assumption)
          · refine ⟨?_, ?_, ?_⟩
            · (clear k0_; first | exact Or.inl ⟨fun z => by omega, rfl, hR2⟩ | exact Or.inr (Or.inl ⟨⟨by omega, by omega, by omega, by omega⟩, fun z => absurd (eσ39_0.mpr (hal.mpr z)) (by omega), rfl, hR39 (by omega)⟩))
            · (clear k0_; first | exact eσ49_3 | exact hP39 | exact hP2)
            · exact kσ2
      · refine RVI_mk ?_ ?_
        · (first | exact ⟨by omega, by omega⟩ | assumption)
        · refine ⟨?_, ?_, ?_⟩
          · (clear k0_; first | exact Or.inl ⟨fun z => by omega, rfl, hR2⟩ | exact Or.inr (Or.inl ⟨⟨by omega, by omega, by omega, by omega⟩, fun z => absurd (eσ39_0.mpr (hal.mpr z)) (by omega), rfl, hR39 (by omega)⟩))
          · (clear k0_; first | exact eσ49_3 | exact hP39 | exact hP2)
          · exact kσ2
    · refine RVI_mk ?_ ?_
      · (first | exact ⟨by omega, by omega⟩ | assumption)
      · refine ⟨?_, ?_, ?_⟩
        · (clear k0_; first | exact Or.inl ⟨fun z => by omega, rfl, hR2⟩ | exact Or.inr (Or.inl ⟨⟨by omega, by omega, by omega, by omega⟩, fun z => absurd (eσ39_0.mpr (hal.mpr z)) (by omega), rfl, hR39 (by omega)⟩))
        · (clear k0_; first | exact eσ49_3 | exact hP39 | exact hP2)
        · exact kσ2
