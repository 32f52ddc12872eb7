set_option maxRecDepth 100000
set_option maxHeartbeats 1200000
theorem DX0_search_0W : DD cX0_search 0 1 1 (.aload_n 0) := ⟨by decide +kernel, rfl⟩
theorem DX0_search_1W : DD cX0_search 1 3 4 (.invokevirtual 467) := ⟨by decide +kernel, rfl⟩
theorem DX0_search_4W : DD cX0_search 4 1 5 (.aload_n 0) := ⟨by decide +kernel, rfl⟩
theorem DX0_search_5W : DD cX0_search 5 1 6 (.iload_n 1) := ⟨by decide +kernel, rfl⟩
theorem DX0_search_6W : DD cX0_search 6 3 9 (.invokevirtual 598) := ⟨by decide +kernel, rfl⟩
theorem DX0_search_9W : DD cX0_search 9 1 10 (.istore_n 2) := ⟨by decide +kernel, rfl⟩
theorem DX0_search_10W : DD cX0_search 10 1 11 (.iload_n 2) := ⟨by decide +kernel, rfl⟩
theorem DX0_search_11W : DD cX0_search 11 3 14 (.ifCond .ge 5) := ⟨by decide +kernel, rfl⟩
theorem DX0_search_14W : DD cX0_search 14 1 15 (.iconst (-1)) := ⟨by decide +kernel, rfl⟩
theorem DX0_search_15W : DD cX0_search 15 1 16 (.ireturn) := ⟨by decide +kernel, rfl⟩
theorem DX0_search_16W : DD cX0_search 16 1 17 (.aload_n 0) := ⟨by decide +kernel, rfl⟩
theorem DX0_search_17W : DD cX0_search 17 3 20 (.getfield 517) := ⟨by decide +kernel, rfl⟩
theorem DX0_search_20W : DD cX0_search 20 3 23 (.ifCond .ne 6) := ⟨by decide +kernel, rfl⟩
theorem DX0_search_23W : DD cX0_search 23 2 25 (.bipush (-2)) := ⟨by decide +kernel, rfl⟩
theorem DX0_search_25W : DD cX0_search 25 1 26 (.ireturn) := ⟨by decide +kernel, rfl⟩
theorem DX0_search_26W : DD cX0_search 26 1 27 (.aload_n 0) := ⟨by decide +kernel, rfl⟩
theorem DX0_search_27W : DD cX0_search 27 3 30 (.invokevirtual 601) := ⟨by decide +kernel, rfl⟩
theorem DX0_search_30W : DD cX0_search 30 3 33 (.ifCond .ne 6) := ⟨by decide +kernel, rfl⟩
theorem DX0_search_33W : DD cX0_search 33 2 35 (.bipush (-4)) := ⟨by decide +kernel, rfl⟩
theorem DX0_search_35W : DD cX0_search 35 1 36 (.ireturn) := ⟨by decide +kernel, rfl⟩
theorem DX0_search_36W : DD cX0_search 36 1 37 (.aload_n 0) := ⟨by decide +kernel, rfl⟩
theorem DX0_search_37W : DD cX0_search 37 3 40 (.getfield 268) := ⟨by decide +kernel, rfl⟩
theorem DX0_search_40W : DD cX0_search 40 3 43 (.getfield 577) := ⟨by decide +kernel, rfl⟩
theorem DX0_search_43W : DD cX0_search 43 1 44 (.aload_n 0) := ⟨by decide +kernel, rfl⟩
theorem DX0_search_44W : DD cX0_search 44 3 47 (.getfield 229) := ⟨by decide +kernel, rfl⟩
theorem DX0_search_47W : DD cX0_search 47 3 50 (.invokevirtual 514) := ⟨by decide +kernel, rfl⟩
theorem DX0_search_50W : DD cX0_search 50 1 51 (.aload_n 0) := ⟨by decide +kernel, rfl⟩
theorem DX0_search_51W : DD cX0_search 51 3 54 (.getfield 268) := ⟨by decide +kernel, rfl⟩
theorem DX0_search_54W : DD cX0_search 54 1 55 (.aload_n 0) := ⟨by decide +kernel, rfl⟩
theorem DX0_search_55W : DD cX0_search 55 3 58 (.getfield 562) := ⟨by decide +kernel, rfl⟩
theorem DX0_search_58W : DD cX0_search 58 3 61 (.putfield 580) := ⟨by decide +kernel, rfl⟩
theorem DX0_search_61W : DD cX0_search 61 1 62 (.aload_n 0) := ⟨by decide +kernel, rfl⟩
theorem DX0_search_62W : DD cX0_search 62 1 63 (.aload_n 0) := ⟨by decide +kernel, rfl⟩
theorem DX0_search_63W : DD cX0_search 63 3 66 (.getfield 268) := ⟨by decide +kernel, rfl⟩
theorem DX0_search_66W : DD cX0_search 66 1 67 (.iload_n 2) := ⟨by decide +kernel, rfl⟩
theorem DX0_search_67W : DD cX0_search 67 3 70 (.invokevirtual 605) := ⟨by decide +kernel, rfl⟩
theorem DX0_search_70W : DD cX0_search 70 1 71 (.aload_n 0) := ⟨by decide +kernel, rfl⟩
theorem DX0_search_71W : DD cX0_search 71 3 74 (.getfield 268) := ⟨by decide +kernel, rfl⟩
theorem DX0_search_74W : DD cX0_search 74 3 77 (.invokevirtual 581) := ⟨by decide +kernel, rfl⟩
theorem DX0_search_77W : DD cX0_search 77 1 78 (.iconst 0) := ⟨by decide +kernel, rfl⟩
theorem DX0_search_78W : DD cX0_search 78 1 79 (.istore_n 3) := ⟨by decide +kernel, rfl⟩
theorem DX0_search_79W : DD cX0_search 79 1 80 (.iload_n 3) := ⟨by decide +kernel, rfl⟩
theorem DX0_search_80W : DD cX0_search 80 1 81 (.aload_n 0) := ⟨by decide +kernel, rfl⟩
theorem DX0_search_81W : DD cX0_search 81 3 84 (.getfield 437) := ⟨by decide +kernel, rfl⟩
theorem DX0_search_84W : DD cX0_search 84 3 87 (.if_icmp .ge 64) := ⟨by decide +kernel, rfl⟩
theorem DX0_search_87W : DD cX0_search 87 1 88 (.aload_n 0) := ⟨by decide +kernel, rfl⟩
theorem DX0_search_88W : DD cX0_search 88 3 91 (.getfield 268) := ⟨by decide +kernel, rfl⟩
theorem DX0_search_91W : DD cX0_search 91 3 94 (.getfield 568) := ⟨by decide +kernel, rfl⟩
theorem DX0_search_94W : DD cX0_search 94 3 97 (.getfield 584) := ⟨by decide +kernel, rfl⟩
theorem DX0_search_97W : DD cX0_search 97 1 98 (.iload_n 3) := ⟨by decide +kernel, rfl⟩
theorem DX0_search_98W : DD cX0_search 98 1 99 (.baload) := ⟨by decide +kernel, rfl⟩
theorem DX0_search_99W : DD cX0_search 99 3 102 (.ifCond .eq 24) := ⟨by decide +kernel, rfl⟩
theorem DX0_search_102W : DD cX0_search 102 1 103 (.aload_n 0) := ⟨by decide +kernel, rfl⟩
theorem DX0_search_103W : DD cX0_search 103 3 106 (.getfield 268) := ⟨by decide +kernel, rfl⟩
theorem DX0_search_106W : DD cX0_search 106 1 107 (.aload_n 0) := ⟨by decide +kernel, rfl⟩
theorem DX0_search_107W : DD cX0_search 107 3 110 (.getfield 268) := ⟨by decide +kernel, rfl⟩
theorem DX0_search_110W : DD cX0_search 110 3 113 (.getfield 577) := ⟨by decide +kernel, rfl⟩
theorem DX0_search_113W : DD cX0_search 113 3 116 (.getfield 587) := ⟨by decide +kernel, rfl⟩
theorem DX0_search_116W : DD cX0_search 116 1 117 (.iload_n 3) := ⟨by decide +kernel, rfl⟩
theorem DX0_search_117W : DD cX0_search 117 3 120 (.invokevirtual 590) := ⟨by decide +kernel, rfl⟩
theorem DX0_search_120W : DD cX0_search 120 3 123 (.goto 6) := ⟨by decide +kernel, rfl⟩
theorem DX0_search_123W : DD cX0_search 123 3 126 (.ldc2_w 609) := ⟨by decide +kernel, rfl⟩
theorem DX0_search_126W : DD cX0_search 126 2 128 (.lstore 4) := ⟨by decide +kernel, rfl⟩
theorem DX0_search_128W : DD cX0_search 128 2 130 (.lload 4) := ⟨by decide +kernel, rfl⟩
theorem DX0_search_130W : DD cX0_search 130 1 131 (.lconst 0) := ⟨by decide +kernel, rfl⟩
theorem DX0_search_131W : DD cX0_search 131 1 132 (.lcmp) := ⟨by decide +kernel, rfl⟩
theorem DX0_search_132W : DD cX0_search 132 3 135 (.ifCond .lt 10) := ⟨by decide +kernel, rfl⟩
theorem DX0_search_135W : DD cX0_search 135 1 136 (.aload_n 0) := ⟨by decide +kernel, rfl⟩
theorem DX0_search_136W : DD cX0_search 136 1 137 (.iload_n 3) := ⟨by decide +kernel, rfl⟩
theorem DX0_search_137W : DD cX0_search 137 2 139 (.lload 4) := ⟨by decide +kernel, rfl⟩
theorem DX0_search_139W : DD cX0_search 139 3 142 (.invokevirtual 611) := ⟨by decide +kernel, rfl⟩
theorem DX0_search_142W : DD cX0_search 142 3 145 (.iinc 3 1) := ⟨by decide +kernel, rfl⟩
theorem DX0_search_145W : DD cX0_search 145 3 148 (.goto (-66)) := ⟨by decide +kernel, rfl⟩
theorem DX0_search_148W : DD cX0_search 148 1 149 (.aload_n 0) := ⟨by decide +kernel, rfl⟩
theorem DX0_search_149W : DD cX0_search 149 1 150 (.iconst 1) := ⟨by decide +kernel, rfl⟩
theorem DX0_search_150W : DD cX0_search 150 3 153 (.putfield 550) := ⟨by decide +kernel, rfl⟩
theorem DX0_search_153W : DD cX0_search 153 1 154 (.aload_n 0) := ⟨by decide +kernel, rfl⟩
theorem DX0_search_154W : DD cX0_search 154 1 155 (.aload_n 0) := ⟨by decide +kernel, rfl⟩
theorem DX0_search_155W : DD cX0_search 155 3 158 (.getfield 278) := ⟨by decide +kernel, rfl⟩
theorem DX0_search_158W : DD cX0_search 158 1 159 (.aload_n 0) := ⟨by decide +kernel, rfl⟩
theorem DX0_search_159W : DD cX0_search 159 3 162 (.getfield 565) := ⟨by decide +kernel, rfl⟩
theorem DX0_search_162W : DD cX0_search 162 1 163 (.iconst 1) := ⟨by decide +kernel, rfl⟩
theorem DX0_search_163W : DD cX0_search 163 3 166 (.invokevirtual 615) := ⟨by decide +kernel, rfl⟩
theorem DX0_search_166W : DD cX0_search 166 1 167 (.aload_n 0) := ⟨by decide +kernel, rfl⟩
theorem DX0_search_167W : DD cX0_search 167 3 170 (.getfield 547) := ⟨by decide +kernel, rfl⟩
theorem DX0_search_170W : DD cX0_search 170 1 171 (.ireturn) := ⟨by decide +kernel, rfl⟩
theorem ucX0_search_0W {E : XE} {d : Nat} {σ : Sto} {Q : Res → Sto → Prop} {K : Int} {V : Int} {x1 : Int} (hL : Lay σ)  (h : 1 ≤ d ∧ (∀ σ2 : Sto, SF σ σ2 → (RD σ σ2 (fun c i => if fgX c i then 0 else σ.I c i)) → 2 ≤ d ∧ (inR x1) ∧ (∀ y5 : Int, y5 = (if x1 = -1 then σ2.I 0 40 else if 0 ≤ x1 ∧ x1 ≤ 3 then σ2.I 48 x1 else -1) → inR y5 → (0 ≤ y5 → (0 ≤ σ2.I 0 48 ∧ σ2.I 0 48 ≤ 1 → ((σ2.I 0 48) ≠ 0 → 2 ≤ d ∧ (1 ≤ σ2.I 0 96 ∧ σ2.I 0 96 ≤ 8) ∧ (1 ≤ σ2.I 0 95 ∧ σ2.I 0 95 ≤ 8) ∧ (bd_0_1000000 σ2 211 8) ∧ (∀ (y14 : Int) (σ13 : Sto), 0 ≤ y14 ∧ y14 ≤ 1 → SF σ2 σ13 → ((y14 = 1 ↔ alN (fun s => 0 ≤ nOf (σ2.I 210) (σ2.I 0 96) s) (σ2.I 0 95)) ∧ (RD σ2 σ13 (fun c i => if y14 = 1 ∧ c = 211 then σ2.I c i + cn (fun s => nOf (σ2.I 210) (σ2.I 0 96) s = i) (σ2.I 0 95) else σ2.I c i))) → (y14 ≠ 0 → 2 ≤ d ∧ (88 + 13 < 51 ∨ 51 + 13 < 88) ∧ (0 ≤ σ13.I 51 1 ∧ σ13.I 51 1 ≤ 400) ∧ (0 ≤ σ13.I 51 2 ∧ σ13.I 51 2 ≤ 200) ∧ (∀ σ20 : Sto, SF σ13 σ20 → (RD σ13 σ20 (CQF σ13 88 51 2 (σ13.I 51 2))) → (inR (σ20.I 0 63) → (∀ σ22 : Sto, σ22 = σ20.wI 87 2 (σ20.I 0 63) → SF σ20 σ22 → 527 ≤ d ∧ (87 = 87 ∨ 87 = 121) ∧ (inR y5) ∧ (0 ≤ σ22.I 0 46 ∧ σ22.I 0 46 < 4) ∧ (BSX σ22 K V) ∧ (0 < σ22.I 0 46 → σ22.I (ubX σ22) 1 ≠ 0 → QLX σ22 (ubX σ22)) ∧ (PBD σ22 155) ∧ (∀ σ30 : Sto, SF σ22 σ30 → (((σ30.I (87 + 15) 6 = 0 ∧ σ30.I (87 + 15) 7 = (σ22.I 0 39) ∧ σ30.I (87 + 15) 8 = 0) ∧ σ30.I (87 + 15) 1 = (if 0 < σ22.I 0 46 then σ22.I (ubX σ22) 2 else 0)) ∧ (CHN σ30 (87 + 15)) ∧ (SEX σ22 σ30 87 K V y5) ∧ (PBD σ30 155) ∧ (KMw 87 σ22 σ30)) → 526 ≤ d ∧ (87 = 87 ∨ 87 = 121 ∨ 87 = 155) ∧ (0 ≤ (σ30.I (87 + 1) 2) ∧ (σ30.I (87 + 1) 2) ≤ 119) ∧ (rwN σ30 87 (σ30.I (87 + 1) 2) ≤ 60) ∧ (txN σ30 87 (lsX σ30 87) (σ30.I (87 + 1) 2) ≤ 5000) ∧ (∀ x, 0 ≤ x → x < (σ30.I (87 + 1) 2) → lfN σ30 87 x → NDq σ30 87 (lsX σ30 87) x) ∧ (0 ≤ σ30.I 0 9 ∧ σ30.I 0 9 ≤ 12) ∧ (0 ≤ σ30.I (87 + 15) 6 ∧ σ30.I (87 + 15) 6 ≤ (σ30.I (87 + 15) 7) ∧ (σ30.I (87 + 15) 7) ≤ 601) ∧ (OB σ30 42 43) ∧ (bd_0_250 σ30 32 6000) ∧ (VFX σ30 (87 + 15)) ∧ (TC σ30) ∧ (0 ≤ σ30.I 18 7 ∧ σ30.I 18 7 < 36500) ∧ (∀ s, 0 ≤ s → s < σ30.I 18 7 → 0 ≤ σ30.I 20 s ∧ σ30.I 20 s < σ30.I 0 9) ∧ (PT σ30 K) ∧ (PW σ30 V) ∧ (OBV σ30 K V) ∧ (TVL σ30 K V) ∧ (DRV σ30) ∧ (0 ≤ σ30.I 0 39 ∧ σ30.I 0 39 < 601) ∧ (bd_0_20 σ30 21 36500) ∧ (AN σ30) ∧ (ANX σ30) ∧ (σ30.I 0 4 ≤ 6) ∧ (bd_0_499 σ30 39 24000) ∧ (∀ v, 0 ≤ v → v < V → 0 ≤ σ30.I 31 v ∧ 0 ≤ σ30.I 32 v ∧ σ30.I 31 v + σ30.I 32 v ≤ 24000) ∧ (VOC σ30 V) ∧ (PBD σ30 87) ∧ (∀ t, 0 ≤ t → t < σ30.I 18 7 → 0 ≤ owX σ30 (87 + 15) t K V ∧ owX σ30 (87 + 15) t K V ≤ hvX σ30 (87 + 15) (σ30.I 20 t) (σ30.I (87 + 15) 7)) ∧ (∀ v, 0 ≤ v → v < V → σ30.I 27 v < (σ30.I (87 + 15) 7)) ∧ (σ30.I (87 + 15) 8 ≠ 0 → σ30.I 0 39 < (σ30.I (87 + 15) 7)) ∧ (owX σ30 (87 + 15) (-1) K V = 0) ∧ (WOX σ30 (87 + 15)) ∧ (∀ σ64 : Sto, SF σ30 σ64 → ((PRI σ30 σ64 87 (lsX σ30 87) K V (σ30.I (87 + 1) 2) (rwN σ30 87 (σ30.I (87 + 1) 2))) ∧ (KPq 87 σ30 σ64)) → VV E mX0_search (d + 1) 79 [(0, aO 0), (3, aI (0))] [] σ64 Q)))))) ∧ (y14 = 0 → Q (.inl (some (aI (-4)))) σ13))) ∧ ((σ2.I 0 48) = 0 → Q (.inl (some (aI (-2)))) σ2))) ∧ (y5 < 0 → Q (.inl (some (aI (-1)))) σ2)))) : VV E mX0_search (d + 1) 0 [(0, aO 0), (1, aI (x1))] [] σ Q := by
  refine v_aload_n 0 DX0_search_0W rfl rfl <| ?_
  obtain ⟨k1, h⟩ := h
  refine v_invV (ci := 0) (as := []) (st := []) DX0_search_1W rfl okX0_forgetHits (Or.inl q1468) q1470 (s_0 hL) rfl qs27 npX0_forgetHits (sp_X0_forgetHits (σ := σ)  k1 hL ) (Nat.le_of_ble_eq_true rfl) (Nat.le_refl _) (Nat.le_of_ble_eq_true rfl) (RV_ret (fun σ2 gσ2 eσ2 => ?_)) RV_thr
  have h := h σ2 gσ2 eσ2
  refine v_aload_n 0 DX0_search_4W rfl rfl <| v_iload_n 1 DX0_search_5W rfl rfl <| ?_
  obtain ⟨k3, h⟩ := h
  obtain ⟨k4, h⟩ := h
  refine v_invV (ci := 0) (as := [aI (x1)]) (st := []) DX0_search_6W rfl okX0_versionOf (Or.inl q1725) q1727 (s_0 (hL.sf gσ2)) rfl qs55 npX0_versionOf (sp_X0_versionOf (σ := σ2) (x1 := x1) k3 (hL.sf gσ2) k4) (Nat.le_of_ble_eq_true rfl) (Nat.le_refl _) (Nat.le_of_ble_eq_true rfl) (RI_ret (fun y5 y5e y5f => ?_)) RI_thr
  have h := h y5 y5e y5f
  refine v_istore_n DX0_search_9W rfl (by decide) rfl <| v_iload_n 0 DX0_search_10W rfl rfl <| ?_
  refine v_if_ge (tg := 16) DX0_search_11W (by decide) y5f (fun c6 => ?_) (fun c6 => ?_)
  · have h := h.1 c6
    refine v_aload_n 1 DX0_search_16W rfl rfl <| ?_
    refine w_getI (ci := 0) (kf := 48) (kz := 48) DX0_search_17W (s_0 (hL.sf gσ2)) rfl (by decide) rfl (Or.inl q1088) (fun _ _ => rfl) (fun f7 => ?_)
    have h := h f7
    refine v_if_ne (tg := 26) DX0_search_20W (by decide) (inR_z f7) (fun c8 => ?_) (fun c8 => ?_)
    · have h := h.1 c8
      refine v_aload_n 1 DX0_search_26W rfl rfl <| ?_
      obtain ⟨k9, h⟩ := h
      obtain ⟨k10, k11, k12, h⟩ := h
      refine v_invV (ci := 0) (as := []) (st := []) DX0_search_27W rfl okX0_askShards (Or.inl q1729) q1731 (s_0 (hL.sf gσ2)) rfl qs56 npX0_askShards (sp_X0_askShards (σ := σ2)  k9 (hL.sf gσ2) k10 k11 k12) (Nat.le_of_ble_eq_true rfl) (Nat.le_refl _) (Nat.le_of_ble_eq_true rfl) (RVZ_ret (fun y14 σ13 y14f gσ13 eσ13 => ?_)) RVZ_thr
      have h := h y14 σ13 y14f gσ13 eσ13
      refine v_if_ne (tg := 36) DX0_search_30W (by decide) (inR_z y14f) (fun c15 => ?_) (fun c15 => ?_)
      · have h := h.1 c15
        refine v_aload_n 1 DX0_search_36W rfl rfl <| w_getR (ci := 0) (kf := 60) (kz := 60) DX0_search_37W (s_0 ((hL.sf gσ2).sf gσ13)) rfl (by decide) rfl (Or.inl q1106) (fun _ _ => rfl) (r_0_60 ((hL.sf gσ2).sf gσ13)) <| w_getR (ci := 5) (kf := 0) (kz := 0) DX0_search_40W (s_87 ((hL.sf gσ2).sf gσ13)) rfl (by decide) rfl (Or.inr ⟨_, q886⟩) (fun _ _ => rfl) (r_87_0 ((hL.sf gσ2).sf gσ13)) <| v_aload_n 1 DX0_search_43W rfl rfl <| w_getR (ci := 0) (kf := 47) (kz := 47) DX0_search_44W (s_0 ((hL.sf gσ2).sf gσ13)) rfl (by decide) rfl (Or.inl q1087) (fun _ _ => rfl) (r_0_47 ((hL.sf gσ2).sf gσ13)) <| ?_
        obtain ⟨k16, h⟩ := h
        obtain ⟨k17, k18, k19, h⟩ := h
        refine v_invV (ci := 3) (as := [aO 51]) (st := []) DX0_search_47W rfl okX3_copy (Or.inl q1684) q1685 (s_88 ((hL.sf gσ2).sf gσ13)) rfl q1686 npX3_copy (sp_X3_copy (σ := σ13) (o0 := 88) (o1 := 51) k16 ((hL.sf gσ2).sf gσ13) (lat_88 ((hL.sf gσ2).sf gσ13)) (lat_51 ((hL.sf gσ2).sf gσ13)) k17 k18 k19) (Nat.le_of_ble_eq_true rfl) (Nat.le_refl _) (Nat.le_of_ble_eq_true rfl) (RV_ret (fun σ20 gσ20 eσ20 => ?_)) RV_thr
        have h := h σ20 gσ20 eσ20
        refine v_aload_n 1 DX0_search_50W rfl rfl <| w_getR (ci := 0) (kf := 60) (kz := 60) DX0_search_51W (s_0 (((hL.sf gσ2).sf gσ13).sf gσ20)) rfl (by decide) rfl (Or.inl q1106) (fun _ _ => rfl) (r_0_60 (((hL.sf gσ2).sf gσ13).sf gσ20)) <| v_aload_n 1 DX0_search_54W rfl rfl <| ?_
        refine w_getI (ci := 0) (kf := 63) (kz := 63) DX0_search_55W (s_0 (((hL.sf gσ2).sf gσ13).sf gσ20)) rfl (by decide) rfl (Or.inl q1109) (fun _ _ => rfl) (fun f21 => ?_)
        have h := h f21
        refine w_putI (ci := 5) (kf := 2) (kz := 2) DX0_search_58W (s_87 (((hL.sf gσ2).sf gσ13).sf gσ20)) rfl (by decide) rfl (Or.inr (Or.inl ⟨rfl, _, q890⟩)) (fun _ _ => rfl) f21 rfl rfl (fun σ22 eσ22 gσ22 => ?_)
        have h := h σ22 eσ22 gσ22
        refine v_aload_n 1 DX0_search_61W rfl rfl <| v_aload_n 1 DX0_search_62W rfl rfl <| w_getR (ci := 0) (kf := 60) (kz := 60) DX0_search_63W (s_0 ((((hL.sf gσ2).sf gσ13).sf gσ20).sf gσ22)) rfl (by decide) rfl (Or.inl q1106) (fun _ _ => rfl) (r_0_60 ((((hL.sf gσ2).sf gσ13).sf gσ20).sf gσ22)) <| v_iload_n 0 DX0_search_66W rfl rfl <| ?_
        obtain ⟨k23, h⟩ := h
        obtain ⟨k24, k25, k26, k27, k28, k29, h⟩ := h
        refine v_invV (ci := 0) (as := [aO 87, aI (y5)]) (st := []) DX0_search_67W rfl okX0_makeWorld (Or.inl q1737) q1739 (s_0 ((((hL.sf gσ2).sf gσ13).sf gσ20).sf gσ22)) rfl qs58 npX0_makeWorld (sp_X0_makeWorld (σ := σ22) (o1 := 87) (x2 := y5) (K := K) (V := V) k23 ((((hL.sf gσ2).sf gσ13).sf gσ20).sf gσ22) (lat_87 ((((hL.sf gσ2).sf gσ13).sf gσ20).sf gσ22)) k24 k25 k26 k27 k28 k29) (Nat.le_of_ble_eq_true rfl) (Nat.le_refl _) (Nat.le_of_ble_eq_true rfl) (RV_ret (fun σ30 gσ30 eσ30 => ?_)) RV_thr
        have h := h σ30 gσ30 eσ30
        refine v_aload_n 1 DX0_search_70W rfl rfl <| w_getR (ci := 0) (kf := 60) (kz := 60) DX0_search_71W (s_0 (((((hL.sf gσ2).sf gσ13).sf gσ20).sf gσ22).sf gσ30)) rfl (by decide) rfl (Or.inl q1106) (fun _ _ => rfl) (r_0_60 (((((hL.sf gσ2).sf gσ13).sf gσ20).sf gσ22).sf gσ30)) <| ?_
        obtain ⟨k31, h⟩ := h
        obtain ⟨k32, k33, k34, k35, k36, k37, k38, k39, k40, k41, k42, k43, k44, k45, k46, k47, k48, k49, k50, k51, k52, k53, k54, k55, k56, k57, k58, k59, k60, k61, k62, k63, h⟩ := h
        refine v_invV (ci := 5) (as := []) (st := []) DX0_search_74W rfl okX5_prepare (Or.inl q1750) q1751 (s_87 (((((hL.sf gσ2).sf gσ13).sf gσ20).sf gσ22).sf gσ30)) rfl q1752 npX5_prepare (sp_X5_prepare (σ := σ30) (o0 := 87) (lx := (lsX σ30 87)) (K := K) (V := V) k31 (((((hL.sf gσ2).sf gσ13).sf gσ20).sf gσ22).sf gσ30) (lat_87 (((((hL.sf gσ2).sf gσ13).sf gσ20).sf gσ22).sf gσ30)) k32 k33 k34 k35 k36 k37 k38 k39 k40 k41 k42 k43 k44 k45 k46 k47 k48 k49 k50 k51 k52 k53 k54 k55 k56 k57 k58 k59 k60 k61 k62 k63) (Nat.le_of_ble_eq_true rfl) (Nat.le_refl _) (Nat.le_of_ble_eq_true rfl) (RV_ret (fun σ64 gσ64 eσ64 => ?_)) RV_thr
        have h := h σ64 gσ64 eσ64
        refine v_iconst DX0_search_77W <| v_istore_n DX0_search_78W rfl (by decide) rfl <| ?_
        exact v_pick [2, 0] rfl h
      · have h := h.2 c15
        refine v_bipush DX0_search_33W ⟨by decide, by decide⟩ <| ?_
        exact v_iret DX0_search_35W rfl rfl h
    · have h := h.2 c8
      refine v_bipush DX0_search_23W ⟨by decide, by decide⟩ <| ?_
      exact v_iret DX0_search_25W rfl rfl h
  · have h := h.2 c6
    refine v_iconst DX0_search_14W <| ?_
    exact v_iret DX0_search_15W rfl rfl h
theorem ucX0_search_79W {E : XE} {d : Nat} {σ : Sto} {Q : Res → Sto → Prop} {K : Int} {V : Int} {x3 : Int} (hL : Lay σ)  (h : (inR (σ.I 0 39) → inR x3 ∧ ((σ.I 0 39) ≤ x3 → (∀ σ4 : Sto, σ4 = σ.wI 0 71 1 → SF σ σ4 → (inR (σ4.I 0 64) → (0 ≤ σ4.I 0 65 ∧ σ4.I 0 65 ≤ 1 → 5 ≤ d ∧ (-1 ≤ (σ4.I 0 64) ∧ (σ4.I 0 64) < 12) ∧ (0 ≤ (σ4.I 0 65) ∧ (σ4.I 0 65) ≤ 1) ∧ (0 ≤ (1 : Int) ∧ (1 : Int) ≤ 1) ∧ (0 ≤ σ4.I 0 70 ∧ σ4.I 0 70 ≤ 600) ∧ (OB σ4 42 43) ∧ (∀ i, 0 ≤ i → i < σ4.I 0 70 → 0 ≤ σ4.I 189 i ∧ σ4.I 189 i < 600) ∧ (∀ σ14 : Sto, SF σ4 σ14 → ((∃ p, PRM (σ4.I 0 70) p ∧ RWH σ4 σ14 (σ4.I 0 64) (σ4.I 0 65) (σ4.I 0 70) p ∧ ∀ a b, 0 ≤ a → a < b → b < (σ4.I 0 70) → ¬ LX2 σ4 (σ4.I 0 64) (σ4.I 0 65) (1 : Int) (p b) (p a)) ∧ (KSo σ4 σ14)) → (inR (σ14.I 0 70) → Q (.inl (some (aI (σ14.I 0 70)))) σ14)))))) ∧ (x3 < (σ.I 0 39) → 0 ≤ x3 ∧ x3 < 601 ∧ (0 ≤ σ.I 103 x3 ∧ σ.I 103 x3 ≤ 1 → ((σ.I 103 x3) = 0 → ((-1) < 0 → VV E mX0_search (d + 1) 79 [(0, aO 0), (3, aI (x3 + 1))] [] σ Q) ∧ (0 ≤ (-1) → 1 ≤ d ∧ (0 ≤ σ.I 0 70 ∧ σ.I 0 70 < 600) ∧ (inR x3) ∧ (inL ((-1) : Int)) ∧ (∀ σ25 : Sto, SF σ σ25 → (RD σ σ25 (fun c i => if at2 c i 189 (σ.I 0 70) then x3 else if at2 c i 190 (σ.I 0 70) then ((-1) : Int) else if at2 c i 0 70 then σ.I 0 70 + 1 else σ.I c i)) → VV E mX0_search (d + 1) 79 [(0, aO 0), (3, aI (x3 + 1))] [] σ25 Q))) ∧ ((σ.I 103 x3) ≠ 0 → (inR (σ.I 88 4) → 3 * 130 + 8 ≤ d ∧ (87 = 87 ∨ 87 = 121 ∨ 87 = 155) ∧ (CHW σ 87) ∧ (SNX σ 87 (vXX σ 87)) ∧ (0 ≤ (σ.I 88 4) ∧ WX σ 87 (vXX σ 87) 130 (σ.I 88 4)) ∧ ((0 ≤ x3 ∧ x3 < 601) ∧ snW σ 87 x3) ∧ (130 ≤ 300) ∧ (∀ (y35 : Int) (σ34 : Sto), inL y35 → SF σ σ34 → ((y35 = scW (tabS (GX σ 87)) (vXX σ 87) (σ.I 88 4) x3) ∧ (SNX σ34 87 (vXX σ 87)) ∧ (KNf 87 σ σ34)) → (y35 < 0 → VV E mX0_search (d + 1) 79 [(0, aO 0), (3, aI (x3 + 1))] [] σ34 Q) ∧ (0 ≤ y35 → 1 ≤ d ∧ (0 ≤ σ34.I 0 70 ∧ σ34.I 0 70 < 600) ∧ (inR x3) ∧ (inL y35) ∧ (∀ σ41 : Sto, SF σ34 σ41 → (RD σ34 σ41 (fun c i => if at2 c i 189 (σ34.I 0 70) then x3 else if at2 c i 190 (σ34.I 0 70) then y35 else if at2 c i 0 70 then σ34.I 0 70 + 1 else σ34.I c i)) → VV E mX0_search (d + 1) 79 [(0, aO 0), (3, aI (x3 + 1))] [] σ41 Q))))))))) : VV E mX0_search (d + 1) 79 [(0, aO 0), (3, aI (x3))] [] σ Q := by
  refine v_iload_n 1 DX0_search_79W rfl rfl <| v_aload_n 0 DX0_search_80W rfl rfl <| ?_
  refine w_getI (ci := 0) (kf := 39) (kz := 39) DX0_search_81W (s_0 hL) rfl (by decide) rfl (Or.inl q1079) (fun _ _ => rfl) (fun f1 => ?_)
  have h := h f1
  obtain ⟨k2, h⟩ := h
  refine v_icmp_ge (tg := 148) DX0_search_84W (by decide) k2 f1 (fun c3 => ?_) (fun c3 => ?_)
  · have h := h.1 c3
    refine v_aload_n 0 DX0_search_148W rfl rfl <| v_iconst DX0_search_149W <| ?_
    refine w_putI (ci := 0) (kf := 71) (kz := 71) DX0_search_150W (s_0 hL) rfl (by decide) rfl (Or.inl ⟨rfl, q1117⟩) (fun _ _ => rfl) ⟨by decide, by decide⟩ (narZ ⟨by decide, by decide⟩) (fitZ ⟨by decide, by decide⟩) (fun σ4 eσ4 gσ4 => ?_)
    have h := h σ4 eσ4 gσ4
    refine v_aload_n 0 DX0_search_153W rfl rfl <| v_aload_n 0 DX0_search_154W rfl rfl <| ?_
    refine w_getI (ci := 0) (kf := 64) (kz := 64) DX0_search_155W (s_0 (hL.sf gσ4)) rfl (by decide) rfl (Or.inl q1110) (fun _ _ => rfl) (fun f5 => ?_)
    have h := h f5
    refine v_aload_n 0 DX0_search_158W rfl rfl <| ?_
    refine w_getI (ci := 0) (kf := 65) (kz := 65) DX0_search_159W (s_0 (hL.sf gσ4)) rfl (by decide) rfl (Or.inl q1111) (fun _ _ => rfl) (fun f6 => ?_)
    have h := h f6
    refine v_iconst DX0_search_162W <| ?_
    obtain ⟨k7, h⟩ := h
    obtain ⟨k8, k9, k10, k11, k12, k13, h⟩ := h
    refine v_invV (ci := 0) (as := [aI (σ4.I 0 64), aI (σ4.I 0 65), aI (1)]) (st := []) DX0_search_163W rfl okX0_sortHits (Or.inl q1903) q1905 (s_0 (hL.sf gσ4)) rfl qs80 npX0_sortHits (sp_X0_sortHits (σ := σ4) (x1 := σ4.I 0 64) (x2 := σ4.I 0 65) (x3 := (1 : Int)) k7 (hL.sf gσ4) k8 k9 k10 k11 k12 k13) (Nat.le_of_ble_eq_true rfl) (Nat.le_refl _) (Nat.le_of_ble_eq_true rfl) (RV_ret (fun σ14 gσ14 eσ14 => ?_)) RV_thr
    have h := h σ14 gσ14 eσ14
    refine v_aload_n 0 DX0_search_166W rfl rfl <| ?_
    refine w_getI (ci := 0) (kf := 70) (kz := 70) DX0_search_167W (s_0 ((hL.sf gσ4).sf gσ14)) rfl (by decide) rfl (Or.inl q1116) (fun _ _ => rfl) (fun f15 => ?_)
    have h := h f15
    exact v_iret DX0_search_170W rfl rfl h
  · have h := h.2 c3
    refine v_aload_n 0 DX0_search_87W rfl rfl <| w_getR (ci := 0) (kf := 60) (kz := 60) DX0_search_88W (s_0 hL) rfl (by decide) rfl (Or.inl q1106) (fun _ _ => rfl) (r_0_60 hL) <| w_getR (ci := 5) (kf := 1) (kz := 1) DX0_search_91W (s_87 hL) rfl (by decide) rfl (Or.inr ⟨_, q888⟩) (fun _ _ => rfl) (r_87_1 hL) <| w_getR (ci := 6) (kf := 0) (kz := 0) DX0_search_94W (s_102 hL) rfl (by decide) rfl (Or.inr ⟨_, q844⟩) (fun _ _ => rfl) (r_102_0 hL) <| v_iload_n 1 DX0_search_97W rfl rfl <| ?_
    obtain ⟨k16, k17, h⟩ := h
    refine v_zald DX0_search_98W (s_103 hL) k16 k17 (fun f18 => ?_)
    have h := h f18
    refine v_if_eq (tg := 123) DX0_search_99W (by decide) (inR_z f18) (fun c19 => ?_) (fun c19 => ?_)
    · have h := h.1 c19
      refine v_ldc2 (x := (-1)) DX0_search_123W q1898 rfl <| v_lstore DX0_search_126W (by decide) rfl <| v_lload 0 DX0_search_128W rfl <| v_lconst DX0_search_130W <| ?_
      refine v_lc_lt (tg := 142) DX0_search_131W DX0_search_132W (by decide) ⟨by decide, by decide⟩ ⟨by decide, by decide⟩ (fun c20 => ?_) (fun c20 => ?_)
      · have h := h.1 c20
        refine v_iinc 2 DX0_search_142W rfl (by decide) rfl <| v_goto (pc' := 79) DX0_search_145W.1 (by decide) <| ?_
        exact v_pick [2, 0] rfl h
      · have h := h.2 c20
        refine v_aload_n 1 DX0_search_135W rfl rfl <| v_iload_n 2 DX0_search_136W rfl rfl <| v_lload 0 DX0_search_137W rfl <| ?_
        obtain ⟨k21, h⟩ := h
        obtain ⟨k22, k23, k24, h⟩ := h
        refine v_invV (ci := 0) (as := [aI (x3), aL ((-1))]) (st := []) DX0_search_139W rfl okX0_addHit (Or.inl q1899) q1901 (s_0 hL) rfl qs79 npX0_addHit (sp_X0_addHit (σ := σ) (x1 := x3) (y2 := ((-1) : Int)) k21 hL k22 k23 k24) (Nat.le_of_ble_eq_true rfl) (Nat.le_refl _) (Nat.le_of_ble_eq_true rfl) (RV_ret (fun σ25 gσ25 eσ25 => ?_)) RV_thr
        have h := h σ25 gσ25 eσ25
        refine v_iinc 2 DX0_search_142W rfl (by decide) rfl <| v_goto (pc' := 79) DX0_search_145W.1 (by decide) <| ?_
        exact v_pick [2, 0] rfl h
    · have h := h.2 c19
      refine v_aload_n 0 DX0_search_102W rfl rfl <| w_getR (ci := 0) (kf := 60) (kz := 60) DX0_search_103W (s_0 hL) rfl (by decide) rfl (Or.inl q1106) (fun _ _ => rfl) (r_0_60 hL) <| v_aload_n 0 DX0_search_106W rfl rfl <| w_getR (ci := 0) (kf := 60) (kz := 60) DX0_search_107W (s_0 hL) rfl (by decide) rfl (Or.inl q1106) (fun _ _ => rfl) (r_0_60 hL) <| w_getR (ci := 5) (kf := 0) (kz := 0) DX0_search_110W (s_87 hL) rfl (by decide) rfl (Or.inr ⟨_, q886⟩) (fun _ _ => rfl) (r_87_0 hL) <| ?_
      refine w_getI (ci := 3) (kf := 4) (kz := 4) DX0_search_113W (s_88 hL) rfl (by decide) rfl (Or.inr ⟨_, q733⟩) (fun _ _ => rfl) (fun f26 => ?_)
      have h := h f26
      refine v_iload_n 1 DX0_search_116W rfl rfl <| ?_
      obtain ⟨k27, h⟩ := h
      obtain ⟨k28, k29, k30, k31, k32, k33, h⟩ := h
      refine v_invV (ci := 5) (as := [aI (σ.I 88 4), aI (x3)]) (st := []) DX0_search_117W rfl okX5_score (Or.inl q1852) q1853 (s_87 hL) rfl q1854 npX5_score (sx_X5_score (σ := σ) (o0 := 87) (x1 := σ.I 88 4) (x2 := x3) (V := (vXX σ 87)) (f := 130) k27 hL (lat_87 hL) k28 k29 k30 k31 k32 k33) (Nat.le_of_ble_eq_true rfl) (Nat.le_refl _) (Nat.le_of_ble_eq_true rfl) (RVL_ret (fun y35 σ34 y35f gσ34 eσ34 => ?_)) RVL_thr
      have h := h y35 σ34 y35f gσ34 eσ34
      refine v_goto (pc' := 126) DX0_search_120W.1 (by decide) <| v_lstore DX0_search_126W (by decide) rfl <| v_lload 0 DX0_search_128W rfl <| v_lconst DX0_search_130W <| ?_
      refine v_lc_lt (tg := 142) DX0_search_131W DX0_search_132W (by decide) y35f ⟨by decide, by decide⟩ (fun c36 => ?_) (fun c36 => ?_)
      · have h := h.1 c36
        refine v_iinc 2 DX0_search_142W rfl (by decide) rfl <| v_goto (pc' := 79) DX0_search_145W.1 (by decide) <| ?_
        exact v_pick [2, 0] rfl h
      · have h := h.2 c36
        refine v_aload_n 1 DX0_search_135W rfl rfl <| v_iload_n 2 DX0_search_136W rfl rfl <| v_lload 0 DX0_search_137W rfl <| ?_
        obtain ⟨k37, h⟩ := h
        obtain ⟨k38, k39, k40, h⟩ := h
        refine v_invV (ci := 0) (as := [aI (x3), aL (y35)]) (st := []) DX0_search_139W rfl okX0_addHit (Or.inl q1899) q1901 (s_0 (hL.sf gσ34)) rfl qs79 npX0_addHit (sp_X0_addHit (σ := σ34) (x1 := x3) (y2 := y35) k37 (hL.sf gσ34) k38 k39 k40) (Nat.le_of_ble_eq_true rfl) (Nat.le_refl _) (Nat.le_of_ble_eq_true rfl) (RV_ret (fun σ41 gσ41 eσ41 => ?_)) RV_thr
        have h := h σ41 gσ41 eσ41
        refine v_iinc 2 DX0_search_142W rfl (by decide) rfl <| v_goto (pc' := 79) DX0_search_145W.1 (by decide) <| ?_
        exact v_pick [2, 0] rfl h
theorem sp_X0_searchW {E : XE} {d : Nat} {σ : Sto} {K : Int} {V : Int} {x1 : Int} (hd : 528 ≤ d) (hL : Lay σ)  (p0 : inR x1) (p1 : 0 ≤ σ.I 0 46 ∧ σ.I 0 46 < 4) (p2 : BSX σ K V) (p3 : 0 < σ.I 0 46 → σ.I (ubX σ) 1 ≠ 0 → QLX σ (ubX σ)) (p4 : PBD σ 155) (p5 : PBD σ 87) (p6 : σ.I 0 48 ≠ 0 → QLX σ 50) (p7 : (1 ≤ σ.I 0 96 ∧ σ.I 0 96 ≤ 8) ∧ (1 ≤ σ.I 0 95 ∧ σ.I 0 95 ≤ 8)) (p8 : bd_0_1000000 σ 211 8) (p9 : inR (if x1 = -1 then σ.I 0 40 else if 0 ≤ x1 ∧ x1 ≤ 3 then σ.I 48 x1 else -1)) (p10 : -1 ≤ σ.I 0 64 ∧ σ.I 0 64 < 12) (p11 : 0 ≤ σ.I 0 65 ∧ σ.I 0 65 ≤ 1) : CC E mX0_search d [aO 0, aI (x1)] σ (RVI (fun y τ => (((if x1 = -1 then σ.I 0 40 else if 0 ≤ x1 ∧ x1 ≤ 3 then σ.I 48 x1 else -1) < 0 ∧ y = -1 ∧ RD σ τ (fun c i => if fgX c i then 0 else σ.I c i)) ∨ (0 ≤ (if x1 = -1 then σ.I 0 40 else if 0 ≤ x1 ∧ x1 ≤ 3 then σ.I 48 x1 else -1) ∧ σ.I 0 48 = 0 ∧ y = -2 ∧ RD σ τ (fun c i => if fgX c i then 0 else σ.I c i)) ∨ (0 ≤ (if x1 = -1 then σ.I 0 40 else if 0 ≤ x1 ∧ x1 ≤ 3 then σ.I 48 x1 else -1) ∧ σ.I 0 48 ≠ 0 ∧ ¬ alN (fun s => 0 ≤ nOf (σ.I 210) (σ.I 0 96) s) (σ.I 0 95) ∧ y = -4 ∧ RD σ τ (fun c i => if fgX c i then 0 else σ.I c i)) ∨ (0 ≤ (if x1 = -1 then σ.I 0 40 else if 0 ≤ x1 ∧ x1 ≤ 3 then σ.I 48 x1 else -1) ∧ σ.I 0 48 ≠ 0 ∧ alN (fun s => 0 ≤ nOf (σ.I 210) (σ.I 0 96) s) (σ.I 0 95) ∧ y = τ.I 0 70 ∧ SXR σ τ K V (if x1 = -1 then σ.I 0 40 else if 0 ≤ x1 ∧ x1 ≤ 3 then σ.I 48 x1 else -1))) ∧ (PBD τ 155 ∧ PBD τ 87) ∧ (KXs σ τ))) := by
  obtain ⟨d, rfl⟩ : ∃ e, d = e + 1 := ⟨d - 1, by omega⟩
  have p0a := p0.1; have p0b := p0.2
  have p9a := p9.1; have p9b := p9.2
  have hnx := p2.2.1
  have key : ∀ wa wb wc : Nat, (∀ (x3 : Int) (τ : Sto), SF σ τ → ((KXs σ τ) ∧ (0 ≤ x3 ∧ x3 ≤ (σ.I 0 39)) ∧ (SX7 σ τ K V (if x1 = -1 then σ.I 0 40 else if 0 ≤ x1 ∧ x1 ≤ 3 then σ.I 48 x1 else -1) x3) ∧ (SCR τ 87) ∧ (0 ≤ (if x1 = -1 then σ.I 0 40 else if 0 ≤ x1 ∧ x1 ≤ 3 then σ.I 48 x1 else -1) ∧ σ.I 0 48 ≠ 0 ∧ alN (fun s => 0 ≤ nOf (σ.I 210) (σ.I 0 96) s) (σ.I 0 95)) ∧ (τ.I 0 39 = (σ.I 0 39) ∧ τ.I 0 64 = σ.I 0 64 ∧ τ.I 0 65 = σ.I 0 65) ∧ (OB τ 42 43) ∧ (PBD τ 155 ∧ PBD τ 87)) → wa = (601 - x3).toNat → wb = 0 → wc = 0 → VV E mX0_search (d + 1) 79 [(0, aO 0), (3, aI (x3))] [] τ (RVI (fun y τ => (((if x1 = -1 then σ.I 0 40 else if 0 ≤ x1 ∧ x1 ≤ 3 then σ.I 48 x1 else -1) < 0 ∧ y = -1 ∧ RD σ τ (fun c i => if fgX c i then 0 else σ.I c i)) ∨ (0 ≤ (if x1 = -1 then σ.I 0 40 else if 0 ≤ x1 ∧ x1 ≤ 3 then σ.I 48 x1 else -1) ∧ σ.I 0 48 = 0 ∧ y = -2 ∧ RD σ τ (fun c i => if fgX c i then 0 else σ.I c i)) ∨ (0 ≤ (if x1 = -1 then σ.I 0 40 else if 0 ≤ x1 ∧ x1 ≤ 3 then σ.I 48 x1 else -1) ∧ σ.I 0 48 ≠ 0 ∧ ¬ alN (fun s => 0 ≤ nOf (σ.I 210) (σ.I 0 96) s) (σ.I 0 95) ∧ y = -4 ∧ RD σ τ (fun c i => if fgX c i then 0 else σ.I c i)) ∨ (0 ≤ (if x1 = -1 then σ.I 0 40 else if 0 ≤ x1 ∧ x1 ≤ 3 then σ.I 48 x1 else -1) ∧ σ.I 0 48 ≠ 0 ∧ alN (fun s => 0 ≤ nOf (σ.I 210) (σ.I 0 96) s) (σ.I 0 95) ∧ y = τ.I 0 70 ∧ SXR σ τ K V (if x1 = -1 then σ.I 0 40 else if 0 ≤ x1 ∧ x1 ≤ 3 then σ.I 48 x1 else -1))) ∧ (PBD τ 155 ∧ PBD τ 87) ∧ (KXs σ τ)))) := by
    refine lex3 (fun wa wb wc ih => ?_)
    have ih0 : ∀ (x3 : Int) (τ : Sto), SF σ τ → ((KXs σ τ) ∧ (0 ≤ x3 ∧ x3 ≤ (σ.I 0 39)) ∧ (SX7 σ τ K V (if x1 = -1 then σ.I 0 40 else if 0 ≤ x1 ∧ x1 ≤ 3 then σ.I 48 x1 else -1) x3) ∧ (SCR τ 87) ∧ (0 ≤ (if x1 = -1 then σ.I 0 40 else if 0 ≤ x1 ∧ x1 ≤ 3 then σ.I 48 x1 else -1) ∧ σ.I 0 48 ≠ 0 ∧ alN (fun s => 0 ≤ nOf (σ.I 210) (σ.I 0 96) s) (σ.I 0 95)) ∧ (τ.I 0 39 = (σ.I 0 39) ∧ τ.I 0 64 = σ.I 0 64 ∧ τ.I 0 65 = σ.I 0 65) ∧ (OB τ 42 43) ∧ (PBD τ 155 ∧ PBD τ 87)) → lt3 ((601 - x3).toNat) 0 0 wa wb wc → VV E mX0_search (d + 1) 79 [(0, aO 0), (3, aI (x3))] [] τ (RVI (fun y τ => (((if x1 = -1 then σ.I 0 40 else if 0 ≤ x1 ∧ x1 ≤ 3 then σ.I 48 x1 else -1) < 0 ∧ y = -1 ∧ RD σ τ (fun c i => if fgX c i then 0 else σ.I c i)) ∨ (0 ≤ (if x1 = -1 then σ.I 0 40 else if 0 ≤ x1 ∧ x1 ≤ 3 then σ.I 48 x1 else -1) ∧ σ.I 0 48 = 0 ∧ y = -2 ∧ RD σ τ (fun c i => if fgX c i then 0 else σ.I c i)) ∨ (0 ≤ (if x1 = -1 then σ.I 0 40 else if 0 ≤ x1 ∧ x1 ≤ 3 then σ.I 48 x1 else -1) ∧ σ.I 0 48 ≠ 0 ∧ ¬ alN (fun s => 0 ≤ nOf (σ.I 210) (σ.I 0 96) s) (σ.I 0 95) ∧ y = -4 ∧ RD σ τ (fun c i => if fgX c i then 0 else σ.I c i)) ∨ (0 ≤ (if x1 = -1 then σ.I 0 40 else if 0 ≤ x1 ∧ x1 ≤ 3 then σ.I 48 x1 else -1) ∧ σ.I 0 48 ≠ 0 ∧ alN (fun s => 0 ≤ nOf (σ.I 210) (σ.I 0 96) s) (σ.I 0 95) ∧ y = τ.I 0 70 ∧ SXR σ τ K V (if x1 = -1 then σ.I 0 40 else if 0 ≤ x1 ∧ x1 ≤ 3 then σ.I 48 x1 else -1))) ∧ (PBD τ 155 ∧ PBD τ 87) ∧ (KXs σ τ))) := fun z0 z1 h0 h1 hlt => (ih _ _ _ hlt) z0 z1 h0 h1 rfl rfl rfl
    clear ih
    skip
    · rintro x3 τ gτ ⟨i0, i1, i2, i3, i4, i5, i6, i7⟩ ha hb hc
      subst ha hb hc
      have hbb := (show (0 ≤ τ.I 0 70 ∧ τ.I 0 70 ≤ x3) ∧ ∀ i, 0 ≤ i → i < τ.I 0 70 → 0 ≤ τ.I 189 i ∧ τ.I 189 i < x3 from (by obtain ⟨ς, α, β, ρ, _, _, _, q⟩ := i2; exact HLX_b q i1.1))
      obtain ⟨hb1, hb2⟩ := hbb
      have hscr := SCR_s i3 x3
      have h103 := hdI (fun (h : x3 < (σ.I 0 39)) => (show (τ.I 103 x3 = 0 ∨ τ.I 103 x3 = 1) ∧ τ.I (87 + 15) 7 = (σ.I 0 39) from SX7_s i2 (show (0:Int) ≤ x3 from i1.1) h))
      have hsn := hdI (fun (h : x3 < (σ.I 0 39) ∧ τ.I 103 x3 ≠ 0) => (show snW τ 87 x3 from ⟨by have z := ((hdO h103) h.1).2; omega, by show τ.I 103 x3 = 1; have z := ((hdO h103) h.1).1; omega⟩))
      have hb2 := hdI hb2
      refine ucX0_search_79W (K := K) (V := V) (hL.sf gτ)  ?_
      rintro ⟨f1, f1q⟩
      refine ⟨?_, ?_⟩
      · (first | exact ⟨by omega, by omega⟩ | assumption)
      refine ⟨fun c2 => ?_, fun c3 => ?_⟩
      · intro σ4 eσ4 gσ4
        have kσ4 : KXs τ σ4 := KXs_w eσ4 (by unfold wsXs; omega)
        have k4 : ∀ c i, ¬ (c = 0 ∧ i = 71) → σ4.I c i = τ.I c i := fun c i q => (by rw [eσ4, I_wI, if_neg q])
        have v64 : σ4.I 0 64 = σ.I 0 64 := (k4 _ _ (by omega)).trans i5.2.1
        have v65 : σ4.I 0 65 = σ.I 0 65 := (k4 _ _ (by omega)).trans i5.2.2
        have v70 : σ4.I 0 70 = τ.I 0 70 := k4 _ _ (by omega)
        have hO4 : OB σ4 42 43 := (by unfold OB; rw [show σ4.I 42 = τ.I 42 from funext fun i => k4 _ _ (by omega), show σ4.I 43 = τ.I 43 from funext fun i => k4 _ _ (by omega)]; exact i6)
        have h74 : SX7 σ σ4 K V (if x1 = -1 then σ.I 0 40 else if 0 ≤ x1 ∧ x1 ≤ 3 then σ.I 48 x1 else -1) (σ.I 0 39) := (by have e : x3 = (σ.I 0 39) := (by omega); rw [← e]; exact SX7_e i2 (fun c i q => k4 c i (by omega)) (fun c i q => k4 c i (by omega)))
        have hh4 : ∀ i, 0 ≤ i → i < σ4.I 0 70 → 0 ≤ σ4.I 189 i ∧ σ4.I 189 i < 600 := fun i a b => (by rw [k4 _ _ (by omega)]; have z := (hdO hb2) i a (by omega); omega)
        rintro ⟨f4, f4q⟩
        rintro ⟨f5, f5q⟩
        refine ⟨?_, ?_⟩
        · omega
        refine ⟨?_, ?_⟩
        · (first | omega | exact ⟨by omega, by omega⟩ | assumption)
        refine ⟨?_, ?_⟩
        · (first | omega | exact ⟨by omega, by omega⟩ | assumption)
        refine ⟨?_, ?_⟩
        · (first | omega | exact ⟨by omega, by omega⟩ | assumption)
        refine ⟨?_, ?_⟩
        · (first | omega | exact ⟨by omega, by omega⟩ | assumption)
        refine ⟨?_, ?_⟩
        · (clear ih0; first | exact hO4 | exact i6)
        refine ⟨?_, ?_⟩
        · (clear ih0; exact hh4)
        rintro σ14 gσ14 ⟨eσ14_0, eσ14_1⟩
        have kσ14 : KXs σ4 σ14 := KXs_of_KSo eσ14_1
        have kσ14r := eσ14_1.1.1
        have k14 : ∀ c i, ¬ wsSo c i → σ14.I c i = σ4.I c i := eσ14_1.2
        have hXR : SXR σ σ14 K V (if x1 = -1 then σ.I 0 40 else if 0 ≤ x1 ∧ x1 ≤ 3 then σ.I 48 x1 else -1) := ⟨σ4, h74, ⟨v64, v65⟩, eσ14_0, eσ14_1, by rw [eσ4]; exact I_same _ _ _ _⟩
        have hP14 : PBD σ14 155 ∧ PBD σ14 87 := ⟨PBD_e i7.1 (fun c i q => (k14 c i (by unfold wsSo; omega)).trans (k4 c i (by omega))), PBD_e i7.2 (fun c i q => (k14 c i (by unfold wsSo; omega)).trans (k4 c i (by omega)))⟩
        rintro ⟨f6, f6q⟩
        refine RVI_mk ?_ ?_
        · (first | exact ⟨by omega, by omega⟩ | assumption)
        · refine ⟨?_, ?_, ?_⟩
          · (clear ih0; exact Or.inr (Or.inr (Or.inr ⟨i4.1, i4.2.1, i4.2.2, rfl, hXR⟩)))
          · (clear ih0; first | exact hP14 | exact hP41 | exact hP34 | exact i7 | (exfalso; omega))
          · exact (Ch.tr (Ch.tr i0 kσ4) kσ14)
      · refine ⟨?_, ?_⟩
        · (first | omega | exact ⟨by omega, by omega⟩ | assumption)
        refine ⟨?_, ?_⟩
        · (first | omega | exact ⟨by omega, by omega⟩ | assumption)
        rintro ⟨f7, f7q⟩
        refine ⟨fun c8 => ?_, fun c9 => ?_⟩
        · refine ⟨fun c10 => ?_, fun c11 => ?_⟩
          · refine ih0 _ _ gτ ⟨?_, ?_, ?_, ?_, ?_, ?_, ?_, ?_⟩ ?_
            · exact i0
            · (first | omega | exact ⟨by omega, by omega⟩ | assumption)
            · (clear ih0; first | exact h7y | exact SX7_n i2 i1.1 a34 (fun z => by have w := hscr.2 z.2; omega) (fun c i q => f34 c i (by omega)) | exact SX7_n i2 i1.1 (fun c i q => rfl) (fun z => by have w := z.1; omega) (fun c i q => rfl) | (exfalso; omega))
            · (clear ih0; first | exact hS41 | exact hS34 | exact i3 | (exfalso; omega))
            · (clear ih0; exact i4)
            · (clear ih0; first | exact i5 | exact ⟨(o41 39 (by decide)).trans i5.1, (o41 64 (by decide)).trans i5.2.1, (o41 65 (by decide)).trans i5.2.2⟩ | exact ⟨(o34 39).trans i5.1, (o34 64).trans i5.2.1, (o34 65).trans i5.2.2⟩ | (exfalso; omega))
            · (clear ih0; first | exact hO41 | exact hO34 | exact i6 | exact hO4 | (exfalso; omega))
            · (clear ih0; first | exact hP14 | exact hP41 | exact hP34 | exact i7 | (exfalso; omega))
            · (unfold lt3; omega)
          · refine ⟨?_, ?_⟩
            · omega
            refine ⟨?_, ?_⟩
            · (first | omega | exact ⟨by omega, by omega⟩ | assumption)
            refine ⟨?_, ?_⟩
            · (first | omega | exact ⟨by omega, by omega⟩ | assumption)
            refine ⟨?_, ?_⟩
            · (first | omega | exact ⟨by omega, by omega⟩ | assumption)
            rintro σ25 gσ25 ⟨⟨eσ25r, eσ25s, eσ25n⟩, eσ25⟩
            have kσ25 : KXs τ σ25 := (by exfalso; omega)
            refine ih0 _ _ (gτ.tr gσ25) ⟨?_, ?_, ?_, ?_, ?_, ?_, ?_, ?_⟩ ?_
            · exact (Ch.tr i0 kσ25)
            · (first | omega | exact ⟨by omega, by omega⟩ | assumption)
            · (clear ih0; first | exact h7y | exact SX7_n i2 i1.1 a34 (fun z => by have w := hscr.2 z.2; omega) (fun c i q => f34 c i (by omega)) | exact SX7_n i2 i1.1 (fun c i q => rfl) (fun z => by have w := z.1; omega) (fun c i q => rfl) | (exfalso; omega))
            · (clear ih0; first | exact hS41 | exact hS34 | exact i3 | (exfalso; omega))
            · (clear ih0; exact i4)
            · (clear ih0; first | exact i5 | exact ⟨(o41 39 (by decide)).trans i5.1, (o41 64 (by decide)).trans i5.2.1, (o41 65 (by decide)).trans i5.2.2⟩ | exact ⟨(o34 39).trans i5.1, (o34 64).trans i5.2.1, (o34 65).trans i5.2.2⟩ | (exfalso; omega))
            · (clear ih0; first | exact hO41 | exact hO34 | exact i6 | exact hO4 | (exfalso; omega))
            · (clear ih0; first | exact hP14 | exact hP41 | exact hP34 | exact i7 | (exfalso; omega))
            · (unfold lt3; omega)
        · rintro ⟨f12, f12q⟩
          refine ⟨?_, ?_⟩
          · (first | omega | exact ⟨by omega, by omega⟩ | assumption)
          refine ⟨?_, ?_⟩
          · (first | omega | exact ⟨by omega, by omega⟩ | assumption)
          refine ⟨?_, ?_⟩
          · (clear ih0; exact i3.1)
          refine ⟨?_, ?_⟩
          · (clear ih0; exact i3.2.1)
          refine ⟨?_, ?_⟩
          · (clear ih0; exact i3.2.2)
          refine ⟨?_, ?_⟩
          · (clear ih0; exact ⟨⟨by omega, by omega⟩, (hdO hsn) ⟨by omega, by omega⟩⟩)
          refine ⟨?_, ?_⟩
          · (first | omega | exact ⟨by omega, by omega⟩ | assumption)
          rintro y35 σ34 ⟨y35f, y35fq⟩ gσ34 ⟨eσ34_0, eσ34_1, eσ34_2⟩
          have kσ34 : KXs τ σ34 := KXs_of_KNf eσ34_2
          have kσ34r := eσ34_2.1.1
          have a34 : SAG τ σ34 87 := fun c i q => eσ34_2.2 c i (by unfold wsNf; omega)
          have f34 : ∀ c i, c ≠ 87 + 29 → σ34.I c i = τ.I c i := fun c i q => eσ34_2.2 c i (by unfold wsNf; omega)
          have hS34 : SCR σ34 87 := SCR_a a34 eσ34_1 i3
          have hy : y35 = scW (tabS (GX τ 87)) (vXX τ 87) (τ.I (87 + 1) 4) x3 := eσ34_0
          have hP34 : PBD σ34 155 ∧ PBD σ34 87 := ⟨PBD_e i7.1 (fun c i q => f34 c i (by omega)), PBD_e i7.2 (fun c i q => f34 c i (by omega))⟩
          have c34 : σ34.I 0 70 = τ.I 0 70 := f34 _ _ (by decide)
          have o34 : ∀ i, σ34.I 0 i = τ.I 0 i := fun i => f34 _ _ (by decide)
          have hO34 : OB σ34 42 43 := (by unfold OB; rw [show σ34.I 42 = τ.I 42 from funext fun i => f34 _ _ (by decide), show σ34.I 43 = τ.I 43 from funext fun i => f34 _ _ (by decide)]; exact i6)
          have hyb : -1 ≤ y35 ∧ y35 ≤ 1000000000000000 := (by rw [hy]; exact SCR_b i3 x3)
          refine ⟨fun c13 => ?_, fun c14 => ?_⟩
          · refine ih0 _ _ (gτ.tr gσ34) ⟨?_, ?_, ?_, ?_, ?_, ?_, ?_, ?_⟩ ?_
            · exact (Ch.tr i0 kσ34)
            · (first | omega | exact ⟨by omega, by omega⟩ | assumption)
            · (clear ih0; first | exact h7y | exact SX7_n i2 i1.1 a34 (fun z => by have w := hscr.2 z.2; omega) (fun c i q => f34 c i (by omega)) | exact SX7_n i2 i1.1 (fun c i q => rfl) (fun z => by have w := z.1; omega) (fun c i q => rfl) | (exfalso; omega))
            · (clear ih0; first | exact hS41 | exact hS34 | exact i3 | (exfalso; omega))
            · (clear ih0; exact i4)
            · (clear ih0; first | exact i5 | exact ⟨(o41 39 (by decide)).trans i5.1, (o41 64 (by decide)).trans i5.2.1, (o41 65 (by decide)).trans i5.2.2⟩ | exact ⟨(o34 39).trans i5.1, (o34 64).trans i5.2.1, (o34 65).trans i5.2.2⟩ | (exfalso; omega))
            · (clear ih0; first | exact hO41 | exact hO34 | exact i6 | exact hO4 | (exfalso; omega))
            · (clear ih0; first | exact hP14 | exact hP41 | exact hP34 | exact i7 | (exfalso; omega))
            · (unfold lt3; omega)
          · refine ⟨?_, ?_⟩
            · omega
            refine ⟨?_, ?_⟩
            · (first | omega | exact ⟨by omega, by omega⟩ | assumption)
            refine ⟨?_, ?_⟩
            · (first | omega | exact ⟨by omega, by omega⟩ | assumption)
            refine ⟨?_, ?_⟩
            · (first | omega | exact ⟨by omega, by omega⟩ | assumption)
            rintro σ41 gσ41 ⟨⟨eσ41r, eσ41s, eσ41n⟩, eσ41⟩
            have k41 : ∀ c i, c ≠ 189 → c ≠ 190 → ¬ (c = 0 ∧ i = 70) → σ41.I c i = σ34.I c i := fun c i a b d => (by rw [eσ41]; show (if at2 c i _ _ then _ else if at2 c i _ _ then _ else if at2 c i _ _ then _ else _) = _; rw [if_neg (fun z => a z.1), if_neg (fun z => b z.1), if_neg (fun z => d z)])
            have kσ41 : KXs σ34 σ41 := ⟨⟨eσ41r, eσ41s, eσ41n⟩, fun c i q => k41 c i (fun z => q (by unfold wsXs; omega)) (fun z => q (by unfold wsXs; omega)) (fun z => q (by unfold wsXs fgX; omega))⟩
            have a41 : SAG σ34 σ41 87 := fun c i q => k41 c i (by omega) (by omega) (by omega)
            have hS41 : SCR σ41 87 := SCR_a a41 (SNX_a a41 (fun i => k41 _ _ (by decide) (by decide) (by omega)) hS34.2.1) hS34
            have hP41 : PBD σ41 155 ∧ PBD σ41 87 := ⟨PBD_e hP34.1 (fun c i q => k41 c i (by omega) (by omega) (by omega)), PBD_e hP34.2 (fun c i q => k41 c i (by omega) (by omega) (by omega))⟩
            have hO41 : OB σ41 42 43 := (by unfold OB; rw [show σ41.I 42 = σ34.I 42 from funext fun i => k41 _ _ (by decide) (by decide) (by omega), show σ41.I 43 = σ34.I 43 from funext fun i => k41 _ _ (by decide) (by decide) (by omega)]; exact hO34)
            have o41 : ∀ i, i ≠ 70 → σ41.I 0 i = τ.I 0 i := fun i q => (k41 _ _ (by decide) (by decide) (by omega)).trans (o34 i)
            have h7y : SX7 σ σ41 K V (if x1 = -1 then σ.I 0 40 else if 0 ≤ x1 ∧ x1 ≤ 3 then σ.I 48 x1 else -1) (x3 + 1) := SX7_y i2 i1.1 a34 a41 ⟨by have z := ((hdO h103) (by omega)).1; omega, Classical.byContradiction (fun z => by have w := hscr.1.mpr z; omega)⟩ hy (fun c i q => f34 c i (by omega)) eσ41
            refine ih0 _ _ ((gτ.tr gσ34).tr gσ41) ⟨?_, ?_, ?_, ?_, ?_, ?_, ?_, ?_⟩ ?_
            · exact (Ch.tr (Ch.tr i0 kσ34) kσ41)
            · (first | omega | exact ⟨by omega, by omega⟩ | assumption)
            · (clear ih0; first | exact h7y | exact SX7_n i2 i1.1 a34 (fun z => by have w := hscr.2 z.2; omega) (fun c i q => f34 c i (by omega)) | exact SX7_n i2 i1.1 (fun c i q => rfl) (fun z => by have w := z.1; omega) (fun c i q => rfl) | (exfalso; omega))
            · (clear ih0; first | exact hS41 | exact hS34 | exact i3 | (exfalso; omega))
            · (clear ih0; exact i4)
            · (clear ih0; first | exact i5 | exact ⟨(o41 39 (by decide)).trans i5.1, (o41 64 (by decide)).trans i5.2.1, (o41 65 (by decide)).trans i5.2.2⟩ | exact ⟨(o34 39).trans i5.1, (o34 64).trans i5.2.1, (o34 65).trans i5.2.2⟩ | (exfalso; omega))
            · (clear ih0; first | exact hO41 | exact hO34 | exact i6 | exact hO4 | (exfalso; omega))
            · (clear ih0; first | exact hP14 | exact hP41 | exact hP34 | exact i7 | (exfalso; omega))
            · (unfold lt3; omega)
  have k0_ : ∀ (x3 : Int) (τ : Sto), SF σ τ → ((KXs σ τ) ∧ (0 ≤ x3 ∧ x3 ≤ (σ.I 0 39)) ∧ (SX7 σ τ K V (if x1 = -1 then σ.I 0 40 else if 0 ≤ x1 ∧ x1 ≤ 3 then σ.I 48 x1 else -1) x3) ∧ (SCR τ 87) ∧ (0 ≤ (if x1 = -1 then σ.I 0 40 else if 0 ≤ x1 ∧ x1 ≤ 3 then σ.I 48 x1 else -1) ∧ σ.I 0 48 ≠ 0 ∧ alN (fun s => 0 ≤ nOf (σ.I 210) (σ.I 0 96) s) (σ.I 0 95)) ∧ (τ.I 0 39 = (σ.I 0 39) ∧ τ.I 0 64 = σ.I 0 64 ∧ τ.I 0 65 = σ.I 0 65) ∧ (OB τ 42 43) ∧ (PBD τ 155 ∧ PBD τ 87)) → VV E mX0_search (d + 1) 79 [(0, aO 0), (3, aI (x3))] [] τ (RVI (fun y τ => (((if x1 = -1 then σ.I 0 40 else if 0 ≤ x1 ∧ x1 ≤ 3 then σ.I 48 x1 else -1) < 0 ∧ y = -1 ∧ RD σ τ (fun c i => if fgX c i then 0 else σ.I c i)) ∨ (0 ≤ (if x1 = -1 then σ.I 0 40 else if 0 ≤ x1 ∧ x1 ≤ 3 then σ.I 48 x1 else -1) ∧ σ.I 0 48 = 0 ∧ y = -2 ∧ RD σ τ (fun c i => if fgX c i then 0 else σ.I c i)) ∨ (0 ≤ (if x1 = -1 then σ.I 0 40 else if 0 ≤ x1 ∧ x1 ≤ 3 then σ.I 48 x1 else -1) ∧ σ.I 0 48 ≠ 0 ∧ ¬ alN (fun s => 0 ≤ nOf (σ.I 210) (σ.I 0 96) s) (σ.I 0 95) ∧ y = -4 ∧ RD σ τ (fun c i => if fgX c i then 0 else σ.I c i)) ∨ (0 ≤ (if x1 = -1 then σ.I 0 40 else if 0 ≤ x1 ∧ x1 ≤ 3 then σ.I 48 x1 else -1) ∧ σ.I 0 48 ≠ 0 ∧ alN (fun s => 0 ≤ nOf (σ.I 210) (σ.I 0 96) s) (σ.I 0 95) ∧ y = τ.I 0 70 ∧ SXR σ τ K V (if x1 = -1 then σ.I 0 40 else if 0 ≤ x1 ∧ x1 ≤ 3 then σ.I 48 x1 else -1))) ∧ (PBD τ 155 ∧ PBD τ 87) ∧ (KXs σ τ))) := fun z0 z1 h0 h1 => (key _ _ _) z0 z1 h0 h1 rfl rfl rfl
  clear key
  refine ucX0_search_0W (K := K) (V := V) hL  ?_
  refine ⟨?_, ?_⟩
  · omega
  rintro σ2 gσ2 ⟨⟨eσ2r, eσ2s, eσ2n⟩, eσ2⟩
  have h2 : ∀ c i, ¬ fgX c i → σ2.I c i = σ.I c i := fun c i q => (by rw [eσ2]; exact if_neg q)
  have h2c : ∀ c i, c ≠ 0 → σ2.I c i = σ.I c i := fun c i q => h2 c i (fun z => by unfold fgX at z; omega)
  have h2f : σ2.I 0 48 = σ.I 0 48 ∧ σ2.I 0 40 = σ.I 0 40 ∧ σ2.I 0 96 = σ.I 0 96 ∧ σ2.I 0 95 = σ.I 0 95 ∧ σ2.I 48 x1 = σ.I 48 x1 := ⟨h2 _ _ (by unfold fgX; omega), h2 _ _ (by unfold fgX; omega), h2 _ _ (by unfold fgX; omega), h2 _ _ (by unfold fgX; omega), h2c _ _ (by decide)⟩
  have kσ2 : KXs σ σ2 := ⟨⟨eσ2r, eσ2s, eσ2n⟩, fun c i q => h2 c i (fun z => q (by unfold wsXs; exact Or.inr (Or.inr (Or.inr (Or.inr (Or.inr (Or.inr (Or.inr (Or.inr (Or.inr z))))))))))⟩
  have hR2 : RD σ σ2 (fun c i => if fgX c i then 0 else σ.I c i) := ⟨⟨eσ2r, eσ2s, eσ2n⟩, eσ2⟩
  have hP2 : PBD σ2 155 ∧ PBD σ2 87 := ⟨PBD_e p4 (fun c i q => h2c c i (by omega)), PBD_e p5 (fun c i q => h2c c i (by omega))⟩
  have h9 : bd_0_1000000 σ2 211 8 := bd_0_1000000_eq p8 (funext fun i => h2c _ _ (by decide))
  refine ⟨?_, ?_⟩
  · omega
  refine ⟨?_, ?_⟩
  · (first | omega | exact ⟨by omega, by omega⟩ | assumption)
  rintro y5 y5e ⟨y5f, y5fq⟩
  have hy5 : y5 = (if x1 = -1 then σ.I 0 40 else if 0 ≤ x1 ∧ x1 ≤ 3 then σ.I 48 x1 else -1) := (by rw [y5e, h2f.2.1, h2f.2.2.2.2])
  refine ⟨fun c1 => ?_, fun c2 => ?_⟩
  · rintro ⟨f3, f3q⟩
    refine ⟨fun c4 => ?_, fun c5 => ?_⟩
    · refine ⟨?_, ?_⟩
      · omega
      refine ⟨?_, ?_⟩
      · (first | omega | exact ⟨by omega, by omega⟩ | assumption)
      refine ⟨?_, ?_⟩
      · (first | omega | exact ⟨by omega, by omega⟩ | assumption)
      refine ⟨?_, ?_⟩
      · (clear k0_; exact h9)
      rintro y14 σ13 ⟨y14f, y14fq⟩ gσ13 ⟨eσ13_0, ⟨⟨eσ13_1r, eσ13_1s, eσ13_1n⟩, eσ13_1⟩⟩
      have hal : alN (fun s => 0 ≤ nOf (σ2.I 210) (σ2.I 0 96) s) (σ2.I 0 95) ↔ alN (fun s => 0 ≤ nOf (σ.I 210) (σ.I 0 96) s) (σ.I 0 95) := (by rw [h2f.2.2.1, h2f.2.2.2.1, show σ2.I 210 = σ.I 210 from funext fun i => h2c _ _ (by decide)])
      have h13i := eσ13_1
      have e13 : ∀ c i, c ≠ 211 → σ13.I c i = σ2.I c i := fun c i q => (by rw [h13i]; exact if_neg (fun z => q z.2))
      have kσ13 : KXs σ2 σ13 := ⟨⟨eσ13_1r, eσ13_1s, eσ13_1n⟩, fun c i q => e13 c i (fun z => q (by unfold wsXs; omega))⟩
      have hR13 : y14 = 0 → RD σ σ13 (fun c i => if fgX c i then 0 else σ.I c i) := fun h => ⟨⟨eσ13_1r.trans eσ2r, eσ13_1s.trans eσ2s, eσ13_1n.trans eσ2n⟩, (by rw [h13i]; funext c i; rw [if_neg (fun z => by have z1 := z.1; omega), eσ2])⟩
      have hS13 : y14 = 1 → SX0 σ σ13 := fun h => ⟨⟨eσ13_1r.trans eσ2r, eσ13_1s.trans eσ2s, eσ13_1n.trans eσ2n⟩, (by rw [h13i]; funext c i; by_cases z : c = 211; (rw [if_pos ⟨h, z⟩, if_pos z, h2c c i (by omega), h2f.2.2.1, h2f.2.2.2.1, show σ2.I 210 = σ.I 210 from funext fun i => h2c _ _ (by decide)]); (rw [if_neg (fun w => z w.2), if_neg z, eσ2]))⟩
      have k13 : ∀ c i, c ≠ 211 → ¬ fgX c i → σ13.I c i = σ.I c i := fun c i a b => (e13 c i a).trans (h2 c i b)
      have k13c : ∀ c i, c ≠ 211 → c ≠ 0 → σ13.I c i = σ.I c i := fun c i a b => (e13 c i a).trans (h2c c i b)
      have hP13 : PBD σ13 155 ∧ PBD σ13 87 := ⟨PBD_e hP2.1 (fun c i q => e13 c i (by omega)), PBD_e hP2.2 (fun c i q => e13 c i (by omega))⟩
      have f46 : σ13.I 0 46 = σ.I 0 46 := k13 _ _ (by decide) (by unfold fgX; omega)
      have f39 : σ13.I 0 39 = (σ.I 0 39) := k13 _ _ (by decide) (by unfold fgX; omega)
      have h115 : σ13.I 0 70 = 0 := (e13 _ _ (by decide)).trans (by rw [eσ2]; exact if_pos (by unfold fgX; omega))
      have hq51 := hdI (fun (h : σ.I 0 48 ≠ 0) => p6 h)
      have f51a : σ13.I 51 1 = σ.I (50 + 1) 1 := k13c _ _ (by decide) (by decide)
      have f51b : σ13.I 51 2 = σ.I (50 + 1) 2 := k13c _ _ (by decide) (by decide)
      have er13 : σ13.2 = σ.2 := Prod.ext (eσ13_1r.trans eσ2r) (Prod.ext (eσ13_1s.trans eσ2s) (eσ13_1n.trans eσ2n))
      have eA13 : ∀ c, 16 ≤ c ∧ c < 80 → σ13.I c = σ.I c := fun c q => funext fun i => k13c c i (by omega) (by omega)
      have eG13 : ∀ c, 675 ≤ c → σ13.I c = σ.I c := fun c q => funext fun i => k13c c i (by omega) (by omega)
      have hqs := hdI (fun (h : σ.I 0 48 ≠ 0) => (show (0 ≤ σ13.I 51 1 ∧ σ13.I 51 1 ≤ 400) ∧ 0 ≤ σ13.I 51 2 ∧ σ13.I 51 2 ≤ 119 from (by have z := (hdO hq51) h; rw [f51a, f51b]; exact ⟨z.2.2.2.2.1, z.1.2⟩)))
      refine ⟨fun c6 => ?_, fun c7 => ?_⟩
      · refine ⟨?_, ?_⟩
        · omega
        refine ⟨?_, ?_⟩
        · (first | omega | exact ⟨by omega, by omega⟩ | assumption)
        refine ⟨?_, ?_⟩
        · (clear k0_; (have z := (hdO hqs) (by omega); omega))
        refine ⟨?_, ?_⟩
        · (clear k0_; (have z := (hdO hqs) (by omega); omega))
        rintro σ20 gσ20 ⟨⟨eσ20r, eσ20s, eσ20n⟩, eσ20⟩
        have hQ0 := (hdO hq51) (by omega)
        have hQ13 : QLX σ13 50 := (CPR_q (CPR_id (fun c i a b => k13c c i (by omega) (by omega))) hQ0 eA13 ⟨k13 _ _ (by decide) (by unfold fgX; omega), k13 _ _ (by decide) (by unfold fgX; omega), k13 _ _ (by decide) (by unfold fgX; omega)⟩ er13 eG13 p2.2.2.2.1).1
        have k20 : ∀ c i, ¬ (88 ≤ c ∧ c ≤ 101) → σ20.I c i = σ13.I c i := fun c i q => (by rw [eσ20]; unfold CQF; rw [if_neg (by omega), if_neg (by omega), if_neg (by omega)])
        have q20a : ∀ c i, c = 88 → 1 ≤ i → i ≤ 4 → σ20.I c i = σ13.I (50 + 1) i := fun c i a b d => (by rw [eσ20]; unfold CQF; rw [if_pos ⟨a, b, d⟩])
        have q20b : ∀ c i, c = 89 → 0 ≤ i → i < σ13.I (50 + 1) 1 → σ20.I c i = σ13.I (50 + 2) i := fun c i a b d => (by rw [eσ20]; unfold CQF; rw [if_neg (by omega), if_pos ⟨a, b, d⟩])
        have q20c : ∀ m x, 3 ≤ m → m ≤ 14 → 0 ≤ x → x < σ13.I (50 + 1) 2 → σ20.I (87 + m) x = σ13.I (50 + m) x := fun m x a b d e => (by rw [eσ20]; unfold CQF; rw [if_neg (by omega), if_neg (by omega), if_pos ⟨by omega, d, Or.inl e⟩, show 51 + (87 + m - 88) = 50 + m by omega])
        have kσ20 : KXs σ13 σ20 := ⟨⟨eσ20r, eσ20s, eσ20n⟩, fun c i q => k20 c i (fun z => q (by unfold wsXs; omega))⟩
        rintro ⟨f8, f8q⟩
        intro σ22 eσ22 gσ22
        have kσ22 : KXs σ20 σ22 := KXs_w eσ22 (by unfold wsXs; omega)
        have k22 : ∀ c i, ¬ (87 ≤ c ∧ c ≤ 101) → σ22.I c i = σ13.I c i := fun c i q => (by rw [eσ22, I_ne _ _ _ _ (by omega)]; exact k20 c i (by omega))
        have x22 : ∀ c i, 88 ≤ c → c ≤ 101 → σ22.I c i = σ20.I c i := fun c i a b => (by rw [eσ22]; exact I_ne _ _ _ _ (by omega))
        have hCPR : CPR σ13 σ22 87 50 := ⟨⟨(x22 (87 + 1) 2 (by omega) (by omega)).trans (q20a _ _ (by omega) (by decide) (by decide)), (x22 (87 + 1) 4 (by omega) (by omega)).trans (q20a _ _ (by omega) (by decide) (by decide)), (x22 (87 + 1) 1 (by omega) (by omega)).trans (q20a _ _ (by omega) (by decide) (by decide))⟩, fun m x a b c e => (x22 (87 + m) x (by omega) (by omega)).trans (q20c m x a b c e), fun i a b => (x22 (87 + 2) i (by omega) (by omega)).trans (q20b _ _ (by omega) a b)⟩
        have er22 : σ22.2 = σ13.2 := Prod.ext ((by rw [eσ22]; rfl : σ22.R = σ20.R).trans eσ20r) (Prod.ext ((by rw [eσ22]; rfl : σ22.sh = σ20.sh).trans eσ20s) ((by rw [eσ22]; rfl : σ22.n = σ20.n).trans eσ20n))
        have n22 : ∀ c i, ¬ (87 ≤ c ∧ c ≤ 101) → c ≠ 211 → ¬ fgX c i → σ22.I c i = σ.I c i := fun c i a b d => (k22 c i a).trans (k13 c i b d)
        have eA22 : ∀ c, 16 ≤ c ∧ c < 80 → σ22.I c = σ.I c := fun c q => funext fun i => n22 c i (by omega) (by omega) (by unfold fgX; omega)
        have eG22 : ∀ c, 675 ≤ c → σ22.I c = σ.I c := fun c q => funext fun i => n22 c i (by omega) (by omega) (by unfold fgX; omega)
        have eF22 : ∀ i, i = 4 ∨ i = 9 ∨ i = 20 ∨ i = 31 ∨ i = 39 → σ22.I 0 i = σ.I 0 i := fun i q => n22 0 i (by omega) (by omega) (by unfold fgX; omega)
        have er22b : σ22.2 = σ.2 := er22.trans er13
        have hB22 : BSX σ22 K V := BSX_e p2 eA22 eF22 (congrArg (·.1) er22b) (congrArg (·.2.1) er22b) (congrArg (·.2.2) er22b) eG22 (HOWA_e p2.2.2.2.2.2.2.2.2.2.2.2.2 eA22 eF22)
        have g46 : σ22.I 0 46 = σ.I 0 46 := n22 _ _ (by omega) (by omega) (by unfold fgX; omega)
        have hub : 215 ≤ (ubX σ) ∧ (ubX σ) ≤ 260 := (by unfold ubX; omega)
        have hub2 : ubX σ22 = (ubX σ) := (by unfold ubX; rw [g46])
        have hQu : 0 < σ22.I 0 46 → σ22.I (ubX σ22) 1 ≠ 0 → QLX σ22 (ubX σ22) := (by rw [hub2, g46]; intro a b; exact (CPR_q (CPR_id (fun c i x y => n22 c i (by omega) (by omega) (by unfold fgX; omega))) (p3 a (by rw [← n22 _ _ (by omega) (by omega) (by unfold fgX; omega)]; exact b)) eA22 ⟨eF22 9 (by omega), eF22 4 (by omega), eF22 20 (by omega)⟩ er22b eG22 p2.2.2.2.1).1)
        have hP22 : PBD σ22 155 := PBD_e hP13.1 (fun c i q => k22 c i (by omega))
        have hP22b : PBD σ22 87 := PBD_e hP13.2 (fun c i q => k22 c i (by omega))
        have hQ22 := CPR_q hCPR hQ13 (fun c q => (eA22 c q).trans (eA13 c q).symm) ⟨(eF22 9 (by omega)).trans (k13 _ _ (by decide) (by unfold fgX; omega)).symm, (eF22 4 (by omega)).trans (k13 _ _ (by decide) (by unfold fgX; omega)).symm, (eF22 20 (by omega)).trans (k13 _ _ (by decide) (by unfold fgX; omega)).symm⟩ er22 (fun c q => (eG22 c q).trans (eG13 c q).symm) (AN_k p2.2.2.2.1 (congrArg (·.1) er13) (congrArg (·.2.1) er13) (congrArg (·.2.2) er13) (k13 _ _ (by decide) (by unfold fgX; omega)))
        have h872 : σ22.I 87 2 = σ13.I 0 63 := (by rw [eσ22, I_same]; exact k20 _ _ (by omega))
        refine ⟨?_, ?_⟩
        · omega
        refine ⟨?_, ?_⟩
        · (first | omega | exact ⟨by omega, by omega⟩ | assumption)
        refine ⟨?_, ?_⟩
        · (first | omega | exact ⟨by omega, by omega⟩ | assumption)
        refine ⟨?_, ?_⟩
        · (first | omega | exact ⟨by omega, by omega⟩ | assumption)
        refine ⟨?_, ?_⟩
        · (clear k0_; exact hB22)
        refine ⟨?_, ?_⟩
        · (clear k0_; exact hQu)
        refine ⟨?_, ?_⟩
        · (clear k0_; exact hP22)
        rintro σ30 gσ30 ⟨eσ30_0, eσ30_1, eσ30_2, eσ30_3, eσ30_4⟩
        have kσ30 : KXs σ22 σ30 := KXs_of_KMw eσ30_4
        have kσ30r := eσ30_4.1.1
        have n30 : ∀ c i, ¬ wsMw 87 c i → σ30.I c i = σ22.I c i := eσ30_4.2
        have eA30 : ∀ c, 16 ≤ c ∧ c < 80 → σ30.I c = σ22.I c := fun c q => funext fun i => n30 c i (by unfold wsMw; omega)
        have eG30 : ∀ c, 675 ≤ c → σ30.I c = σ22.I c := fun c q => funext fun i => n30 c i (by unfold wsMw; omega)
        have eF30 : ∀ i, i = 4 ∨ i = 9 ∨ i = 20 ∨ i = 31 ∨ i = 39 → σ30.I 0 i = σ22.I 0 i := fun i q => n30 0 i (by unfold wsMw; omega)
        have er30 : σ30.2 = σ22.2 := Prod.ext eσ30_4.1.1 (Prod.ext eσ30_4.1.2.1 eσ30_4.1.2.2)
        have hB30 : BSX σ30 K V := BSX_e hB22 eA30 eF30 (congrArg (·.1) er30) (congrArg (·.2.1) er30) (congrArg (·.2.2) er30) eG30 (HOWA_e hB22.2.2.2.2.2.2.2.2.2.2.2.2 eA30 eF30)
        have hQ30 := CPR_q (CPR_id (fun c i a b => n30 c i (by unfold wsMw; omega))) hQ22.1 eA30 ⟨eF30 9 (by omega), eF30 4 (by omega), eF30 20 (by omega)⟩ er30 eG30 hB22.2.2.2.1
        have hP30 : PBD σ30 87 := ⟨eσ30_3.1, bd_0_59_eq hP22b.2.1 (funext fun i => n30 _ i (by unfold wsMw; omega)), bd_0_20000_eq hP22b.2.2.1 (funext fun i => n30 _ i (by unfold wsMw; omega)), bd_m1_15_eq hP22b.2.2.2.1 (funext fun i => n30 _ i (by unfold wsMw; omega)), bd_0_500_eq hP22b.2.2.2.2 (funext fun i => n30 _ i (by unfold wsMw; omega))⟩
        have e39 : σ30.I 0 39 = σ22.I 0 39 := eF30 39 (by omega)
        have hw30 : σ30.I (87 + 15) 6 = 0 ∧ σ30.I (87 + 15) 7 = σ30.I 0 39 ∧ σ30.I (87 + 15) 8 = 0 := ⟨eσ30_0.1.1, eσ30_0.1.2.1.trans e39.symm, eσ30_0.1.2.2⟩
        have hHW := hB30.2.2.2.2.2.2.2.2.2.2.2.2 σ30 87 (by decide) (fun _ _ => rfl) (fun _ _ => rfl) hw30.2.2 hw30.1 hw30.2.1
        obtain ⟨⟨a1, a2, a3, a4, a5, a6, a7, a8, a9, a10, a11⟩, b1, b2, b3, b4, b5, b6, b7, b8, b9, b10, b11, b12⟩ := hB30
        have z6 := hw30.1
        have z7 := hw30.2.1
        have z8 := hw30.2.2
        refine ⟨?_, ?_⟩
        · omega
        refine ⟨?_, ?_⟩
        · (first | omega | exact ⟨by omega, by omega⟩ | assumption)
        refine ⟨?_, ?_⟩
        · (clear k0_; exact hQ30.1.1.2)
        refine ⟨?_, ?_⟩
        · (clear k0_; exact hQ30.1.2.1)
        refine ⟨?_, ?_⟩
        · (clear k0_; exact hQ30.1.2.2.1)
        refine ⟨?_, ?_⟩
        · (clear k0_; exact hQ30.1.2.2.2.1)
        refine ⟨?_, ?_⟩
        · (first | omega | exact ⟨by omega, by omega⟩ | assumption)
        refine ⟨?_, ?_⟩
        · (first | omega | exact ⟨by omega, by omega⟩ | assumption)
        refine ⟨?_, ?_⟩
        · (clear k0_; exact a2)
        refine ⟨?_, ?_⟩
        · (clear k0_; exact a3)
        refine ⟨?_, ?_⟩
        · (clear k0_; exact (fun k x y _ => (b9 k x (by have z := hw30.2.1; omega)).2))
        refine ⟨?_, ?_⟩
        · (clear k0_; exact a4)
        refine ⟨?_, ?_⟩
        · (first | omega | exact ⟨by omega, by omega⟩ | assumption)
        refine ⟨?_, ?_⟩
        · (clear k0_; exact a6)
        refine ⟨?_, ?_⟩
        · (clear k0_; exact a7)
        refine ⟨?_, ?_⟩
        · (clear k0_; exact a8)
        refine ⟨?_, ?_⟩
        · (clear k0_; exact a9)
        refine ⟨?_, ?_⟩
        · (clear k0_; exact a10)
        refine ⟨?_, ?_⟩
        · (clear k0_; exact a11)
        refine ⟨?_, ?_⟩
        · (first | omega | exact ⟨by omega, by omega⟩ | assumption)
        refine ⟨?_, ?_⟩
        · (clear k0_; exact b2)
        refine ⟨?_, ?_⟩
        · (clear k0_; exact b3)
        refine ⟨?_, ?_⟩
        · (clear k0_; exact b4)
        refine ⟨?_, ?_⟩
        · (first | omega | exact ⟨by omega, by omega⟩ | assumption)
        refine ⟨?_, ?_⟩
        · (clear k0_; exact b6)
        refine ⟨?_, ?_⟩
        · (clear k0_; exact b7)
        refine ⟨?_, ?_⟩
        · (clear k0_; exact b8)
        refine ⟨?_, ?_⟩
        · (clear k0_; exact hP30)
        refine ⟨?_, ?_⟩
        · (clear k0_; (rw [hw30.2.1]; exact hHW.1))
        refine ⟨?_, ?_⟩
        · (clear k0_; (rw [hw30.2.1]; exact b10))
        refine ⟨?_, ?_⟩
        · (first | omega | exact ⟨by omega, by omega⟩ | assumption)
        refine ⟨?_, ?_⟩
        · (clear k0_; exact hHW.2.1)
        refine ⟨?_, ?_⟩
        · (clear k0_; exact (fun k x y _ => (b9 k x (by have z := hw30.2.1; omega)).1))
        rintro σ64 gσ64 ⟨eσ64_0, eσ64_1⟩
        have kσ64 : KXs σ30 σ64 := KXs_of_KPq eσ64_1
        have kσ64r := eσ64_1.1.1
        refine k0_ _ _ (((((gσ2.tr gσ13).tr gσ20).tr gσ22).tr gσ30).tr gσ64) ⟨?_, ?_, ?_, ?_, ?_, ?_, ?_, ?_⟩
        · exact (Ch.tr (Ch.tr (Ch.tr (Ch.tr (Ch.tr kσ2 kσ13) kσ20) kσ22) kσ30) kσ64)
        · (first | omega | exact ⟨by omega, by omega⟩ | assumption)
        · (clear k0_; exact hS7)
        · (clear k0_; exact hSCR)
        · (clear k0_; exact ⟨by omega, by omega, hal.mp (eσ13_0.mp (by omega))⟩)
        · (clear k0_; exact ⟨m63f 39 (by omega), m63f 64 (by omega), m63f 65 (by omega)⟩)
        · (clear k0_; exact hO63)
        · (clear k0_; first | exact hP63 | exact hP13 | exact hP2)
      · refine RVI_mk ?_ ?_
        · (first | exact ⟨by omega, by omega⟩ | assumption)
        · refine ⟨?_, ?_, ?_⟩
          · (clear k0_; first | exact Or.inl ⟨by omega, rfl, hR2⟩ | exact Or.inr (Or.inl ⟨by omega, by omega, rfl, hR2⟩) | exact Or.inr (Or.inr (Or.inl ⟨by omega, by omega, fun z => absurd (eσ13_0.mpr (hal.mpr z)) (by omega), rfl, hR13 (by omega)⟩)))
          · (clear k0_; first | exact hP63 | exact hP13 | exact hP2)
          · exact (Ch.tr kσ2 kσ13)
    · refine RVI_mk ?_ ?_
      · (first | exact ⟨by omega, by omega⟩ | assumption)
      · refine ⟨?_, ?_, ?_⟩
        · (clear k0_; first | exact Or.inl ⟨by omega, rfl, hR2⟩ | exact Or.inr (Or.inl ⟨by omega, by omega, rfl, hR2⟩) | exact Or.inr (Or.inr (Or.inl ⟨by omega, by omega, fun z => absurd (eσ13_0.mpr (hal.mpr z)) (by omega), rfl, hR13 (by omega)⟩)))
        · (clear k0_; first | exact hP63 | exact hP13 | exact hP2)
        · exact kσ2
  · refine RVI_mk ?_ ?_
    · (first | exact ⟨by omega, by omega⟩ | assumption)
    · refine ⟨?_, ?_, ?_⟩
      · (clear k0_; first | exact Or.inl ⟨by omega, rfl, hR2⟩ | exact Or.inr (Or.inl ⟨by omega, by omega, rfl, hR2⟩) | exact Or.inr (Or.inr (Or.inl ⟨by omega, by omega, fun z => absurd (eσ13_0.mpr (hal.mpr z)) (by omega), rfl, hR13 (by omega)⟩)))
      · (clear k0_; first | exact hP63 | exact hP13 | exact hP2)
      · exact kσ2
