set_option maxRecDepth 100000
set_option maxHeartbeats 1200000
theorem DX0_percolate_0W : DD cX0_percolate 0 1 1 (.aload_n 0) := ⟨by decide +kernel, rfl⟩
theorem DX0_percolate_1W : DD cX0_percolate 1 1 2 (.iconst 0) := ⟨by decide +kernel, rfl⟩
theorem DX0_percolate_2W : DD cX0_percolate 2 3 5 (.putfield 720) := ⟨by decide +kernel, rfl⟩
theorem DX0_percolate_5W : DD cX0_percolate 5 1 6 (.iconst 0) := ⟨by decide +kernel, rfl⟩
theorem DX0_percolate_6W : DD cX0_percolate 6 1 7 (.istore_n 1) := ⟨by decide +kernel, rfl⟩
theorem DX0_percolate_7W : DD cX0_percolate 7 1 8 (.iload_n 1) := ⟨by decide +kernel, rfl⟩
theorem DX0_percolate_8W : DD cX0_percolate 8 1 9 (.aload_n 0) := ⟨by decide +kernel, rfl⟩
theorem DX0_percolate_9W : DD cX0_percolate 9 3 12 (.getfield 524) := ⟨by decide +kernel, rfl⟩
theorem DX0_percolate_12W : DD cX0_percolate 12 3 15 (.if_icmp .ge 99) := ⟨by decide +kernel, rfl⟩
theorem DX0_percolate_15W : DD cX0_percolate 15 1 16 (.aload_n 0) := ⟨by decide +kernel, rfl⟩
theorem DX0_percolate_16W : DD cX0_percolate 16 3 19 (.getfield 272) := ⟨by decide +kernel, rfl⟩
theorem DX0_percolate_19W : DD cX0_percolate 19 3 22 (.getfield 577) := ⟨by decide +kernel, rfl⟩
theorem DX0_percolate_22W : DD cX0_percolate 22 1 23 (.aload_n 0) := ⟨by decide +kernel, rfl⟩
theorem DX0_percolate_23W : DD cX0_percolate 23 3 26 (.getfield 236) := ⟨by decide +kernel, rfl⟩
theorem DX0_percolate_26W : DD cX0_percolate 26 1 27 (.iload_n 1) := ⟨by decide +kernel, rfl⟩
theorem DX0_percolate_27W : DD cX0_percolate 27 1 28 (.aaload) := ⟨by decide +kernel, rfl⟩
theorem DX0_percolate_28W : DD cX0_percolate 28 3 31 (.invokevirtual 514) := ⟨by decide +kernel, rfl⟩
theorem DX0_percolate_31W : DD cX0_percolate 31 1 32 (.aload_n 0) := ⟨by decide +kernel, rfl⟩
theorem DX0_percolate_32W : DD cX0_percolate 32 3 35 (.getfield 272) := ⟨by decide +kernel, rfl⟩
theorem DX0_percolate_35W : DD cX0_percolate 35 1 36 (.iconst 0) := ⟨by decide +kernel, rfl⟩
theorem DX0_percolate_36W : DD cX0_percolate 36 3 39 (.putfield 580) := ⟨by decide +kernel, rfl⟩
theorem DX0_percolate_39W : DD cX0_percolate 39 1 40 (.aload_n 0) := ⟨by decide +kernel, rfl⟩
theorem DX0_percolate_40W : DD cX0_percolate 40 3 43 (.getfield 272) := ⟨by decide +kernel, rfl⟩
theorem DX0_percolate_43W : DD cX0_percolate 43 3 46 (.getfield 568) := ⟨by decide +kernel, rfl⟩
theorem DX0_percolate_46W : DD cX0_percolate 46 3 49 (.invokevirtual 723) := ⟨by decide +kernel, rfl⟩
theorem DX0_percolate_49W : DD cX0_percolate 49 1 50 (.aload_n 0) := ⟨by decide +kernel, rfl⟩
theorem DX0_percolate_50W : DD cX0_percolate 50 3 53 (.getfield 272) := ⟨by decide +kernel, rfl⟩
theorem DX0_percolate_53W : DD cX0_percolate 53 3 56 (.invokevirtual 581) := ⟨by decide +kernel, rfl⟩
theorem DX0_percolate_56W : DD cX0_percolate 56 1 57 (.aload_n 0) := ⟨by decide +kernel, rfl⟩
theorem DX0_percolate_57W : DD cX0_percolate 57 3 60 (.getfield 272) := ⟨by decide +kernel, rfl⟩
theorem DX0_percolate_60W : DD cX0_percolate 60 1 61 (.aload_n 0) := ⟨by decide +kernel, rfl⟩
theorem DX0_percolate_61W : DD cX0_percolate 61 3 64 (.getfield 272) := ⟨by decide +kernel, rfl⟩
theorem DX0_percolate_64W : DD cX0_percolate 64 3 67 (.getfield 577) := ⟨by decide +kernel, rfl⟩
theorem DX0_percolate_67W : DD cX0_percolate 67 3 70 (.getfield 587) := ⟨by decide +kernel, rfl⟩
theorem DX0_percolate_70W : DD cX0_percolate 70 1 71 (.aload_n 0) := ⟨by decide +kernel, rfl⟩
theorem DX0_percolate_71W : DD cX0_percolate 71 3 74 (.getfield 437) := ⟨by decide +kernel, rfl⟩
theorem DX0_percolate_74W : DD cX0_percolate 74 3 77 (.invokevirtual 590) := ⟨by decide +kernel, rfl⟩
theorem DX0_percolate_77W : DD cX0_percolate 77 1 78 (.lconst 0) := ⟨by decide +kernel, rfl⟩
theorem DX0_percolate_78W : DD cX0_percolate 78 1 79 (.lcmp) := ⟨by decide +kernel, rfl⟩
theorem DX0_percolate_79W : DD cX0_percolate 79 3 82 (.ifCond .ge 6) := ⟨by decide +kernel, rfl⟩
theorem DX0_percolate_82W : DD cX0_percolate 82 3 85 (.goto 23) := ⟨by decide +kernel, rfl⟩
theorem DX0_percolate_85W : DD cX0_percolate 85 1 86 (.aload_n 0) := ⟨by decide +kernel, rfl⟩
theorem DX0_percolate_86W : DD cX0_percolate 86 3 89 (.getfield 341) := ⟨by decide +kernel, rfl⟩
theorem DX0_percolate_89W : DD cX0_percolate 89 1 90 (.aload_n 0) := ⟨by decide +kernel, rfl⟩
theorem DX0_percolate_90W : DD cX0_percolate 90 3 93 (.getfield 720) := ⟨by decide +kernel, rfl⟩
theorem DX0_percolate_93W : DD cX0_percolate 93 1 94 (.iload_n 1) := ⟨by decide +kernel, rfl⟩
theorem DX0_percolate_94W : DD cX0_percolate 94 1 95 (.iastore) := ⟨by decide +kernel, rfl⟩
theorem DX0_percolate_95W : DD cX0_percolate 95 1 96 (.aload_n 0) := ⟨by decide +kernel, rfl⟩
theorem DX0_percolate_96W : DD cX0_percolate 96 1 97 (.dup) := ⟨by decide +kernel, rfl⟩
theorem DX0_percolate_97W : DD cX0_percolate 97 3 100 (.getfield 720) := ⟨by decide +kernel, rfl⟩
theorem DX0_percolate_100W : DD cX0_percolate 100 1 101 (.iconst 1) := ⟨by decide +kernel, rfl⟩
theorem DX0_percolate_101W : DD cX0_percolate 101 1 102 (.iadd) := ⟨by decide +kernel, rfl⟩
theorem DX0_percolate_102W : DD cX0_percolate 102 3 105 (.putfield 720) := ⟨by decide +kernel, rfl⟩
theorem DX0_percolate_105W : DD cX0_percolate 105 3 108 (.iinc 1 1) := ⟨by decide +kernel, rfl⟩
theorem DX0_percolate_108W : DD cX0_percolate 108 3 111 (.goto (-101)) := ⟨by decide +kernel, rfl⟩
theorem DX0_percolate_111W : DD cX0_percolate 111 1 112 (.aload_n 0) := ⟨by decide +kernel, rfl⟩
theorem DX0_percolate_112W : DD cX0_percolate 112 3 115 (.getfield 720) := ⟨by decide +kernel, rfl⟩
theorem DX0_percolate_115W : DD cX0_percolate 115 1 116 (.ireturn) := ⟨by decide +kernel, rfl⟩
theorem ucX0_percolate_0W {E : XE} {d : Nat} {σ : Sto} {Q : Res → Sto → Prop} {K : Int} {V : Int}  (hL : Lay σ)  (h : (∀ σ1 : Sto, σ1 = σ.wI 0 94 0 → SF σ σ1 → VV E mX0_percolate (d + 1) 7 [(0, aO 0), (1, aI (0))] [] σ1 Q)) : VV E mX0_percolate (d + 1) 0 [(0, aO 0)] [] σ Q := by
  refine v_aload_n 0 DX0_percolate_0W rfl rfl <| v_iconst DX0_percolate_1W <| ?_
  refine w_putI (ci := 0) (kf := 94) (kz := 94) DX0_percolate_2W (s_0 hL) rfl (by decide) rfl (Or.inl ⟨rfl, q1140⟩) (fun _ _ => rfl) ⟨by decide, by decide⟩ rfl rfl (fun σ1 eσ1 gσ1 => ?_)
  have h := h σ1 eσ1 gσ1
  refine v_iconst DX0_percolate_5W <| v_istore_n DX0_percolate_6W rfl (by decide) rfl <| ?_
  exact v_pick [1, 0] rfl h
theorem ucX0_percolate_7W {E : XE} {d : Nat} {σ : Sto} {Q : Res → Sto → Prop} {K : Int} {V : Int} {x1 : Int} (hL : Lay σ)  (h : (inR (σ.I 0 51) → inR x1 ∧ ((σ.I 0 51) ≤ x1 → (inR (σ.I 0 94) → Q (.inl (some (aI (σ.I 0 94)))) σ)) ∧ (x1 < (σ.I 0 51) → 0 ≤ x1 ∧ x1 < 20 ∧ σ.R 79 x1 ≠ none ∧ (∀ b7, σ.R 79 x1 = some b7 → At3 σ b7 ∧ 2 ≤ d ∧ (122 + 13 < b7 ∨ b7 + 13 < 122) ∧ (0 ≤ σ.I b7 1 ∧ σ.I b7 1 ≤ 400) ∧ (0 ≤ σ.I b7 2 ∧ σ.I b7 2 ≤ 200) ∧ (∀ σ15 : Sto, SF σ σ15 → (RD σ σ15 (CQF σ 122 b7 2 (σ.I b7 2))) → (∀ σ16 : Sto, σ16 = σ15.wI 121 2 0 → SF σ15 σ16 → 2 ≤ d ∧ (102 ≤ 136 ∧ 136 ≤ 170) ∧ (0 ≤ σ16.I 0 39 ∧ σ16.I 0 39 ≤ 600) ∧ (tre σ16 44 (σ16.I 0 39)) ∧ (0 ≤ σ16.I 0 31 ∧ σ16.I 0 31 ≤ σ16.I 0 20) ∧ (σ16.I 0 20 ≤ 6000) ∧ (∀ σ23 : Sto, SF σ16 σ23 → ((RD σ16 σ23 (fun c i => if c = (136 + 4) ∨ c = (136 + 5) then σ23.I c i else if at2 c i 136 6 then σ16.I 0 39 else if at2 c i 136 7 then σ16.I 0 39 + 1 else if at2 c i 136 8 then 1 else if at2 c i 136 1 then 0 else if rg c i (136 + 1) 0 (σ16.I 0 39) then 0 else if at2 c i (136 + 1) (σ16.I 0 39) then 1 else if at2 c i 42 (σ16.I 0 39) then σ16.I 0 31 else if at2 c i 43 (σ16.I 0 39) then σ16.I 0 20 - σ16.I 0 31 else if at2 c i 44 (σ16.I 0 39) then -1 else σ16.I c i)) ∧ (CHN σ23 136)) → 526 ≤ d ∧ (121 = 87 ∨ 121 = 121 ∨ 121 = 155) ∧ (0 ≤ (σ23.I (121 + 1) 2) ∧ (σ23.I (121 + 1) 2) ≤ 119) ∧ (rwN σ23 121 (σ23.I (121 + 1) 2) ≤ 60) ∧ (txN σ23 121 (lsX σ23 121) (σ23.I (121 + 1) 2) ≤ 5000) ∧ (∀ x, 0 ≤ x → x < (σ23.I (121 + 1) 2) → lfN σ23 121 x → NDq σ23 121 (lsX σ23 121) x) ∧ (0 ≤ σ23.I 0 9 ∧ σ23.I 0 9 ≤ 12) ∧ (0 ≤ σ23.I (121 + 15) 6 ∧ σ23.I (121 + 15) 6 ≤ (σ23.I (121 + 15) 7) ∧ (σ23.I (121 + 15) 7) ≤ 601) ∧ (OB σ23 42 43) ∧ (bd_0_250 σ23 32 6000) ∧ (VFX σ23 (121 + 15)) ∧ (TC σ23) ∧ (0 ≤ σ23.I 18 7 ∧ σ23.I 18 7 < 36500) ∧ (∀ s, 0 ≤ s → s < σ23.I 18 7 → 0 ≤ σ23.I 20 s ∧ σ23.I 20 s < σ23.I 0 9) ∧ (PT σ23 K) ∧ (PW σ23 V) ∧ (OBV σ23 K V) ∧ (TVL σ23 K V) ∧ (DRV σ23) ∧ (0 ≤ σ23.I 0 39 ∧ σ23.I 0 39 < 601) ∧ (bd_0_20 σ23 21 36500) ∧ (AN σ23) ∧ (ANX σ23) ∧ (σ23.I 0 4 ≤ 6) ∧ (bd_0_499 σ23 39 24000) ∧ (∀ v, 0 ≤ v → v < V → 0 ≤ σ23.I 31 v ∧ 0 ≤ σ23.I 32 v ∧ σ23.I 31 v + σ23.I 32 v ≤ 24000) ∧ (VOC σ23 V) ∧ (PBD σ23 121) ∧ (∀ t, 0 ≤ t → t < σ23.I 18 7 → 0 ≤ owX σ23 (121 + 15) t K V ∧ owX σ23 (121 + 15) t K V ≤ hvX σ23 (121 + 15) (σ23.I 20 t) (σ23.I (121 + 15) 7)) ∧ (∀ v, 0 ≤ v → v < V → σ23.I 27 v < (σ23.I (121 + 15) 7)) ∧ (σ23.I (121 + 15) 8 ≠ 0 → σ23.I 0 39 < (σ23.I (121 + 15) 7)) ∧ (owX σ23 (121 + 15) (-1) K V = 0) ∧ (WOX σ23 (121 + 15)) ∧ (∀ σ57 : Sto, SF σ23 σ57 → ((PRI σ23 σ57 121 (lsX σ23 121) K V (σ23.I (121 + 1) 2) (rwN σ23 121 (σ23.I (121 + 1) 2))) ∧ (KPq 121 σ23 σ57)) → (inR (σ57.I 122 4) → (inR (σ57.I 0 39) → 3 * 130 + 8 ≤ d ∧ (121 = 87 ∨ 121 = 121 ∨ 121 = 155) ∧ (CHW σ57 121) ∧ (SNX σ57 121 (vXX σ57 121)) ∧ (0 ≤ (σ57.I 122 4) ∧ WX σ57 121 (vXX σ57 121) 130 (σ57.I 122 4)) ∧ ((0 ≤ (σ57.I 0 39) ∧ (σ57.I 0 39) < 601) ∧ snW σ57 121 (σ57.I 0 39)) ∧ (130 ≤ 300) ∧ (∀ (y68 : Int) (σ67 : Sto), inL y68 → SF σ57 σ67 → ((y68 = scW (tabS (GX σ57 121)) (vXX σ57 121) (σ57.I 122 4) (σ57.I 0 39)) ∧ (SNX σ67 121 (vXX σ57 121)) ∧ (KNf 121 σ57 σ67)) → (0 ≤ y68 → (inR (σ67.I 0 94) → 0 ≤ (σ67.I 0 94) ∧ (σ67.I 0 94) < 20 ∧ (∀ σ73 : Sto, σ73 = σ67.wI 209 (σ67.I 0 94) x1 → SF σ67 σ73 → (inR (σ73.I 0 94) → inR ((σ73.I 0 94) + 1) ∧ (∀ σ76 : Sto, σ76 = σ73.wI 0 94 ((σ73.I 0 94) + 1) → SF σ73 σ76 → VV E mX0_percolate (d + 1) 7 [(0, aO 0), (1, aI (x1 + 1))] [] σ76 Q))))) ∧ (y68 < 0 → VV E mX0_percolate (d + 1) 7 [(0, aO 0), (1, aI (x1 + 1))] [] σ67 Q)))))))))))) : VV E mX0_percolate (d + 1) 7 [(0, aO 0), (1, aI (x1))] [] σ Q := by
  refine v_iload_n 1 DX0_percolate_7W rfl rfl <| v_aload_n 0 DX0_percolate_8W rfl rfl <| ?_
  refine w_getI (ci := 0) (kf := 51) (kz := 51) DX0_percolate_9W (s_0 hL) rfl (by decide) rfl (Or.inl q1091) (fun _ _ => rfl) (fun f1 => ?_)
  have h := h f1
  obtain ⟨k2, h⟩ := h
  refine v_icmp_ge (tg := 111) DX0_percolate_12W (by decide) k2 f1 (fun c3 => ?_) (fun c3 => ?_)
  · have h := h.1 c3
    refine v_aload_n 0 DX0_percolate_111W rfl rfl <| ?_
    refine w_getI (ci := 0) (kf := 94) (kz := 94) DX0_percolate_112W (s_0 hL) rfl (by decide) rfl (Or.inl q1140) (fun _ _ => rfl) (fun f4 => ?_)
    have h := h f4
    exact v_iret DX0_percolate_115W rfl rfl h
  · have h := h.2 c3
    refine v_aload_n 0 DX0_percolate_15W rfl rfl <| w_getR (ci := 0) (kf := 61) (kz := 61) DX0_percolate_16W (s_0 hL) rfl (by decide) rfl (Or.inl q1107) (fun _ _ => rfl) (r_0_61 hL) <| w_getR (ci := 5) (kf := 0) (kz := 0) DX0_percolate_19W (s_121 hL) rfl (by decide) rfl (Or.inr ⟨_, q886⟩) (fun _ _ => rfl) (r_121_0 hL) <| v_aload_n 0 DX0_percolate_22W rfl rfl <| w_getR (ci := 0) (kf := 50) (kz := 50) DX0_percolate_23W (s_0 hL) rfl (by decide) rfl (Or.inl q1090) (fun _ _ => rfl) (r_0_50 hL) <| v_iload_n 1 DX0_percolate_26W rfl rfl <| ?_
    obtain ⟨k5, k6, h⟩ := h
    obtain ⟨k8, h⟩ := h
    obtain ⟨b7, k9⟩ := nn_some k8
    obtain ⟨k10, h⟩ := h b7 k9
    refine v_aaldS DX0_percolate_27W (s_79 hL) ⟨by decide, by decide⟩ k5 k6 k9 <| ?_
    obtain ⟨k11, h⟩ := h
    obtain ⟨k12, k13, k14, h⟩ := h
    refine v_invV (ci := 3) (as := [aO b7]) (st := []) DX0_percolate_28W rfl okX3_copy (Or.inl q1684) q1685 (s_122 hL) rfl q1686 npX3_copy (sp_X3_copy (σ := σ) (o0 := 122) (o1 := b7) k11 hL (lat_122 hL) k10 k12 k13 k14) (Nat.le_of_ble_eq_true rfl) (Nat.le_refl _) (Nat.le_of_ble_eq_true rfl) (RV_ret (fun σ15 gσ15 eσ15 => ?_)) RV_thr
    have h := h σ15 gσ15 eσ15
    refine v_aload_n 0 DX0_percolate_31W rfl rfl <| w_getR (ci := 0) (kf := 61) (kz := 61) DX0_percolate_32W (s_0 (hL.sf gσ15)) rfl (by decide) rfl (Or.inl q1107) (fun _ _ => rfl) (r_0_61 (hL.sf gσ15)) <| v_iconst DX0_percolate_35W <| ?_
    refine w_putI (ci := 5) (kf := 2) (kz := 2) DX0_percolate_36W (s_121 (hL.sf gσ15)) rfl (by decide) rfl (Or.inr (Or.inl ⟨rfl, _, q890⟩)) (fun _ _ => rfl) ⟨by decide, by decide⟩ rfl rfl (fun σ16 eσ16 gσ16 => ?_)
    have h := h σ16 eσ16 gσ16
    refine v_aload_n 0 DX0_percolate_39W rfl rfl <| w_getR (ci := 0) (kf := 61) (kz := 61) DX0_percolate_40W (s_0 ((hL.sf gσ15).sf gσ16)) rfl (by decide) rfl (Or.inl q1107) (fun _ _ => rfl) (r_0_61 ((hL.sf gσ15).sf gσ16)) <| w_getR (ci := 5) (kf := 1) (kz := 1) DX0_percolate_43W (s_121 ((hL.sf gσ15).sf gσ16)) rfl (by decide) rfl (Or.inr ⟨_, q888⟩) (fun _ _ => rfl) (r_121_1 ((hL.sf gσ15).sf gσ16)) <| ?_
    obtain ⟨k17, h⟩ := h
    obtain ⟨k18, k19, k20, k21, k22, h⟩ := h
    refine v_invV (ci := 6) (as := []) (st := []) DX0_percolate_46W rfl okX6_alone (Or.inl q2072) q2073 (s_136 ((hL.sf gσ15).sf gσ16)) rfl q2074 npX6_alone (sp_X6_alone (σ := σ16) (o0 := 136) k17 ((hL.sf gσ15).sf gσ16) (lat_136 ((hL.sf gσ15).sf gσ16)) k18 k19 k20 k21 k22) (Nat.le_of_ble_eq_true rfl) (Nat.le_refl _) (Nat.le_of_ble_eq_true rfl) (RV_ret (fun σ23 gσ23 eσ23 => ?_)) RV_thr
    have h := h σ23 gσ23 eσ23
    refine v_aload_n 0 DX0_percolate_49W rfl rfl <| w_getR (ci := 0) (kf := 61) (kz := 61) DX0_percolate_50W (s_0 (((hL.sf gσ15).sf gσ16).sf gσ23)) rfl (by decide) rfl (Or.inl q1107) (fun _ _ => rfl) (r_0_61 (((hL.sf gσ15).sf gσ16).sf gσ23)) <| ?_
    obtain ⟨k24, h⟩ := h
    obtain ⟨k25, k26, k27, k28, k29, k30, k31, k32, k33, k34, k35, k36, k37, k38, k39, k40, k41, k42, k43, k44, k45, k46, k47, k48, k49, k50, k51, k52, k53, k54, k55, k56, h⟩ := h
    refine v_invV (ci := 5) (as := []) (st := []) DX0_percolate_53W rfl okX5_prepare (Or.inl q1750) q1751 (s_121 (((hL.sf gσ15).sf gσ16).sf gσ23)) rfl q1752 npX5_prepare (sp_X5_prepare (σ := σ23) (o0 := 121) (lx := (lsX σ23 121)) (K := K) (V := V) k24 (((hL.sf gσ15).sf gσ16).sf gσ23) (lat_121 (((hL.sf gσ15).sf gσ16).sf gσ23)) k25 k26 k27 k28 k29 k30 k31 k32 k33 k34 k35 k36 k37 k38 k39 k40 k41 k42 k43 k44 k45 k46 k47 k48 k49 k50 k51 k52 k53 k54 k55 k56) (Nat.le_of_ble_eq_true rfl) (Nat.le_refl _) (Nat.le_of_ble_eq_true rfl) (RV_ret (fun σ57 gσ57 eσ57 => ?_)) RV_thr
    have h := h σ57 gσ57 eσ57
    refine v_aload_n 0 DX0_percolate_56W rfl rfl <| w_getR (ci := 0) (kf := 61) (kz := 61) DX0_percolate_57W (s_0 ((((hL.sf gσ15).sf gσ16).sf gσ23).sf gσ57)) rfl (by decide) rfl (Or.inl q1107) (fun _ _ => rfl) (r_0_61 ((((hL.sf gσ15).sf gσ16).sf gσ23).sf gσ57)) <| v_aload_n 0 DX0_percolate_60W rfl rfl <| w_getR (ci := 0) (kf := 61) (kz := 61) DX0_percolate_61W (s_0 ((((hL.sf gσ15).sf gσ16).sf gσ23).sf gσ57)) rfl (by decide) rfl (Or.inl q1107) (fun _ _ => rfl) (r_0_61 ((((hL.sf gσ15).sf gσ16).sf gσ23).sf gσ57)) <| w_getR (ci := 5) (kf := 0) (kz := 0) DX0_percolate_64W (s_121 ((((hL.sf gσ15).sf gσ16).sf gσ23).sf gσ57)) rfl (by decide) rfl (Or.inr ⟨_, q886⟩) (fun _ _ => rfl) (r_121_0 ((((hL.sf gσ15).sf gσ16).sf gσ23).sf gσ57)) <| ?_
    refine w_getI (ci := 3) (kf := 4) (kz := 4) DX0_percolate_67W (s_122 ((((hL.sf gσ15).sf gσ16).sf gσ23).sf gσ57)) rfl (by decide) rfl (Or.inr ⟨_, q733⟩) (fun _ _ => rfl) (fun f58 => ?_)
    have h := h f58
    refine v_aload_n 0 DX0_percolate_70W rfl rfl <| ?_
    refine w_getI (ci := 0) (kf := 39) (kz := 39) DX0_percolate_71W (s_0 ((((hL.sf gσ15).sf gσ16).sf gσ23).sf gσ57)) rfl (by decide) rfl (Or.inl q1079) (fun _ _ => rfl) (fun f59 => ?_)
    have h := h f59
    obtain ⟨k60, h⟩ := h
    obtain ⟨k61, k62, k63, k64, k65, k66, h⟩ := h
    refine v_invV (ci := 5) (as := [aI (σ57.I 122 4), aI (σ57.I 0 39)]) (st := []) DX0_percolate_74W rfl okX5_score (Or.inl q1852) q1853 (s_121 ((((hL.sf gσ15).sf gσ16).sf gσ23).sf gσ57)) rfl q1854 npX5_score (sx_X5_score (σ := σ57) (o0 := 121) (x1 := σ57.I 122 4) (x2 := σ57.I 0 39) (V := (vXX σ57 121)) (f := 130) k60 ((((hL.sf gσ15).sf gσ16).sf gσ23).sf gσ57) (lat_121 ((((hL.sf gσ15).sf gσ16).sf gσ23).sf gσ57)) k61 k62 k63 k64 k65 k66) (Nat.le_of_ble_eq_true rfl) (Nat.le_refl _) (Nat.le_of_ble_eq_true rfl) (RVL_ret (fun y68 σ67 y68f gσ67 eσ67 => ?_)) RVL_thr
    have h := h y68 σ67 y68f gσ67 eσ67
    refine v_lconst DX0_percolate_77W <| ?_
    refine v_lc_ge (tg := 85) DX0_percolate_78W DX0_percolate_79W (by decide) y68f ⟨by decide, by decide⟩ (fun c69 => ?_) (fun c69 => ?_)
    · have h := h.1 c69
      refine v_aload_n 0 DX0_percolate_85W rfl rfl <| w_getR (ci := 0) (kf := 93) (kz := 93) DX0_percolate_86W (s_0 (((((hL.sf gσ15).sf gσ16).sf gσ23).sf gσ57).sf gσ67)) rfl (by decide) rfl (Or.inl q1139) (fun _ _ => rfl) (r_0_93 (((((hL.sf gσ15).sf gσ16).sf gσ23).sf gσ57).sf gσ67)) <| v_aload_n 0 DX0_percolate_89W rfl rfl <| ?_
      refine w_getI (ci := 0) (kf := 94) (kz := 94) DX0_percolate_90W (s_0 (((((hL.sf gσ15).sf gσ16).sf gσ23).sf gσ57).sf gσ67)) rfl (by decide) rfl (Or.inl q1140) (fun _ _ => rfl) (fun f70 => ?_)
      have h := h f70
      refine v_iload_n 1 DX0_percolate_93W rfl rfl <| ?_
      obtain ⟨k71, k72, h⟩ := h
      refine w_iast DX0_percolate_94W (s_209 (((((hL.sf gσ15).sf gσ16).sf gσ23).sf gσ57).sf gσ67)) k71 k72 k2 (fun σ73 eσ73 gσ73 => ?_)
      have h := h σ73 eσ73 gσ73
      refine v_aload_n 0 DX0_percolate_95W rfl rfl <| v_dup DX0_percolate_96W rfl <| ?_
      refine w_getI (ci := 0) (kf := 94) (kz := 94) DX0_percolate_97W (s_0 ((((((hL.sf gσ15).sf gσ16).sf gσ23).sf gσ57).sf gσ67).sf gσ73)) rfl (by decide) rfl (Or.inl q1140) (fun _ _ => rfl) (fun f74 => ?_)
      have h := h f74
      refine v_iconst DX0_percolate_100W <| v_iadd DX0_percolate_101W <| ?_
      obtain ⟨k75, h⟩ := h
      refine w_putI (ci := 0) (kf := 94) (kz := 94) DX0_percolate_102W (s_0 ((((((hL.sf gσ15).sf gσ16).sf gσ23).sf gσ57).sf gσ67).sf gσ73)) rfl (by decide) rfl (Or.inl ⟨rfl, q1140⟩) (fun _ _ => rfl) k75 rfl rfl (fun σ76 eσ76 gσ76 => ?_)
      have h := h σ76 eσ76 gσ76
      refine v_iinc 1 DX0_percolate_105W rfl (by decide) rfl <| v_goto (pc' := 7) DX0_percolate_108W.1 (by decide) <| ?_
      exact v_pick [1, 0] rfl h
    · have h := h.2 c69
      refine v_goto (pc' := 105) DX0_percolate_82W.1 (by decide) <| v_iinc 1 DX0_percolate_105W rfl (by decide) rfl <| v_goto (pc' := 7) DX0_percolate_108W.1 (by decide) <| ?_
      exact v_pick [1, 0] rfl h
theorem sp_X0_percolateW {E : XE} {d : Nat} {σ : Sto} {K : Int} {V : Int} (hd : 528 ≤ d) (hL : Lay σ)  (p0 : BSX σ K V) (p1 : 0 ≤ σ.I 0 51 ∧ σ.I 0 51 ≤ 20) (p2 : ∀ k, 0 ≤ k → k < σ.I 0 51 → QLX σ (274 + 14 * k.toNat)) (p3 : PBD σ 121) (p4 : VFB σ (σ.I 0 20)) : CC E mX0_percolate d [aO 0] σ (RVI (fun y τ => (y = τ.I 0 94) ∧ (PCX σ τ K V (σ.I 0 51)) ∧ (0 ≤ τ.I 0 94 ∧ τ.I 0 94 ≤ 20) ∧ (PBD τ 121) ∧ (KPX (σ.I 0 39) σ τ))) := by
  obtain ⟨d, rfl⟩ : ∃ e, d = e + 1 := ⟨d - 1, by omega⟩
  have hnx := p0.2.1
  have key : ∀ wa wb wc : Nat, (∀ (x1 : Int) (τ : Sto), SF σ τ → ((KPX (σ.I 0 39) σ τ) ∧ (0 ≤ x1 ∧ x1 ≤ σ.I 0 51) ∧ (PCX σ τ K V x1) ∧ (PBD τ 121)) → wa = (21 - x1).toNat → wb = 0 → wc = 0 → VV E mX0_percolate (d + 1) 7 [(0, aO 0), (1, aI (x1))] [] τ (RVI (fun y τ => (y = τ.I 0 94) ∧ (PCX σ τ K V (σ.I 0 51)) ∧ (0 ≤ τ.I 0 94 ∧ τ.I 0 94 ≤ 20) ∧ (PBD τ 121) ∧ (KPX (σ.I 0 39) σ τ)))) := by
    refine lex3 (fun wa wb wc ih => ?_)
    have ih0 : ∀ (x1 : Int) (τ : Sto), SF σ τ → ((KPX (σ.I 0 39) σ τ) ∧ (0 ≤ x1 ∧ x1 ≤ σ.I 0 51) ∧ (PCX σ τ K V x1) ∧ (PBD τ 121)) → lt3 ((21 - x1).toNat) 0 0 wa wb wc → VV E mX0_percolate (d + 1) 7 [(0, aO 0), (1, aI (x1))] [] τ (RVI (fun y τ => (y = τ.I 0 94) ∧ (PCX σ τ K V (σ.I 0 51)) ∧ (0 ≤ τ.I 0 94 ∧ τ.I 0 94 ≤ 20) ∧ (PBD τ 121) ∧ (KPX (σ.I 0 39) σ τ))) := fun z0 z1 h0 h1 hlt => (ih _ _ _ hlt) z0 z1 h0 h1 rfl rfl rfl
    clear ih
    skip
    · rintro x1 τ gτ ⟨i0, i1, i2, i3⟩ ha hb hc
      subst ha hb hc
      have kk : ∀ c i, ¬ wsPX (σ.I 0 39) c i → τ.I c i = σ.I c i := i0.2
      have k51 : τ.I 0 51 = σ.I 0 51 := kk _ _ (by unfold wsPX; omega)
      have hpb := PCX_b i2 i1.1
      have k39 : τ.I 0 39 = (σ.I 0 39) := kk _ _ (by unfold wsPX; omega)
      have hR7 : τ.R = σ.R := i0.1.1
      have hq2 := hdI (fun (h : x1 < σ.I 0 51) => p2 x1 i1.1 h)
      have hnx := p0.2.1
      refine ucX0_percolate_7W (K := K) (V := V) (hL.sf gτ)  ?_
      rintro ⟨f1, f1q⟩
      refine ⟨?_, ?_⟩
      · (first | exact ⟨by omega, by omega⟩ | assumption)
      refine ⟨fun c2 => ?_, fun c3 => ?_⟩
      · rintro ⟨f4, f4q⟩
        refine RVI_mk ?_ ?_
        · (first | exact ⟨by omega, by omega⟩ | assumption)
        · refine ⟨?_, ?_, ?_, ?_, ?_⟩
          · (first | omega | exact ⟨by omega, by omega⟩ | assumption)
          · (clear ih0; first | exact hY | exact hN (by assumption) | (rw [show σ.I 0 51 = x1 by omega]; exact i2))
          · (first | omega | exact ⟨by omega, by omega⟩ | assumption)
          · (clear ih0; first | exact hP75 | exact hP66 | exact i3)
          · exact i0
      · refine ⟨?_, ?_⟩
        · (first | omega | exact ⟨by omega, by omega⟩ | assumption)
        refine ⟨?_, ?_⟩
        · (first | omega | exact ⟨by omega, by omega⟩ | assumption)
        refine ⟨?_, fun b7 r5 => ?_⟩
        · (clear ih0; (rw [hR7, (kept_at hL i1.1 (by omega)).1]; exact (fun z => by cases z)))
        have e7 := kept_c hL hR7 i1.1 (by omega) r5
        subst e7
        have hq := (hdO hq2) (by omega)
        have hq5 := hq.2.2.2.2.1
        have hq1 := hq.1.2
        have hqb : 274 ≤ (274 + 14 * x1.toNat) ∧ (274 + 14 * x1.toNat) ≤ 540 := (by omega)
        have kq : ∀ c i, (274 + 14 * x1.toNat) + 1 ≤ c → c ≤ (274 + 14 * x1.toNat) + 14 → τ.I c i = σ.I c i := fun c i a b => kk c i (by unfold wsPX; omega)
        have v1 : τ.I ((274 + 14 * x1.toNat) + 1) 1 = σ.I ((274 + 14 * x1.toNat) + 1) 1 := kq _ _ (by omega) (by omega)
        have v2 : τ.I ((274 + 14 * x1.toNat) + 1) 2 = σ.I ((274 + 14 * x1.toNat) + 1) 2 := kq _ _ (by omega) (by omega)
        have hb5 : 275 + 14 * x1.toNat = (274 + 14 * x1.toNat) + 1 := (by omega)
        have v1' : τ.I (275 + 14 * x1.toNat) 1 = σ.I ((274 + 14 * x1.toNat) + 1) 1 := (by rw [hb5]; exact v1)
        have v2' : τ.I (275 + 14 * x1.toNat) 2 = σ.I ((274 + 14 * x1.toNat) + 1) 2 := (by rw [hb5]; exact v2)
        refine ⟨?_, ?_⟩
        · (clear ih0; exact (kept_at (i := x1) (hL.sf gτ) i1.1 (by omega)).2)
        refine ⟨?_, ?_⟩
        · omega
        refine ⟨?_, ?_⟩
        · (first | omega | exact ⟨by omega, by omega⟩ | assumption)
        refine ⟨?_, ?_⟩
        · (first | omega | exact ⟨by omega, by omega⟩ | assumption)
        refine ⟨?_, ?_⟩
        · (first | omega | exact ⟨by omega, by omega⟩ | assumption)
        rintro σ15 gσ15 ⟨⟨eσ15r, eσ15s, eσ15n⟩, eσ15⟩
        rw [hb5] at eσ15
        have k15 : ∀ c i, ¬ (122 ≤ c ∧ c ≤ 135) → σ15.I c i = τ.I c i := fun c i q => (by rw [eσ15]; unfold CQF; rw [if_neg (by omega), if_neg (by omega), if_neg (by omega)])
        have q15a : ∀ c i, c = 122 → 1 ≤ i → i ≤ 4 → σ15.I c i = τ.I ((274 + 14 * x1.toNat) + 1) i := fun c i a b d => (by rw [eσ15]; unfold CQF; rw [if_pos ⟨a, b, d⟩])
        have q15b : ∀ c i, c = 123 → 0 ≤ i → i < τ.I ((274 + 14 * x1.toNat) + 1) 1 → σ15.I c i = τ.I ((274 + 14 * x1.toNat) + 1 + 1) i := fun c i a b d => (by rw [eσ15]; unfold CQF; rw [if_neg (by omega), if_pos ⟨a, b, d⟩])
        have q15c : ∀ m x, 3 ≤ m → m ≤ 14 → 0 ≤ x → x < τ.I ((274 + 14 * x1.toNat) + 1) 2 → σ15.I (121 + m) x = τ.I ((274 + 14 * x1.toNat) + m) x := fun m x a b d e => (by rw [eσ15]; unfold CQF; rw [if_neg (by omega), if_neg (by omega), if_pos ⟨by omega, d, Or.inl e⟩, show (274 + 14 * x1.toNat) + 1 + (121 + m - 122) = (274 + 14 * x1.toNat) + m by omega])
        have kσ15 : KPX (σ.I 0 39) τ σ15 := ⟨⟨eσ15r, eσ15s, eσ15n⟩, fun c i q => k15 c i (fun z => q (by unfold wsPX; omega))⟩
        intro σ16 eσ16 gσ16
        have k16 : ∀ c i, ¬ (121 ≤ c ∧ c ≤ 135) → σ16.I c i = τ.I c i := fun c i q => (by rw [eσ16, I_ne _ _ _ _ (by omega)]; exact k15 c i (by omega))
        have u39 : σ16.I 0 39 = (σ.I 0 39) := (k16 _ _ (by omega)).trans k39
        have u20 : σ16.I 0 20 = σ.I 0 20 := (k16 _ _ (by omega)).trans (kk _ _ (by unfold wsPX; omega))
        have u31 : σ16.I 0 31 = σ.I 0 31 := (k16 _ _ (by omega)).trans (kk _ _ (by unfold wsPX; omega))
        have hdr := p0.1.2.2.2.2.2.2.2.2.2.2.1
        have htr : tre σ16 44 (σ16.I 0 39) := (by rw [u39]; intro k a b; rw [k16 _ _ (by omega), kk _ _ (by unfold wsPX; omega)]; exact p0.2.2.2.2.2.2.2.2.2.2.2.1 k a b)
        have kσ16 : KPX (σ.I 0 39) σ15 σ16 := (by rw [eσ16]; exact Ch.wI Ch.rf (by unfold wsPX; omega))
        refine ⟨?_, ?_⟩
        · omega
        refine ⟨?_, ?_⟩
        · (first | omega | exact ⟨by omega, by omega⟩ | assumption)
        refine ⟨?_, ?_⟩
        · (first | omega | exact ⟨by omega, by omega⟩ | assumption)
        refine ⟨?_, ?_⟩
        · (clear ih0; exact htr)
        refine ⟨?_, ?_⟩
        · (first | omega | exact ⟨by omega, by omega⟩ | assumption)
        refine ⟨?_, ?_⟩
        · (first | omega | exact ⟨by omega, by omega⟩ | assumption)
        rintro σ23 gσ23 ⟨⟨⟨eσ23_0r, eσ23_0s, eσ23_0n⟩, eσ23_0⟩, eσ23_1⟩
        have k23 : ∀ c i, ¬ (136 ≤ c ∧ c ≤ 141) → ¬ ((c = 42 ∨ c = 43 ∨ c = 44) ∧ i = (σ.I 0 39)) → σ23.I c i = σ16.I c i := fun c i a b => (by rw [eσ23_0]; show (if c = _ ∨ c = _ then _ else if at2 c i _ _ then _ else if at2 c i _ _ then _ else if at2 c i _ _ then _ else if at2 c i _ _ then _ else if rg c i _ _ _ then _ else if at2 c i _ _ then _ else if at2 c i _ _ then _ else if at2 c i _ _ then _ else if at2 c i _ _ then _ else _) = _; rw [if_neg (by omega), if_neg (fun z => by have y := z.1; omega), if_neg (fun z => by have y := z.1; omega), if_neg (fun z => by have y := z.1; omega), if_neg (fun z => by have y := z.1; omega), if_neg (fun z => by have y := z.1; omega), if_neg (fun z => by have y := z.1; omega), if_neg (fun z => b ⟨Or.inl z.1, by have y := z.2; omega⟩), if_neg (fun z => b ⟨Or.inr (Or.inl z.1), by have y := z.2; omega⟩), if_neg (fun z => b ⟨Or.inr (Or.inr z.1), by have y := z.2; omega⟩)])
        have w23 : σ23.I 136 6 = σ16.I 0 39 ∧ σ23.I 136 7 = σ16.I 0 39 + 1 ∧ σ23.I 136 8 = 1 ∧ σ23.I 136 1 = 0 := (by rw [eσ23_0]; refine ⟨?_, ?_, ?_, ?_⟩ <;> grind)
        have s23 : (∀ k, 0 ≤ k → k < σ16.I 0 39 → σ23.I 137 k = 0) ∧ σ23.I 137 (σ16.I 0 39) = 1 := (by rw [eσ23_0]; refine ⟨fun k a b => ?_, ?_⟩ <;> grind)
        have d23 : σ23.I 42 (σ16.I 0 39) = σ16.I 0 31 ∧ σ23.I 43 (σ16.I 0 39) = σ16.I 0 20 - σ16.I 0 31 ∧ σ23.I 44 (σ16.I 0 39) = -1 := (by rw [eσ23_0]; refine ⟨?_, ?_, ?_⟩ <;> grind)
        have n23 : ∀ c i, ¬ wsPX (σ.I 0 39) c i → σ23.I c i = σ.I c i := fun c i q => (k23 c i (fun z => q (by unfold wsPX; omega)) (fun z => q (by unfold wsPX; omega))).trans ((k16 c i (fun z => q (by unfold wsPX; omega))).trans (kk c i q))
        have er23 : σ23.2 = σ.2 := Prod.ext (eσ23_0r.trans ((by rw [eσ16]; rfl : σ16.R = σ15.R).trans (eσ15r.trans i0.1.1))) (Prod.ext (eσ23_0s.trans ((by rw [eσ16]; rfl : σ16.sh = σ15.sh).trans (eσ15s.trans i0.1.2.1))) (eσ23_0n.trans ((by rw [eσ16]; rfl : σ16.n = σ15.n).trans (eσ15n.trans i0.1.2.2))))
        have kσ23 : KPX (σ.I 0 39) σ16 σ23 := ⟨⟨eσ23_0r, eσ23_0s, eσ23_0n⟩, fun c i q => k23 c i (fun z => q (by unfold wsPX; omega)) (fun z => q (by unfold wsPX; omega))⟩
        have hKW : KPX (σ.I 0 39) σ σ23 := ⟨⟨congrArg (·.1) er23, congrArg (·.2.1) er23, congrArg (·.2.2) er23⟩, n23⟩
        have e0 : ∀ i, i ≠ 94 → σ23.I 0 i = σ.I 0 i := fun i q => n23 0 i (by unfold wsPX; omega)
        have eA : ∀ c, 16 ≤ c ∧ c < 80 → c ≠ 42 → c ≠ 43 → c ≠ 44 → σ23.I c = σ.I c := fun c q a b d => funext fun i => n23 c i (by unfold wsPX; omega)
        have eG : ∀ c, 675 ≤ c → σ23.I c = σ.I c := fun c q => funext fun i => n23 c i (by unfold wsPX; omega)
        have x23 : ∀ c i, 122 ≤ c → c ≤ 135 → σ23.I c i = σ15.I c i := fun c i a b => (k23 c i (by omega) (by omega)).trans (by rw [eσ16]; exact I_ne _ _ _ _ (by omega))
        have hCPR : CPR σ σ23 121 (274 + 14 * x1.toNat) := ⟨⟨((x23 (121 + 1) 2 (by omega) (by omega)).trans (q15a _ _ (by omega) (by decide) (by decide))).trans (kq _ _ (by omega) (by omega)), ((x23 (121 + 1) 4 (by omega) (by omega)).trans (q15a _ _ (by omega) (by decide) (by decide))).trans (kq _ _ (by omega) (by omega)), ((x23 (121 + 1) 1 (by omega) (by omega)).trans (q15a _ _ (by omega) (by decide) (by decide))).trans (kq _ _ (by omega) (by omega))⟩, fun m x a b c e => ((x23 (121 + m) x (by omega) (by omega)).trans (q15c m x a b c (by rw [v2]; exact e))).trans (kq _ _ (by omega) (by omega)), fun i a b => ((x23 (121 + 2) i (by omega) (by omega)).trans (q15b _ _ (by omega) a (by rw [v1]; exact b))).trans (kq _ _ (by omega) (by omega))⟩
        have hQ := CPR_q2 hCPR hq (fun c q => eA c (by omega) (by omega) (by omega) (by omega)) ⟨e0 9 (by decide), e0 4 (by decide), e0 20 (by decide)⟩ er23 eG p0.2.2.2.1
        have hAL : ALN1 σ23 121 := (by have z39 := e0 39 (by decide); refine ⟨⟨?_, ?_, w23.2.2.1, w23.2.2.2⟩, fun k a b => s23.1 k a (by omega), ?_, ?_, ?_, ?_⟩; (rw [z39]; exact w23.1.trans u39); (rw [z39]; exact w23.2.1.trans (by rw [u39])); (rw [z39, ← u39]; exact s23.2); (rw [z39, e0 31 (by decide), ← u39, ← u31]; exact d23.1); (rw [z39, e0 31 (by decide), e0 20 (by decide), ← u39, ← u31, ← u20]; exact d23.2.1); (rw [z39, ← u39]; exact d23.2.2))
        obtain ⟨⟨a1, a2, a3, a4, a5, a6, a7, a8, a9, a10, a11⟩, b1, b2, b3, b4, b5, b6, b7, b8, b9, b10, b11, b12⟩ := p0
        have dd := a11.1
        have z39 := e0 39 (by decide)
        have w42 : ∀ o, o ≠ (σ.I 0 39) → σ23.I 42 o = σ.I 42 o ∧ σ23.I 43 o = σ.I 43 o ∧ σ23.I 44 o = σ.I 44 o := fun o q => ⟨n23 _ _ (by unfold wsPX; omega), n23 _ _ (by unfold wsPX; omega), n23 _ _ (by unfold wsPX; omega)⟩
        have y42 : σ23.I 42 (σ.I 0 39) = σ.I 0 31 := (by have z := d23.1; rw [u39, u31] at z; exact z)
        have y43 : σ23.I 43 (σ.I 0 39) = σ.I 0 20 - σ.I 0 31 := (by have z := d23.2.1; rw [u39, u31, u20] at z; exact z)
        have b82 := b8.2
        have hOB : OB σ23 42 43 := fun o x y => (by by_cases z : o = (σ.I 0 39); (rw [z, y42, y43]; omega); (rw [(w42 o z).1, (w42 o z).2.1]; exact a2 o x y))
        have hb2 : bd_0_250 σ23 32 6000 := bd_0_250_eq a3 (eA _ (by omega) (by omega) (by omega) (by omega))
        have hVF : VFX σ23 (121 + 15) := fun k x y _ j j0 j1 => (by rw [e0 9 (by decide), eA 26 (by omega) (by omega) (by omega) (by omega)]; by_cases z : k = (σ.I 0 39); (rw [z, y42]; rw [z, y43] at j1; exact p4 _ (by omega) (by omega)); (rw [(w42 k z).1]; rw [(w42 k z).2.1] at j1; exact (b9 k x (by have q : σ23.I (121 + 15) 7 = _ := w23.2.1; omega)).2 j j0 j1))
        have hWO : WOX σ23 (121 + 15) := fun k x y _ => (by rw [e0 20 (by decide)]; by_cases z : k = (σ.I 0 39); (rw [z, y42, y43]; omega); (rw [(w42 k z).1, (w42 k z).2.1]; exact (b9 k x (by have q : σ23.I (121 + 15) 7 = _ := w23.2.1; omega)).1))
        have hTC : TC σ23 := TC_eq a4 (eA 19 (by omega) (by omega) (by omega) (by omega)) (eA 20 (by omega) (by omega) (by omega) (by omega)) (eA 21 (by omega) (by omega) (by omega) (by omega)) (eA 24 (by omega) (by omega) (by omega) (by omega)) (eA 25 (by omega) (by omega) (by omega) (by omega)) (congrFun (eA 18 (by omega) (by omega) (by omega) (by omega)) 7)
        have h187 : σ23.I 18 7 = σ.I 18 7 := congrFun (eA 18 (by omega) (by omega) (by omega) (by omega)) 7
        have hPT : PT σ23 K := (by unfold PT isWt tkQ; rw [eA 22 (by omega) (by omega) (by omega) (by omega), eA 23 (by omega) (by omega) (by omega) (by omega), eA 37 (by omega) (by omega) (by omega) (by omega), eA 36 (by omega) (by omega) (by omega) (by omega), eA 18 (by omega) (by omega) (by omega) (by omega), eA 16 (by omega) (by omega) (by omega) (by omega), eA 20 (by omega) (by omega) (by omega) (by omega)]; exact a7)
        have hPW : PW σ23 V := (by unfold PW isWt wkQ; rw [eA 22 (by omega) (by omega) (by omega) (by omega), eA 23 (by omega) (by omega) (by omega) (by omega), eA 34 (by omega) (by omega) (by omega) (by omega), eA 33 (by omega) (by omega) (by omega) (by omega), eA 18 (by omega) (by omega) (by omega) (by omega), eA 16 (by omega) (by omega) (by omega) (by omega), eA 20 (by omega) (by omega) (by omega) (by omega), eA 26 (by omega) (by omega) (by omega) (by omega)]; exact a8)
        have hOV : OBV σ23 K V := (by unfold OBV; rw [eA 38 (by omega) (by omega) (by omega) (by omega), eA 27 (by omega) (by omega) (by omega) (by omega)]; exact a9)
        have hTV : TVL σ23 K V := (by unfold TVL; rw [eA 38 (by omega) (by omega) (by omega) (by omega), eA 31 (by omega) (by omega) (by omega) (by omega), eA 32 (by omega) (by omega) (by omega) (by omega)]; exact a10)
        have hDR : DRV σ23 := (by unfold DRV; rw [e0 31 (by decide), e0 20 (by decide), eA 26 (by omega) (by omega) (by omega) (by omega), eA 31 (by omega) (by omega) (by omega) (by omega), eA 32 (by omega) (by omega) (by omega) (by omega)]; exact a11)
        have h20 : bd_0_20 σ23 21 36500 := bd_0_20_eq b2 (eA _ (by omega) (by omega) (by omega) (by omega))
        have hAN : AN σ23 := AN_k b3 (congrArg (·.1) er23) (congrArg (·.2.1) er23) (congrArg (·.2.2) er23) (e0 4 (by decide))
        have hAX : ANX σ23 := (ANX_e2 b4 b3 er23 (e0 4 (by decide)) eG)
        have h39 : bd_0_499 σ23 39 24000 := bd_0_499_eq b6 (eA _ (by omega) (by omega) (by omega) (by omega))
        have hb7 : ∀ v, 0 ≤ v → v < V → 0 ≤ σ23.I 31 v ∧ 0 ≤ σ23.I 32 v ∧ σ23.I 31 v + σ23.I 32 v ≤ 24000 := (by rw [eA 31 (by omega) (by omega) (by omega) (by omega), eA 32 (by omega) (by omega) (by omega) (by omega)]; exact b7)
        have hVO : VOC σ23 V := (by unfold VOC; rw [e0 31 (by decide), e0 20 (by decide), eA 27 (by omega) (by omega) (by omega) (by omega)]; exact b8)
        have hPB : PBD σ23 121 := PBD_e i3 (fun c i q => (k23 c i (by omega) (by omega)).trans (k16 c i (by omega)))
        have hsn : ∀ k, 0 ≤ k → k < 600 → (∃ v, 0 ≤ v ∧ v < V ∧ σ23.I 27 v = k) → ¬ sn σ23 (121 + 15) k := fun k a b ⟨v, v0, v1, v2⟩ => (by rw [eA 27 (by omega) (by omega) (by omega) (by omega)] at v2; have z := b10 v v0 v1; have w := s23.1 k a (by omega); unfold sn; rw [show (121 + 15 + 1 : Nat) = 137 from rfl, w]; decide)
        have how : ∀ t, owX σ23 (121 + 15) t K V = 0 := fun t => owX_al hOV hsn
        have h16 : σ23.I (121 + 15) 6 = (σ.I 0 39) := w23.1.trans u39
        have h17 : σ23.I (121 + 15) 7 = (σ.I 0 39) + 1 := w23.2.1.trans (by rw [u39])
        have hhv : ∀ f n, 0 ≤ hvX σ23 (121 + 15) f n := fun f n => (by have z := cn_in (fun k => swX σ23 (121 + 15) k ∧ hxV σ23 f k) n; show 0 ≤ cn _ _; omega)
        refine ⟨?_, ?_⟩
        · omega
        refine ⟨?_, ?_⟩
        · (first | omega | exact ⟨by omega, by omega⟩ | assumption)
        refine ⟨?_, ?_⟩
        · (clear ih0; exact hQ.1.1.2)
        refine ⟨?_, ?_⟩
        · (clear ih0; exact hQ.1.2.1)
        refine ⟨?_, ?_⟩
        · (clear ih0; exact hQ.1.2.2.1)
        refine ⟨?_, ?_⟩
        · (clear ih0; exact hQ.1.2.2.2.1)
        refine ⟨?_, ?_⟩
        · (clear ih0; (rw [e0 9 (by decide)]; exact a1))
        refine ⟨?_, ?_⟩
        · (first | omega | exact ⟨by omega, by omega⟩ | assumption)
        refine ⟨?_, ?_⟩
        · (clear ih0; exact hOB)
        refine ⟨?_, ?_⟩
        · (clear ih0; exact hb2)
        refine ⟨?_, ?_⟩
        · (clear ih0; exact hVF)
        refine ⟨?_, ?_⟩
        · (clear ih0; exact hTC)
        refine ⟨?_, ?_⟩
        · (clear ih0; (rw [h187]; exact a5))
        refine ⟨?_, ?_⟩
        · (clear ih0; (rw [h187, e0 9 (by decide), eA 20 (by omega) (by omega) (by omega) (by omega)]; exact a6))
        refine ⟨?_, ?_⟩
        · (clear ih0; exact hPT)
        refine ⟨?_, ?_⟩
        · (clear ih0; exact hPW)
        refine ⟨?_, ?_⟩
        · (clear ih0; exact hOV)
        refine ⟨?_, ?_⟩
        · (clear ih0; exact hTV)
        refine ⟨?_, ?_⟩
        · (clear ih0; exact hDR)
        refine ⟨?_, ?_⟩
        · (first | omega | exact ⟨by omega, by omega⟩ | assumption)
        refine ⟨?_, ?_⟩
        · (clear ih0; exact h20)
        refine ⟨?_, ?_⟩
        · (clear ih0; exact hAN)
        refine ⟨?_, ?_⟩
        · (clear ih0; exact hAX)
        refine ⟨?_, ?_⟩
        · (clear ih0; (rw [e0 4 (by decide)]; exact b5))
        refine ⟨?_, ?_⟩
        · (clear ih0; exact h39)
        refine ⟨?_, ?_⟩
        · (clear ih0; exact hb7)
        refine ⟨?_, ?_⟩
        · (clear ih0; exact hVO)
        refine ⟨?_, ?_⟩
        · (clear ih0; exact hPB)
        refine ⟨?_, ?_⟩
        · (clear ih0; exact (fun t _ _ => by rw [how t]; exact ⟨by decide, hhv _ _⟩))
        refine ⟨?_, ?_⟩
        · (clear ih0; (rw [h17, eA 27 (by omega) (by omega) (by omega) (by omega)]; exact (fun v x y => by have z := b10 v x y; omega)))
        refine ⟨?_, ?_⟩
        · (first | omega | exact ⟨by omega, by omega⟩ | assumption)
        refine ⟨?_, ?_⟩
        · (clear ih0; exact how _)
        refine ⟨?_, ?_⟩
        · (clear ih0; exact hWO)
        rintro σ57 gσ57 ⟨eσ57_0, eσ57_1⟩
        have kσ57 : KPX (σ.I $next) σ23 σ57 := KPX_of_KPq eσ57_1
        have kσ57r := eσ57_1.1.1
        rintro ⟨f6, f6q⟩
        rintro ⟨f7, f7q⟩
        refine ⟨?_, ?_⟩
        · (first | omega | exact ⟨by omega, by omega⟩ | assumption)
        refine ⟨?_, ?_⟩
        · (first | omega | exact ⟨by omega, by omega⟩ | assumption)
        refine ⟨?_, ?_⟩
        · (clear ih0; exact hSC.1)
        refine ⟨?_, ?_⟩
        · (clear ih0; exact hSC.2.1)
        refine ⟨?_, ?_⟩
        · (clear ih0; exact hSC.2.2)
        refine ⟨?_, ?_⟩
        · (clear ih0; exact ⟨⟨by omega, by omega⟩, hsw⟩)
        refine ⟨?_, ?_⟩
        · (first | omega | exact ⟨by omega, by omega⟩ | assumption)
        rintro y68 σ67 ⟨y68f, y68fq⟩ gσ67 ⟨eσ67_0, eσ67_1, eσ67_2⟩
        have kσ67 : KPX (σ.I $next) σ57 σ67 := KPX_of_KNf eσ67_2
        have kσ67r := eσ67_2.1.1
        refine ⟨fun c8 => ?_, fun c9 => ?_⟩
        · rintro ⟨f10, f10q⟩
          refine ⟨?_, ?_⟩
          · (first | omega | exact ⟨by omega, by omega⟩ | assumption)
          refine ⟨?_, ?_⟩
          · (first | omega | exact ⟨by omega, by omega⟩ | assumption)
          intro σ73 eσ73 gσ73
          have kσ73 : KPX (σ.I $next) σ67 σ73 := KPX_w eσ73 (by unfold None; omega)
          rintro ⟨f11, f11q⟩
          refine ⟨?_, ?_⟩
          · (first | exact ⟨by omega, by omega⟩ | assumption)
          intro σ76 eσ76 gσ76
          have kσ76 : KPX (σ.I $next) σ73 σ76 := KPX_w eσ76 (by unfold None; omega)
          refine ih0 _ _ (((((((gτ.tr gσ15).tr gσ16).tr gσ23).tr gσ57).tr gσ67).tr gσ73).tr gσ76) ⟨?_, ?_, ?_, ?_⟩ ?_
          · exact (Ch.tr (Ch.tr (Ch.tr (Ch.tr (Ch.tr (Ch.tr (Ch.tr i0 kσ15) kσ16) kσ23) kσ57) kσ67) kσ73) kσ76)
          · (first | omega | exact ⟨by omega, by omega⟩ | assumption)
          · (clear ih0; first | exact hY | exact hN (by assumption) | (rw [show σ.I 0 51 = x1 by omega]; exact i2))
          · (clear ih0; first | exact hP75 | exact hP66 | exact i3)
          · (unfold lt3; omega)
        · refine ih0 _ _ (((((gτ.tr gσ15).tr gσ16).tr gσ23).tr gσ57).tr gσ67) ⟨?_, ?_, ?_, ?_⟩ ?_
          · exact (Ch.tr (Ch.tr (Ch.tr (Ch.tr (Ch.tr i0 kσ15) kσ16) kσ23) kσ57) kσ67)
          · (first | omega | exact ⟨by omega, by omega⟩ | assumption)
          · (clear ih0; first | exact hY | exact hN (by assumption) | (rw [show σ.I 0 51 = x1 by omega]; exact i2))
          · (clear ih0; first | exact hP75 | exact hP66 | exact i3)
          · (unfold lt3; omega)
  have k0_ : ∀ (x1 : Int) (τ : Sto), SF σ τ → ((KPX (σ.I 0 39) σ τ) ∧ (0 ≤ x1 ∧ x1 ≤ σ.I 0 51) ∧ (PCX σ τ K V x1) ∧ (PBD τ 121)) → VV E mX0_percolate (d + 1) 7 [(0, aO 0), (1, aI (x1))] [] τ (RVI (fun y τ => (y = τ.I 0 94) ∧ (PCX σ τ K V (σ.I 0 51)) ∧ (0 ≤ τ.I 0 94 ∧ τ.I 0 94 ≤ 20) ∧ (PBD τ 121) ∧ (KPX (σ.I 0 39) σ τ))) := fun z0 z1 h0 h1 => (key _ _ _) z0 z1 h0 h1 rfl rfl rfl
  clear key
  refine ucX0_percolate_0W (K := K) (V := V) hL  ?_
  intro σ1 eσ1 gσ1
  have k1 : ∀ c i, ¬ (c = 0 ∧ i = 94) → σ1.I c i = σ.I c i := fun c i q => (by rw [eσ1]; exact I_ot _ _ _ _ _ _ q)
  have kσ1 : KPX (σ.I 0 39) σ σ1 := (by rw [eσ1]; exact Ch.wI Ch.rf (by unfold wsPX; omega))
  have h0 : PCX σ σ1 K V 0 := ⟨fun _ => σ, fun _ => σ, fun k a b => by omega, (by rw [eσ1]; exact (cn_0 _ _ (Int.le_refl _)).symm ▸ rfl), fun k a b => by omega⟩
  have hP1 : PBD σ1 121 := PBD_e p3 (fun c i q => k1 c i (by omega))
  refine k0_ _ _ gσ1 ⟨?_, ?_, ?_, ?_⟩
  · exact kσ1
  · (first | omega | exact ⟨by omega, by omega⟩ | assumption)
  · (clear k0_; exact h0)
  · (clear k0_; exact hP1)
