set_option maxRecDepth 100000
set_option maxHeartbeats 1200000
theorem DX0_makeWorld_0W : DD cX0_makeWorld 0 1 1 (.aload_n 1) := ⟨by decide +kernel, rfl⟩
theorem DX0_makeWorld_1W : DD cX0_makeWorld 1 3 4 (.getfield 568) := ⟨by decide +kernel, rfl⟩
theorem DX0_makeWorld_4W : DD cX0_makeWorld 4 1 5 (.iload_n 2) := ⟨by decide +kernel, rfl⟩
theorem DX0_makeWorld_5W : DD cX0_makeWorld 5 3 8 (.invokevirtual 572) := ⟨by decide +kernel, rfl⟩
theorem DX0_makeWorld_8W : DD cX0_makeWorld 8 1 9 (.aload_n 0) := ⟨by decide +kernel, rfl⟩
theorem DX0_makeWorld_9W : DD cX0_makeWorld 9 3 12 (.getfield 222) := ⟨by decide +kernel, rfl⟩
theorem DX0_makeWorld_12W : DD cX0_makeWorld 12 1 13 (.aload_n 0) := ⟨by decide +kernel, rfl⟩
theorem DX0_makeWorld_13W : DD cX0_makeWorld 13 3 16 (.getfield 527) := ⟨by decide +kernel, rfl⟩
theorem DX0_makeWorld_16W : DD cX0_makeWorld 16 1 17 (.aaload) := ⟨by decide +kernel, rfl⟩
theorem DX0_makeWorld_17W : DD cX0_makeWorld 17 3 20 (.getfield 533) := ⟨by decide +kernel, rfl⟩
theorem DX0_makeWorld_20W : DD cX0_makeWorld 20 3 23 (.ifCond .eq 129) := ⟨by decide +kernel, rfl⟩
theorem DX0_makeWorld_23W : DD cX0_makeWorld 23 1 24 (.aload_n 0) := ⟨by decide +kernel, rfl⟩
theorem DX0_makeWorld_24W : DD cX0_makeWorld 24 3 27 (.getfield 527) := ⟨by decide +kernel, rfl⟩
theorem DX0_makeWorld_27W : DD cX0_makeWorld 27 3 30 (.ifCond .le 122) := ⟨by decide +kernel, rfl⟩
theorem DX0_makeWorld_30W : DD cX0_makeWorld 30 1 31 (.aload_n 0) := ⟨by decide +kernel, rfl⟩
theorem DX0_makeWorld_31W : DD cX0_makeWorld 31 3 34 (.getfield 275) := ⟨by decide +kernel, rfl⟩
theorem DX0_makeWorld_34W : DD cX0_makeWorld 34 3 37 (.getfield 577) := ⟨by decide +kernel, rfl⟩
theorem DX0_makeWorld_37W : DD cX0_makeWorld 37 1 38 (.aload_n 0) := ⟨by decide +kernel, rfl⟩
theorem DX0_makeWorld_38W : DD cX0_makeWorld 38 3 41 (.getfield 222) := ⟨by decide +kernel, rfl⟩
theorem DX0_makeWorld_41W : DD cX0_makeWorld 41 1 42 (.aload_n 0) := ⟨by decide +kernel, rfl⟩
theorem DX0_makeWorld_42W : DD cX0_makeWorld 42 3 45 (.getfield 527) := ⟨by decide +kernel, rfl⟩
theorem DX0_makeWorld_45W : DD cX0_makeWorld 45 1 46 (.aaload) := ⟨by decide +kernel, rfl⟩
theorem DX0_makeWorld_46W : DD cX0_makeWorld 46 3 49 (.getfield 530) := ⟨by decide +kernel, rfl⟩
theorem DX0_makeWorld_49W : DD cX0_makeWorld 49 3 52 (.invokevirtual 514) := ⟨by decide +kernel, rfl⟩
theorem DX0_makeWorld_52W : DD cX0_makeWorld 52 1 53 (.aload_n 0) := ⟨by decide +kernel, rfl⟩
theorem DX0_makeWorld_53W : DD cX0_makeWorld 53 3 56 (.getfield 275) := ⟨by decide +kernel, rfl⟩
theorem DX0_makeWorld_56W : DD cX0_makeWorld 56 1 57 (.iconst 0) := ⟨by decide +kernel, rfl⟩
theorem DX0_makeWorld_57W : DD cX0_makeWorld 57 3 60 (.putfield 580) := ⟨by decide +kernel, rfl⟩
theorem DX0_makeWorld_60W : DD cX0_makeWorld 60 1 61 (.aload_n 0) := ⟨by decide +kernel, rfl⟩
theorem DX0_makeWorld_61W : DD cX0_makeWorld 61 3 64 (.getfield 275) := ⟨by decide +kernel, rfl⟩
theorem DX0_makeWorld_64W : DD cX0_makeWorld 64 3 67 (.getfield 568) := ⟨by decide +kernel, rfl⟩
theorem DX0_makeWorld_67W : DD cX0_makeWorld 67 1 68 (.iload_n 2) := ⟨by decide +kernel, rfl⟩
theorem DX0_makeWorld_68W : DD cX0_makeWorld 68 3 71 (.invokevirtual 572) := ⟨by decide +kernel, rfl⟩
theorem DX0_makeWorld_71W : DD cX0_makeWorld 71 1 72 (.aload_n 0) := ⟨by decide +kernel, rfl⟩
theorem DX0_makeWorld_72W : DD cX0_makeWorld 72 3 75 (.getfield 275) := ⟨by decide +kernel, rfl⟩
theorem DX0_makeWorld_75W : DD cX0_makeWorld 75 3 78 (.invokevirtual 581) := ⟨by decide +kernel, rfl⟩
theorem DX0_makeWorld_78W : DD cX0_makeWorld 78 1 79 (.iconst 0) := ⟨by decide +kernel, rfl⟩
theorem DX0_makeWorld_79W : DD cX0_makeWorld 79 1 80 (.istore_n 3) := ⟨by decide +kernel, rfl⟩
theorem DX0_makeWorld_80W : DD cX0_makeWorld 80 1 81 (.iload_n 3) := ⟨by decide +kernel, rfl⟩
theorem DX0_makeWorld_81W : DD cX0_makeWorld 81 1 82 (.aload_n 0) := ⟨by decide +kernel, rfl⟩
theorem DX0_makeWorld_82W : DD cX0_makeWorld 82 3 85 (.getfield 437) := ⟨by decide +kernel, rfl⟩
theorem DX0_makeWorld_85W : DD cX0_makeWorld 85 3 88 (.if_icmp .ge 57) := ⟨by decide +kernel, rfl⟩
theorem DX0_makeWorld_88W : DD cX0_makeWorld 88 1 89 (.aload_n 0) := ⟨by decide +kernel, rfl⟩
theorem DX0_makeWorld_89W : DD cX0_makeWorld 89 3 92 (.getfield 275) := ⟨by decide +kernel, rfl⟩
theorem DX0_makeWorld_92W : DD cX0_makeWorld 92 3 95 (.getfield 568) := ⟨by decide +kernel, rfl⟩
theorem DX0_makeWorld_95W : DD cX0_makeWorld 95 3 98 (.getfield 584) := ⟨by decide +kernel, rfl⟩
theorem DX0_makeWorld_98W : DD cX0_makeWorld 98 1 99 (.iload_n 3) := ⟨by decide +kernel, rfl⟩
theorem DX0_makeWorld_99W : DD cX0_makeWorld 99 1 100 (.baload) := ⟨by decide +kernel, rfl⟩
theorem DX0_makeWorld_100W : DD cX0_makeWorld 100 3 103 (.ifCond .eq 36) := ⟨by decide +kernel, rfl⟩
theorem DX0_makeWorld_103W : DD cX0_makeWorld 103 1 104 (.aload_n 0) := ⟨by decide +kernel, rfl⟩
theorem DX0_makeWorld_104W : DD cX0_makeWorld 104 3 107 (.getfield 275) := ⟨by decide +kernel, rfl⟩
theorem DX0_makeWorld_107W : DD cX0_makeWorld 107 1 108 (.aload_n 0) := ⟨by decide +kernel, rfl⟩
theorem DX0_makeWorld_108W : DD cX0_makeWorld 108 3 111 (.getfield 275) := ⟨by decide +kernel, rfl⟩
theorem DX0_makeWorld_111W : DD cX0_makeWorld 111 3 114 (.getfield 577) := ⟨by decide +kernel, rfl⟩
theorem DX0_makeWorld_114W : DD cX0_makeWorld 114 3 117 (.getfield 587) := ⟨by decide +kernel, rfl⟩
theorem DX0_makeWorld_117W : DD cX0_makeWorld 117 1 118 (.iload_n 3) := ⟨by decide +kernel, rfl⟩
theorem DX0_makeWorld_118W : DD cX0_makeWorld 118 3 121 (.invokevirtual 590) := ⟨by decide +kernel, rfl⟩
theorem DX0_makeWorld_121W : DD cX0_makeWorld 121 1 122 (.lconst 0) := ⟨by decide +kernel, rfl⟩
theorem DX0_makeWorld_122W : DD cX0_makeWorld 122 1 123 (.lcmp) := ⟨by decide +kernel, rfl⟩
theorem DX0_makeWorld_123W : DD cX0_makeWorld 123 3 126 (.ifCond .lt 13) := ⟨by decide +kernel, rfl⟩
theorem DX0_makeWorld_126W : DD cX0_makeWorld 126 1 127 (.aload_n 1) := ⟨by decide +kernel, rfl⟩
theorem DX0_makeWorld_127W : DD cX0_makeWorld 127 3 130 (.getfield 568) := ⟨by decide +kernel, rfl⟩
theorem DX0_makeWorld_130W : DD cX0_makeWorld 130 3 133 (.getfield 584) := ⟨by decide +kernel, rfl⟩
theorem DX0_makeWorld_133W : DD cX0_makeWorld 133 1 134 (.iload_n 3) := ⟨by decide +kernel, rfl⟩
theorem DX0_makeWorld_134W : DD cX0_makeWorld 134 1 135 (.iconst 0) := ⟨by decide +kernel, rfl⟩
theorem DX0_makeWorld_135W : DD cX0_makeWorld 135 1 136 (.bastore) := ⟨by decide +kernel, rfl⟩
theorem DX0_makeWorld_136W : DD cX0_makeWorld 136 3 139 (.iinc 3 1) := ⟨by decide +kernel, rfl⟩
theorem DX0_makeWorld_139W : DD cX0_makeWorld 139 3 142 (.goto (-59)) := ⟨by decide +kernel, rfl⟩
theorem DX0_makeWorld_142W : DD cX0_makeWorld 142 1 143 (.aload_n 1) := ⟨by decide +kernel, rfl⟩
theorem DX0_makeWorld_143W : DD cX0_makeWorld 143 3 146 (.getfield 568) := ⟨by decide +kernel, rfl⟩
theorem DX0_makeWorld_146W : DD cX0_makeWorld 146 3 149 (.invokevirtual 594) := ⟨by decide +kernel, rfl⟩
theorem DX0_makeWorld_149W : DD cX0_makeWorld 149 1 150 (.aload_n 1) := ⟨by decide +kernel, rfl⟩
theorem DX0_makeWorld_150W : DD cX0_makeWorld 150 3 153 (.getfield 568) := ⟨by decide +kernel, rfl⟩
theorem DX0_makeWorld_153W : DD cX0_makeWorld 153 1 154 (.aload_n 0) := ⟨by decide +kernel, rfl⟩
theorem DX0_makeWorld_154W : DD cX0_makeWorld 154 3 157 (.getfield 527) := ⟨by decide +kernel, rfl⟩
theorem DX0_makeWorld_157W : DD cX0_makeWorld 157 3 160 (.ifCond .le 18) := ⟨by decide +kernel, rfl⟩
theorem DX0_makeWorld_160W : DD cX0_makeWorld 160 1 161 (.aload_n 0) := ⟨by decide +kernel, rfl⟩
theorem DX0_makeWorld_161W : DD cX0_makeWorld 161 3 164 (.getfield 222) := ⟨by decide +kernel, rfl⟩
theorem DX0_makeWorld_164W : DD cX0_makeWorld 164 1 165 (.aload_n 0) := ⟨by decide +kernel, rfl⟩
theorem DX0_makeWorld_165W : DD cX0_makeWorld 165 3 168 (.getfield 527) := ⟨by decide +kernel, rfl⟩
theorem DX0_makeWorld_168W : DD cX0_makeWorld 168 1 169 (.aaload) := ⟨by decide +kernel, rfl⟩
theorem DX0_makeWorld_169W : DD cX0_makeWorld 169 3 172 (.getfield 536) := ⟨by decide +kernel, rfl⟩
theorem DX0_makeWorld_172W : DD cX0_makeWorld 172 3 175 (.goto 4) := ⟨by decide +kernel, rfl⟩
theorem DX0_makeWorld_175W : DD cX0_makeWorld 175 1 176 (.iconst 0) := ⟨by decide +kernel, rfl⟩
theorem DX0_makeWorld_176W : DD cX0_makeWorld 176 3 179 (.putfield 597) := ⟨by decide +kernel, rfl⟩
theorem DX0_makeWorld_179W : DD cX0_makeWorld 179 1 180 (.return_) := ⟨by decide +kernel, rfl⟩
theorem ucX0_makeWorld_0W {E : XE} {d : Nat} {σ : Sto} {Q : Res → Sto → Prop} {K : Int} {V : Int} {o1 : Nat} {x2 : Int} (hL : Lay σ) (ho1 : At5 σ o1) (h : 3 ≤ d ∧ (102 ≤ (o1 + 15) ∧ (o1 + 15) ≤ 170) ∧ (0 ≤ σ.I 0 39 ∧ σ.I 0 39 ≤ 600) ∧ (tre σ 44 (σ.I 0 39)) ∧ (inR x2) ∧ (∀ σ6 : Sto, SF σ σ6 → ((RD σ σ6 (fun c i => if c = ((o1 + 15) + 4) ∨ c = ((o1 + 15) + 5) then σ6.I c i else if at2 c i (o1 + 15) 6 then 0 else if at2 c i (o1 + 15) 7 then σ.I 0 39 else if at2 c i (o1 + 15) 8 then 0 else if at2 c i (o1 + 15) 1 then 0 else if rg c i ((o1 + 15) + 1) 0 (σ.I 0 39) then zb (inV (σ.I 47) (σ.I 45) (σ.I 46) x2 i) else σ.I c i)) ∧ (CHN σ6 (o1 + 15))) → (inR (σ6.I 0 46) → 0 ≤ (σ6.I 0 46) ∧ (σ6.I 0 46) < 4 ∧ σ6.R 50 (σ6.I 0 46) ≠ none ∧ (∀ b10, σ6.R 50 (σ6.I 0 46) = some b10 → At8 σ6 b10 ∧ (0 ≤ σ6.I b10 1 ∧ σ6.I b10 1 ≤ 1 → ((σ6.I b10 1) = 0 → ((σ6.I 0 46) ≤ 0 → (∀ σ17 : Sto, σ17 = σ6.wI (o1 + 15) 1 0 → SF σ6 σ17 → Q (.inl none) σ17)) ∧ (0 < (σ6.I 0 46) → 0 ≤ (σ6.I 0 46) ∧ (σ6.I 0 46) < 4 ∧ σ6.R 50 (σ6.I 0 46) ≠ none ∧ (∀ b20, σ6.R 50 (σ6.I 0 46) = some b20 → At8 σ6 b20 ∧ (inR (σ6.I b20 2) → (∀ σ25 : Sto, σ25 = σ6.wI (o1 + 15) 1 (σ6.I b20 2) → SF σ6 σ25 → Q (.inl none) σ25))))) ∧ ((σ6.I b10 1) ≠ 0 → ((σ6.I 0 46) ≤ 0 → ((σ6.I 0 46) ≤ 0 → (∀ σ28 : Sto, σ28 = σ6.wI (o1 + 15) 1 0 → SF σ6 σ28 → Q (.inl none) σ28)) ∧ (0 < (σ6.I 0 46) → 0 ≤ (σ6.I 0 46) ∧ (σ6.I 0 46) < 4 ∧ σ6.R 50 (σ6.I 0 46) ≠ none ∧ (∀ b31, σ6.R 50 (σ6.I 0 46) = some b31 → At8 σ6 b31 ∧ (inR (σ6.I b31 2) → (∀ σ36 : Sto, σ36 = σ6.wI (o1 + 15) 1 (σ6.I b31 2) → SF σ6 σ36 → Q (.inl none) σ36))))) ∧ (0 < (σ6.I 0 46) → 0 ≤ (σ6.I 0 46) ∧ (σ6.I 0 46) < 4 ∧ σ6.R 50 (σ6.I 0 46) ≠ none ∧ (∀ b39, σ6.R 50 (σ6.I 0 46) = some b39 → At8 σ6 b39 ∧ 2 ≤ d ∧ (156 + 13 < (b39 + 1) ∨ (b39 + 1) + 13 < 156) ∧ (0 ≤ σ6.I (b39 + 1) 1 ∧ σ6.I (b39 + 1) 1 ≤ 400) ∧ (0 ≤ σ6.I (b39 + 1) 2 ∧ σ6.I (b39 + 1) 2 ≤ 200) ∧ (∀ σ47 : Sto, SF σ6 σ47 → (RD σ6 σ47 (CQF σ6 156 (b39 + 1) 2 (σ6.I (b39 + 1) 2))) → (∀ σ48 : Sto, σ48 = σ47.wI 155 2 0 → SF σ47 σ48 → 3 ≤ d ∧ (102 ≤ 170 ∧ 170 ≤ 170) ∧ (0 ≤ σ48.I 0 39 ∧ σ48.I 0 39 ≤ 600) ∧ (tre σ48 44 (σ48.I 0 39)) ∧ (inR x2) ∧ (∀ σ54 : Sto, SF σ48 σ54 → ((RD σ48 σ54 (fun c i => if c = (170 + 4) ∨ c = (170 + 5) then σ54.I c i else if at2 c i 170 6 then 0 else if at2 c i 170 7 then σ48.I 0 39 else if at2 c i 170 8 then 0 else if at2 c i 170 1 then 0 else if rg c i (170 + 1) 0 (σ48.I 0 39) then zb (inV (σ48.I 47) (σ48.I 45) (σ48.I 46) x2 i) else σ48.I c i)) ∧ (CHN σ54 170)) → 526 ≤ d ∧ (155 = 87 ∨ 155 = 121 ∨ 155 = 155) ∧ (0 ≤ (σ54.I (155 + 1) 2) ∧ (σ54.I (155 + 1) 2) ≤ 119) ∧ (rwN σ54 155 (σ54.I (155 + 1) 2) ≤ 60) ∧ (txN σ54 155 (lsX σ54 155) (σ54.I (155 + 1) 2) ≤ 5000) ∧ (∀ x, 0 ≤ x → x < (σ54.I (155 + 1) 2) → lfN σ54 155 x → NDq σ54 155 (lsX σ54 155) x) ∧ (0 ≤ σ54.I 0 9 ∧ σ54.I 0 9 ≤ 12) ∧ (0 ≤ σ54.I (155 + 15) 6 ∧ σ54.I (155 + 15) 6 ≤ (σ54.I (155 + 15) 7) ∧ (σ54.I (155 + 15) 7) ≤ 601) ∧ (OB σ54 42 43) ∧ (bd_0_250 σ54 32 6000) ∧ (VFX σ54 (155 + 15)) ∧ (TC σ54) ∧ (0 ≤ σ54.I 18 7 ∧ σ54.I 18 7 < 36500) ∧ (∀ s, 0 ≤ s → s < σ54.I 18 7 → 0 ≤ σ54.I 20 s ∧ σ54.I 20 s < σ54.I 0 9) ∧ (PT σ54 K) ∧ (PW σ54 V) ∧ (OBV σ54 K V) ∧ (TVL σ54 K V) ∧ (DRV σ54) ∧ (0 ≤ σ54.I 0 39 ∧ σ54.I 0 39 < 601) ∧ (bd_0_20 σ54 21 36500) ∧ (AN σ54) ∧ (ANX σ54) ∧ (σ54.I 0 4 ≤ 6) ∧ (bd_0_499 σ54 39 24000) ∧ (∀ v, 0 ≤ v → v < V → 0 ≤ σ54.I 31 v ∧ 0 ≤ σ54.I 32 v ∧ σ54.I 31 v + σ54.I 32 v ≤ 24000) ∧ (VOC σ54 V) ∧ (PBD σ54 155) ∧ (∀ t, 0 ≤ t → t < σ54.I 18 7 → 0 ≤ owX σ54 (155 + 15) t K V ∧ owX σ54 (155 + 15) t K V ≤ hvX σ54 (155 + 15) (σ54.I 20 t) (σ54.I (155 + 15) 7)) ∧ (∀ v, 0 ≤ v → v < V → σ54.I 27 v < (σ54.I (155 + 15) 7)) ∧ (σ54.I (155 + 15) 8 ≠ 0 → σ54.I 0 39 < (σ54.I (155 + 15) 7)) ∧ (owX σ54 (155 + 15) (-1) K V = 0) ∧ (WOX σ54 (155 + 15)) ∧ (∀ σ88 : Sto, SF σ54 σ88 → ((PRI σ54 σ88 155 (lsX σ54 155) K V (σ54.I (155 + 1) 2) (rwN σ54 155 (σ54.I (155 + 1) 2))) ∧ (KPq 155 σ54 σ88)) → VV E mX0_makeWorld (d + 1) 80 [(0, aO 0), (1, aO o1), (3, aI (0))] [] σ88 Q)))))))))))) : VV E mX0_makeWorld (d + 1) 0 [(0, aO 0), (1, aO o1), (2, aI (x2))] [] σ Q := by
  refine v_aload_n 1 DX0_makeWorld_0W rfl rfl <| w_getR (ci := 5) (kf := 1) (kz := 1) DX0_makeWorld_1W ho1.s rfl (by decide) rfl (Or.inr ⟨_, q888⟩) (fun _ _ => rfl) ho1.r1 <| v_iload_n 2 DX0_makeWorld_4W rfl rfl <| ?_
  obtain ⟨k1, h⟩ := h
  obtain ⟨k2, k3, k4, k5, h⟩ := h
  refine v_invV (ci := 6) (as := [aI (x2)]) (st := []) DX0_makeWorld_5W rfl okX6_objects (Or.inl q1741) q1742 ho1.a1.s rfl q1743 npX6_objects (sp_X6_objects (σ := σ) (o0 := (o1 + 15)) (x1 := x2) k1 hL ho1.a1 k2 k3 k4 k5) (Nat.le_of_ble_eq_true rfl) (Nat.le_refl _) (Nat.le_of_ble_eq_true rfl) (RV_ret (fun σ6 gσ6 eσ6 => ?_)) RV_thr
  have h := h σ6 gσ6 eσ6
  refine v_aload_n 0 DX0_makeWorld_8W rfl rfl <| w_getR (ci := 0) (kf := 45) (kz := 45) DX0_makeWorld_9W (s_0 (hL.sf gσ6)) rfl (by decide) rfl (Or.inl q1085) (fun _ _ => rfl) (r_0_45 (hL.sf gσ6)) <| v_aload_n 0 DX0_makeWorld_12W rfl rfl <| ?_
  refine w_getI (ci := 0) (kf := 46) (kz := 46) DX0_makeWorld_13W (s_0 (hL.sf gσ6)) rfl (by decide) rfl (Or.inl q1086) (fun _ _ => rfl) (fun f7 => ?_)
  have h := h f7
  obtain ⟨k8, k9, h⟩ := h
  obtain ⟨k11, h⟩ := h
  obtain ⟨b10, k12⟩ := nn_some k11
  obtain ⟨k13, h⟩ := h b10 k12
  refine v_aaldS DX0_makeWorld_16W (s_50 (hL.sf gσ6)) ⟨by decide, by decide⟩ k8 k9 k12 <| ?_
  refine w_getI (ci := 8) (kf := 1) (kz := 1) DX0_makeWorld_17W k13.s rfl (by decide) rfl (Or.inr ⟨_, q981⟩) (fun _ _ => rfl) (fun f14 => ?_)
  have h := h f14
  refine v_if_eq (tg := 149) DX0_makeWorld_20W (by decide) (inR_z f14) (fun c15 => ?_) (fun c15 => ?_)
  · have h := h.1 c15
    refine v_aload_n 1 DX0_makeWorld_149W rfl rfl <| w_getR (ci := 5) (kf := 1) (kz := 1) DX0_makeWorld_150W (ho1.sf gσ6).s rfl (by decide) rfl (Or.inr ⟨_, q888⟩) (fun _ _ => rfl) (ho1.sf gσ6).r1 <| v_aload_n 0 DX0_makeWorld_153W rfl rfl <| ?_
    refine w_getI (ci := 0) (kf := 46) (kz := 46) DX0_makeWorld_154W (s_0 (hL.sf gσ6)) rfl (by decide) rfl (Or.inl q1086) (fun _ _ => rfl) (fun _ => ?_)
    refine v_if_le (tg := 175) DX0_makeWorld_157W (by decide) f7 (fun c16 => ?_) (fun c16 => ?_)
    · have h := h.1 c16
      refine v_iconst DX0_makeWorld_175W <| ?_
      refine w_putI (ci := 6) (kf := 1) (kz := 1) DX0_makeWorld_176W (ho1.sf gσ6).a1.s rfl (by decide) rfl (Or.inr (Or.inl ⟨rfl, _, q846⟩)) (fun _ _ => rfl) ⟨by decide, by decide⟩ rfl rfl (fun σ17 eσ17 gσ17 => ?_)
      have h := h σ17 eσ17 gσ17
      exact v_vret DX0_makeWorld_179W rfl h
    · have h := h.2 c16
      refine v_aload_n 0 DX0_makeWorld_160W rfl rfl <| w_getR (ci := 0) (kf := 45) (kz := 45) DX0_makeWorld_161W (s_0 (hL.sf gσ6)) rfl (by decide) rfl (Or.inl q1085) (fun _ _ => rfl) (r_0_45 (hL.sf gσ6)) <| v_aload_n 0 DX0_makeWorld_164W rfl rfl <| ?_
      refine w_getI (ci := 0) (kf := 46) (kz := 46) DX0_makeWorld_165W (s_0 (hL.sf gσ6)) rfl (by decide) rfl (Or.inl q1086) (fun _ _ => rfl) (fun _ => ?_)
      obtain ⟨k18, k19, h⟩ := h
      obtain ⟨k21, h⟩ := h
      obtain ⟨b20, k22⟩ := nn_some k21
      obtain ⟨k23, h⟩ := h b20 k22
      refine v_aaldS DX0_makeWorld_168W (s_50 (hL.sf gσ6)) ⟨by decide, by decide⟩ k18 k19 k22 <| ?_
      refine w_getI (ci := 8) (kf := 2) (kz := 2) DX0_makeWorld_169W k23.s rfl (by decide) rfl (Or.inr ⟨_, q982⟩) (fun _ _ => rfl) (fun f24 => ?_)
      have h := h f24
      refine v_goto (pc' := 176) DX0_makeWorld_172W.1 (by decide) <| ?_
      refine w_putI (ci := 6) (kf := 1) (kz := 1) DX0_makeWorld_176W (ho1.sf gσ6).a1.s rfl (by decide) rfl (Or.inr (Or.inl ⟨rfl, _, q846⟩)) (fun _ _ => rfl) f24 rfl rfl (fun σ25 eσ25 gσ25 => ?_)
      have h := h σ25 eσ25 gσ25
      exact v_vret DX0_makeWorld_179W rfl h
  · have h := h.2 c15
    refine v_aload_n 0 DX0_makeWorld_23W rfl rfl <| ?_
    refine w_getI (ci := 0) (kf := 46) (kz := 46) DX0_makeWorld_24W (s_0 (hL.sf gσ6)) rfl (by decide) rfl (Or.inl q1086) (fun _ _ => rfl) (fun _ => ?_)
    refine v_if_le (tg := 149) DX0_makeWorld_27W (by decide) f7 (fun c26 => ?_) (fun c26 => ?_)
    · have h := h.1 c26
      refine v_aload_n 1 DX0_makeWorld_149W rfl rfl <| w_getR (ci := 5) (kf := 1) (kz := 1) DX0_makeWorld_150W (ho1.sf gσ6).s rfl (by decide) rfl (Or.inr ⟨_, q888⟩) (fun _ _ => rfl) (ho1.sf gσ6).r1 <| v_aload_n 0 DX0_makeWorld_153W rfl rfl <| ?_
      refine w_getI (ci := 0) (kf := 46) (kz := 46) DX0_makeWorld_154W (s_0 (hL.sf gσ6)) rfl (by decide) rfl (Or.inl q1086) (fun _ _ => rfl) (fun _ => ?_)
      refine v_if_le (tg := 175) DX0_makeWorld_157W (by decide) f7 (fun c27 => ?_) (fun c27 => ?_)
      · have h := h.1 c27
        refine v_iconst DX0_makeWorld_175W <| ?_
        refine w_putI (ci := 6) (kf := 1) (kz := 1) DX0_makeWorld_176W (ho1.sf gσ6).a1.s rfl (by decide) rfl (Or.inr (Or.inl ⟨rfl, _, q846⟩)) (fun _ _ => rfl) ⟨by decide, by decide⟩ rfl rfl (fun σ28 eσ28 gσ28 => ?_)
        have h := h σ28 eσ28 gσ28
        exact v_vret DX0_makeWorld_179W rfl h
      · have h := h.2 c27
        refine v_aload_n 0 DX0_makeWorld_160W rfl rfl <| w_getR (ci := 0) (kf := 45) (kz := 45) DX0_makeWorld_161W (s_0 (hL.sf gσ6)) rfl (by decide) rfl (Or.inl q1085) (fun _ _ => rfl) (r_0_45 (hL.sf gσ6)) <| v_aload_n 0 DX0_makeWorld_164W rfl rfl <| ?_
        refine w_getI (ci := 0) (kf := 46) (kz := 46) DX0_makeWorld_165W (s_0 (hL.sf gσ6)) rfl (by decide) rfl (Or.inl q1086) (fun _ _ => rfl) (fun _ => ?_)
        obtain ⟨k29, k30, h⟩ := h
        obtain ⟨k32, h⟩ := h
        obtain ⟨b31, k33⟩ := nn_some k32
        obtain ⟨k34, h⟩ := h b31 k33
        refine v_aaldS DX0_makeWorld_168W (s_50 (hL.sf gσ6)) ⟨by decide, by decide⟩ k29 k30 k33 <| ?_
        refine w_getI (ci := 8) (kf := 2) (kz := 2) DX0_makeWorld_169W k34.s rfl (by decide) rfl (Or.inr ⟨_, q982⟩) (fun _ _ => rfl) (fun f35 => ?_)
        have h := h f35
        refine v_goto (pc' := 176) DX0_makeWorld_172W.1 (by decide) <| ?_
        refine w_putI (ci := 6) (kf := 1) (kz := 1) DX0_makeWorld_176W (ho1.sf gσ6).a1.s rfl (by decide) rfl (Or.inr (Or.inl ⟨rfl, _, q846⟩)) (fun _ _ => rfl) f35 rfl rfl (fun σ36 eσ36 gσ36 => ?_)
        have h := h σ36 eσ36 gσ36
        exact v_vret DX0_makeWorld_179W rfl h
    · have h := h.2 c26
      refine v_aload_n 0 DX0_makeWorld_30W rfl rfl <| w_getR (ci := 0) (kf := 62) (kz := 62) DX0_makeWorld_31W (s_0 (hL.sf gσ6)) rfl (by decide) rfl (Or.inl q1108) (fun _ _ => rfl) (r_0_62 (hL.sf gσ6)) <| w_getR (ci := 5) (kf := 0) (kz := 0) DX0_makeWorld_34W (s_155 (hL.sf gσ6)) rfl (by decide) rfl (Or.inr ⟨_, q886⟩) (fun _ _ => rfl) (r_155_0 (hL.sf gσ6)) <| v_aload_n 0 DX0_makeWorld_37W rfl rfl <| w_getR (ci := 0) (kf := 45) (kz := 45) DX0_makeWorld_38W (s_0 (hL.sf gσ6)) rfl (by decide) rfl (Or.inl q1085) (fun _ _ => rfl) (r_0_45 (hL.sf gσ6)) <| v_aload_n 0 DX0_makeWorld_41W rfl rfl <| ?_
      refine w_getI (ci := 0) (kf := 46) (kz := 46) DX0_makeWorld_42W (s_0 (hL.sf gσ6)) rfl (by decide) rfl (Or.inl q1086) (fun _ _ => rfl) (fun _ => ?_)
      obtain ⟨k37, k38, h⟩ := h
      obtain ⟨k40, h⟩ := h
      obtain ⟨b39, k41⟩ := nn_some k40
      obtain ⟨k42, h⟩ := h b39 k41
      refine v_aaldS DX0_makeWorld_45W (s_50 (hL.sf gσ6)) ⟨by decide, by decide⟩ k37 k38 k41 <| w_getR (ci := 8) (kf := 0) (kz := 0) DX0_makeWorld_46W k42.s rfl (by decide) rfl (Or.inr ⟨_, q980⟩) (fun _ _ => rfl) k42.r0 <| ?_
      obtain ⟨k43, h⟩ := h
      obtain ⟨k44, k45, k46, h⟩ := h
      refine v_invV (ci := 3) (as := [aO (b39 + 1)]) (st := []) DX0_makeWorld_49W rfl okX3_copy (Or.inl q1684) q1685 (s_156 (hL.sf gσ6)) rfl q1686 npX3_copy (sp_X3_copy (σ := σ6) (o0 := 156) (o1 := (b39 + 1)) k43 (hL.sf gσ6) (lat_156 (hL.sf gσ6)) k42.a0 k44 k45 k46) (Nat.le_of_ble_eq_true rfl) (Nat.le_refl _) (Nat.le_of_ble_eq_true rfl) (RV_ret (fun σ47 gσ47 eσ47 => ?_)) RV_thr
      have h := h σ47 gσ47 eσ47
      refine v_aload_n 0 DX0_makeWorld_52W rfl rfl <| w_getR (ci := 0) (kf := 62) (kz := 62) DX0_makeWorld_53W (s_0 ((hL.sf gσ6).sf gσ47)) rfl (by decide) rfl (Or.inl q1108) (fun _ _ => rfl) (r_0_62 ((hL.sf gσ6).sf gσ47)) <| v_iconst DX0_makeWorld_56W <| ?_
      refine w_putI (ci := 5) (kf := 2) (kz := 2) DX0_makeWorld_57W (s_155 ((hL.sf gσ6).sf gσ47)) rfl (by decide) rfl (Or.inr (Or.inl ⟨rfl, _, q890⟩)) (fun _ _ => rfl) ⟨by decide, by decide⟩ rfl rfl (fun σ48 eσ48 gσ48 => ?_)
      have h := h σ48 eσ48 gσ48
      refine v_aload_n 0 DX0_makeWorld_60W rfl rfl <| w_getR (ci := 0) (kf := 62) (kz := 62) DX0_makeWorld_61W (s_0 (((hL.sf gσ6).sf gσ47).sf gσ48)) rfl (by decide) rfl (Or.inl q1108) (fun _ _ => rfl) (r_0_62 (((hL.sf gσ6).sf gσ47).sf gσ48)) <| w_getR (ci := 5) (kf := 1) (kz := 1) DX0_makeWorld_64W (s_155 (((hL.sf gσ6).sf gσ47).sf gσ48)) rfl (by decide) rfl (Or.inr ⟨_, q888⟩) (fun _ _ => rfl) (r_155_1 (((hL.sf gσ6).sf gσ47).sf gσ48)) <| v_iload_n 2 DX0_makeWorld_67W rfl rfl <| ?_
      obtain ⟨k49, h⟩ := h
      obtain ⟨k50, k51, k52, k53, h⟩ := h
      refine v_invV (ci := 6) (as := [aI (x2)]) (st := []) DX0_makeWorld_68W rfl okX6_objects (Or.inl q1741) q1742 (s_170 (((hL.sf gσ6).sf gσ47).sf gσ48)) rfl q1743 npX6_objects (sp_X6_objects (σ := σ48) (o0 := 170) (x1 := x2) k49 (((hL.sf gσ6).sf gσ47).sf gσ48) (lat_170 (((hL.sf gσ6).sf gσ47).sf gσ48)) k50 k51 k52 k53) (Nat.le_of_ble_eq_true rfl) (Nat.le_refl _) (Nat.le_of_ble_eq_true rfl) (RV_ret (fun σ54 gσ54 eσ54 => ?_)) RV_thr
      have h := h σ54 gσ54 eσ54
      refine v_aload_n 0 DX0_makeWorld_71W rfl rfl <| w_getR (ci := 0) (kf := 62) (kz := 62) DX0_makeWorld_72W (s_0 ((((hL.sf gσ6).sf gσ47).sf gσ48).sf gσ54)) rfl (by decide) rfl (Or.inl q1108) (fun _ _ => rfl) (r_0_62 ((((hL.sf gσ6).sf gσ47).sf gσ48).sf gσ54)) <| ?_
      obtain ⟨k55, h⟩ := h
      obtain ⟨k56, k57, k58, k59, k60, k61, k62, k63, k64, k65, k66, k67, k68, k69, k70, k71, k72, k73, k74, k75, k76, k77, k78, k79, k80, k81, k82, k83, k84, k85, k86, k87, h⟩ := h
      refine v_invV (ci := 5) (as := []) (st := []) DX0_makeWorld_75W rfl okX5_prepare (Or.inl q1750) q1751 (s_155 ((((hL.sf gσ6).sf gσ47).sf gσ48).sf gσ54)) rfl q1752 npX5_prepare (sp_X5_prepare (σ := σ54) (o0 := 155) (lx := (lsX σ54 155)) (K := K) (V := V) k55 ((((hL.sf gσ6).sf gσ47).sf gσ48).sf gσ54) (lat_155 ((((hL.sf gσ6).sf gσ47).sf gσ48).sf gσ54)) k56 k57 k58 k59 k60 k61 k62 k63 k64 k65 k66 k67 k68 k69 k70 k71 k72 k73 k74 k75 k76 k77 k78 k79 k80 k81 k82 k83 k84 k85 k86 k87) (Nat.le_of_ble_eq_true rfl) (Nat.le_refl _) (Nat.le_of_ble_eq_true rfl) (RV_ret (fun σ88 gσ88 eσ88 => ?_)) RV_thr
      have h := h σ88 gσ88 eσ88
      refine v_iconst DX0_makeWorld_78W <| v_istore_n DX0_makeWorld_79W rfl (by decide) rfl <| ?_
      exact v_pick [1, 2, 0] rfl h
theorem ucX0_makeWorld_80W {E : XE} {d : Nat} {σ : Sto} {Q : Res → Sto → Prop} {K : Int} {V : Int} {o1 : Nat} {x3 : Int} (hL : Lay σ) (ho1 : At5 σ o1) (h : (inR (σ.I 0 39) → inR x3 ∧ ((σ.I 0 39) ≤ x3 → 1 ≤ d ∧ (102 ≤ (o1 + 15) ∧ (o1 + 15) ≤ 170) ∧ (0 ≤ σ.I (o1 + 15) 7 ∧ σ.I (o1 + 15) 7 ≤ 601) ∧ (tre σ 44 (σ.I (o1 + 15) 7)) ∧ (∀ σ8 : Sto, SF σ σ8 → (RD σ σ8 (fun c i => if rg c i ((o1 + 15) + 4) 0 (σ.I (o1 + 15) 7) then fsF (chQ σ (o1 + 15) i) 0 (σ.I (o1 + 15) 7) else if rg c i ((o1 + 15) + 5) 0 (σ.I (o1 + 15) 7) ∧ σ.I ((o1 + 15) + 1) i = 1 ∧ 0 ≤ σ.I 44 i then fsF (chQ σ (o1 + 15) (σ.I 44 i)) (i + 1) (σ.I (o1 + 15) 7) else σ.I c i)) → (inR (σ8.I 0 46) → ((σ8.I 0 46) ≤ 0 → (∀ σ11 : Sto, σ11 = σ8.wI (o1 + 15) 1 0 → SF σ8 σ11 → Q (.inl none) σ11)) ∧ (0 < (σ8.I 0 46) → 0 ≤ (σ8.I 0 46) ∧ (σ8.I 0 46) < 4 ∧ σ8.R 50 (σ8.I 0 46) ≠ none ∧ (∀ b14, σ8.R 50 (σ8.I 0 46) = some b14 → At8 σ8 b14 ∧ (inR (σ8.I b14 2) → (∀ σ19 : Sto, σ19 = σ8.wI (o1 + 15) 1 (σ8.I b14 2) → SF σ8 σ19 → Q (.inl none) σ19))))))) ∧ (x3 < (σ.I 0 39) → 0 ≤ x3 ∧ x3 < 601 ∧ (0 ≤ σ.I 171 x3 ∧ σ.I 171 x3 ≤ 1 → ((σ.I 171 x3) = 0 → VV E mX0_makeWorld (d + 1) 80 [(0, aO 0), (1, aO o1), (3, aI (x3 + 1))] [] σ Q) ∧ ((σ.I 171 x3) ≠ 0 → (inR (σ.I 156 4) → 3 * 130 + 8 ≤ d ∧ (155 = 87 ∨ 155 = 121 ∨ 155 = 155) ∧ (CHW σ 155) ∧ (SNX σ 155 (vXX σ 155)) ∧ (0 ≤ (σ.I 156 4) ∧ WX σ 155 (vXX σ 155) 130 (σ.I 156 4)) ∧ ((0 ≤ x3 ∧ x3 < 601) ∧ snW σ 155 x3) ∧ (130 ≤ 300) ∧ (∀ (y33 : Int) (σ32 : Sto), inL y33 → SF σ σ32 → ((y33 = scW (tabS (GX σ 155)) (vXX σ 155) (σ.I 156 4) x3) ∧ (SNX σ32 155 (vXX σ 155)) ∧ (KNf 155 σ σ32)) → (y33 < 0 → VV E mX0_makeWorld (d + 1) 80 [(0, aO 0), (1, aO o1), (3, aI (x3 + 1))] [] σ32 Q) ∧ (0 ≤ y33 → 0 ≤ x3 ∧ x3 < 601 ∧ (∀ σ37 : Sto, σ37 = σ32.wI ((o1 + 15) + 1) x3 0 → SF σ32 σ37 → VV E mX0_makeWorld (d + 1) 80 [(0, aO 0), (1, aO o1), (3, aI (x3 + 1))] [] σ37 Q))))))))) : VV E mX0_makeWorld (d + 1) 80 [(0, aO 0), (1, aO o1), (3, aI (x3))] [] σ Q := by
  refine v_iload_n 2 DX0_makeWorld_80W rfl rfl <| v_aload_n 0 DX0_makeWorld_81W rfl rfl <| ?_
  refine w_getI (ci := 0) (kf := 39) (kz := 39) DX0_makeWorld_82W (s_0 hL) rfl (by decide) rfl (Or.inl q1079) (fun _ _ => rfl) (fun f1 => ?_)
  have h := h f1
  obtain ⟨k2, h⟩ := h
  refine v_icmp_ge (tg := 142) DX0_makeWorld_85W (by decide) k2 f1 (fun c3 => ?_) (fun c3 => ?_)
  · have h := h.1 c3
    refine v_aload_n 1 DX0_makeWorld_142W rfl rfl <| w_getR (ci := 5) (kf := 1) (kz := 1) DX0_makeWorld_143W ho1.s rfl (by decide) rfl (Or.inr ⟨_, q888⟩) (fun _ _ => rfl) ho1.r1 <| ?_
    obtain ⟨k4, h⟩ := h
    obtain ⟨k5, k6, k7, h⟩ := h
    refine v_invV (ci := 6) (as := []) (st := []) DX0_makeWorld_146W rfl okX6_chain (Or.inr ⟨_, q1897⟩) q1748 ho1.a1.s rfl qs59 npX6_chain (sp_X6_chain (σ := σ) (o0 := (o1 + 15)) k4 hL ho1.a1 k5 k6 k7) (Nat.le_of_ble_eq_true rfl) (Nat.le_refl _) (Nat.le_of_ble_eq_true rfl) (RV_ret (fun σ8 gσ8 eσ8 => ?_)) RV_thr
    have h := h σ8 gσ8 eσ8
    refine v_aload_n 1 DX0_makeWorld_149W rfl rfl <| w_getR (ci := 5) (kf := 1) (kz := 1) DX0_makeWorld_150W (ho1.sf gσ8).s rfl (by decide) rfl (Or.inr ⟨_, q888⟩) (fun _ _ => rfl) (ho1.sf gσ8).r1 <| v_aload_n 0 DX0_makeWorld_153W rfl rfl <| ?_
    refine w_getI (ci := 0) (kf := 46) (kz := 46) DX0_makeWorld_154W (s_0 (hL.sf gσ8)) rfl (by decide) rfl (Or.inl q1086) (fun _ _ => rfl) (fun f9 => ?_)
    have h := h f9
    refine v_if_le (tg := 175) DX0_makeWorld_157W (by decide) f9 (fun c10 => ?_) (fun c10 => ?_)
    · have h := h.1 c10
      refine v_iconst DX0_makeWorld_175W <| ?_
      refine w_putI (ci := 6) (kf := 1) (kz := 1) DX0_makeWorld_176W (ho1.sf gσ8).a1.s rfl (by decide) rfl (Or.inr (Or.inl ⟨rfl, _, q846⟩)) (fun _ _ => rfl) ⟨by decide, by decide⟩ rfl rfl (fun σ11 eσ11 gσ11 => ?_)
      have h := h σ11 eσ11 gσ11
      exact v_vret DX0_makeWorld_179W rfl h
    · have h := h.2 c10
      refine v_aload_n 0 DX0_makeWorld_160W rfl rfl <| w_getR (ci := 0) (kf := 45) (kz := 45) DX0_makeWorld_161W (s_0 (hL.sf gσ8)) rfl (by decide) rfl (Or.inl q1085) (fun _ _ => rfl) (r_0_45 (hL.sf gσ8)) <| v_aload_n 0 DX0_makeWorld_164W rfl rfl <| ?_
      refine w_getI (ci := 0) (kf := 46) (kz := 46) DX0_makeWorld_165W (s_0 (hL.sf gσ8)) rfl (by decide) rfl (Or.inl q1086) (fun _ _ => rfl) (fun _ => ?_)
      obtain ⟨k12, k13, h⟩ := h
      obtain ⟨k15, h⟩ := h
      obtain ⟨b14, k16⟩ := nn_some k15
      obtain ⟨k17, h⟩ := h b14 k16
      refine v_aaldS DX0_makeWorld_168W (s_50 (hL.sf gσ8)) ⟨by decide, by decide⟩ k12 k13 k16 <| ?_
      refine w_getI (ci := 8) (kf := 2) (kz := 2) DX0_makeWorld_169W k17.s rfl (by decide) rfl (Or.inr ⟨_, q982⟩) (fun _ _ => rfl) (fun f18 => ?_)
      have h := h f18
      refine v_goto (pc' := 176) DX0_makeWorld_172W.1 (by decide) <| ?_
      refine w_putI (ci := 6) (kf := 1) (kz := 1) DX0_makeWorld_176W (ho1.sf gσ8).a1.s rfl (by decide) rfl (Or.inr (Or.inl ⟨rfl, _, q846⟩)) (fun _ _ => rfl) f18 rfl rfl (fun σ19 eσ19 gσ19 => ?_)
      have h := h σ19 eσ19 gσ19
      exact v_vret DX0_makeWorld_179W rfl h
  · have h := h.2 c3
    refine v_aload_n 0 DX0_makeWorld_88W rfl rfl <| w_getR (ci := 0) (kf := 62) (kz := 62) DX0_makeWorld_89W (s_0 hL) rfl (by decide) rfl (Or.inl q1108) (fun _ _ => rfl) (r_0_62 hL) <| w_getR (ci := 5) (kf := 1) (kz := 1) DX0_makeWorld_92W (s_155 hL) rfl (by decide) rfl (Or.inr ⟨_, q888⟩) (fun _ _ => rfl) (r_155_1 hL) <| w_getR (ci := 6) (kf := 0) (kz := 0) DX0_makeWorld_95W (s_170 hL) rfl (by decide) rfl (Or.inr ⟨_, q844⟩) (fun _ _ => rfl) (r_170_0 hL) <| v_iload_n 2 DX0_makeWorld_98W rfl rfl <| ?_
    obtain ⟨k20, k21, h⟩ := h
    refine v_zald DX0_makeWorld_99W (s_171 hL) k20 k21 (fun f22 => ?_)
    have h := h f22
    refine v_if_eq (tg := 136) DX0_makeWorld_100W (by decide) (inR_z f22) (fun c23 => ?_) (fun c23 => ?_)
    · have h := h.1 c23
      refine v_iinc 2 DX0_makeWorld_136W rfl (by decide) rfl <| v_goto (pc' := 80) DX0_makeWorld_139W.1 (by decide) <| ?_
      exact v_pick [1, 2, 0] rfl h
    · have h := h.2 c23
      refine v_aload_n 0 DX0_makeWorld_103W rfl rfl <| w_getR (ci := 0) (kf := 62) (kz := 62) DX0_makeWorld_104W (s_0 hL) rfl (by decide) rfl (Or.inl q1108) (fun _ _ => rfl) (r_0_62 hL) <| v_aload_n 0 DX0_makeWorld_107W rfl rfl <| w_getR (ci := 0) (kf := 62) (kz := 62) DX0_makeWorld_108W (s_0 hL) rfl (by decide) rfl (Or.inl q1108) (fun _ _ => rfl) (r_0_62 hL) <| w_getR (ci := 5) (kf := 0) (kz := 0) DX0_makeWorld_111W (s_155 hL) rfl (by decide) rfl (Or.inr ⟨_, q886⟩) (fun _ _ => rfl) (r_155_0 hL) <| ?_
      refine w_getI (ci := 3) (kf := 4) (kz := 4) DX0_makeWorld_114W (s_156 hL) rfl (by decide) rfl (Or.inr ⟨_, q733⟩) (fun _ _ => rfl) (fun f24 => ?_)
      have h := h f24
      refine v_iload_n 2 DX0_makeWorld_117W rfl rfl <| ?_
      obtain ⟨k25, h⟩ := h
      obtain ⟨k26, k27, k28, k29, k30, k31, h⟩ := h
      refine v_invV (ci := 5) (as := [aI (σ.I 156 4), aI (x3)]) (st := []) DX0_makeWorld_118W rfl okX5_score (Or.inl q1852) q1853 (s_155 hL) rfl q1854 npX5_score (sx_X5_score (σ := σ) (o0 := 155) (x1 := σ.I 156 4) (x2 := x3) (V := (vXX σ 155)) (f := 130) k25 hL (lat_155 hL) k26 k27 k28 k29 k30 k31) (Nat.le_of_ble_eq_true rfl) (Nat.le_refl _) (Nat.le_of_ble_eq_true rfl) (RVL_ret (fun y33 σ32 y33f gσ32 eσ32 => ?_)) RVL_thr
      have h := h y33 σ32 y33f gσ32 eσ32
      refine v_lconst DX0_makeWorld_121W <| ?_
      refine v_lc_lt (tg := 136) DX0_makeWorld_122W DX0_makeWorld_123W (by decide) y33f ⟨by decide, by decide⟩ (fun c34 => ?_) (fun c34 => ?_)
      · have h := h.1 c34
        refine v_iinc 2 DX0_makeWorld_136W rfl (by decide) rfl <| v_goto (pc' := 80) DX0_makeWorld_139W.1 (by decide) <| ?_
        exact v_pick [1, 2, 0] rfl h
      · have h := h.2 c34
        refine v_aload_n 1 DX0_makeWorld_126W rfl rfl <| w_getR (ci := 5) (kf := 1) (kz := 1) DX0_makeWorld_127W (ho1.sf gσ32).s rfl (by decide) rfl (Or.inr ⟨_, q888⟩) (fun _ _ => rfl) (ho1.sf gσ32).r1 <| w_getR (ci := 6) (kf := 0) (kz := 0) DX0_makeWorld_130W (ho1.sf gσ32).a1.s rfl (by decide) rfl (Or.inr ⟨_, q844⟩) (fun _ _ => rfl) (ho1.sf gσ32).a1.r0 <| v_iload_n 2 DX0_makeWorld_133W rfl rfl <| v_iconst DX0_makeWorld_134W <| ?_
        obtain ⟨k35, k36, h⟩ := h
        refine w_zast DX0_makeWorld_135W (ho1.sf gσ32).a1.s0 k35 k36 ⟨by decide, by decide⟩ (fun σ37 eσ37 gσ37 => ?_)
        have h := h σ37 eσ37 gσ37
        refine v_iinc 2 DX0_makeWorld_136W rfl (by decide) rfl <| v_goto (pc' := 80) DX0_makeWorld_139W.1 (by decide) <| ?_
        exact v_pick [1, 2, 0] rfl h
theorem sp_X0_makeWorldW {E : XE} {d : Nat} {σ : Sto} {K : Int} {V : Int} {o1 : Nat} {x2 : Int} (hd : 527 ≤ d) (hL : Lay σ) (ho1 : At5 σ o1) (p0 : o1 = 87 ∨ o1 = 121) (p1 : inR x2) (p2 : 0 ≤ σ.I 0 46 ∧ σ.I 0 46 < 4) (p3 : BSX σ K V) (p4 : 0 < σ.I 0 46 → σ.I (ubX σ) 1 ≠ 0 → QLX σ (ubX σ)) (p5 : PBD σ 155) : CC E mX0_makeWorld d [aO 0, aO o1, aI (x2)] σ (RV (fun τ => ((τ.I (o1 + 15) 6 = 0 ∧ τ.I (o1 + 15) 7 = (σ.I 0 39) ∧ τ.I (o1 + 15) 8 = 0) ∧ τ.I (o1 + 15) 1 = (if 0 < σ.I 0 46 then σ.I (ubX σ) 2 else 0)) ∧ (CHN τ (o1 + 15)) ∧ (SEX σ τ o1 K V x2) ∧ (PBD τ 155) ∧ (KMw o1 σ τ))) := by
  obtain ⟨d, rfl⟩ : ∃ e, d = e + 1 := ⟨d - 1, by omega⟩
  have p1a := p1.1; have p1b := p1.2
  have hnx := p3.2.1
  have key : ∀ wa wb wc : Nat, (∀ (x3 : Int) (τ : Sto), SF σ τ → ((KMw o1 σ τ) ∧ (0 ≤ x3 ∧ x3 ≤ (σ.I 0 39)) ∧ (HD8 σ τ o1 K V x2 x3) ∧ (SCR τ 155) ∧ (τ.I (o1 + 15) 6 = 0 ∧ τ.I (o1 + 15) 7 = (σ.I 0 39) ∧ τ.I (o1 + 15) 8 = 0) ∧ (PBD τ 155) ∧ (0 < σ.I 0 46 ∧ σ.I (ubX σ) 1 ≠ 0)) → wa = (601 - x3).toNat → wb = 0 → wc = 0 → VV E mX0_makeWorld (d + 1) 80 [(0, aO 0), (1, aO o1), (3, aI (x3))] [] τ (RV (fun τ => ((τ.I (o1 + 15) 6 = 0 ∧ τ.I (o1 + 15) 7 = (σ.I 0 39) ∧ τ.I (o1 + 15) 8 = 0) ∧ τ.I (o1 + 15) 1 = (if 0 < σ.I 0 46 then σ.I (ubX σ) 2 else 0)) ∧ (CHN τ (o1 + 15)) ∧ (SEX σ τ o1 K V x2) ∧ (PBD τ 155) ∧ (KMw o1 σ τ)))) := by
    refine lex3 (fun wa wb wc ih => ?_)
    have ih0 : ∀ (x3 : Int) (τ : Sto), SF σ τ → ((KMw o1 σ τ) ∧ (0 ≤ x3 ∧ x3 ≤ (σ.I 0 39)) ∧ (HD8 σ τ o1 K V x2 x3) ∧ (SCR τ 155) ∧ (τ.I (o1 + 15) 6 = 0 ∧ τ.I (o1 + 15) 7 = (σ.I 0 39) ∧ τ.I (o1 + 15) 8 = 0) ∧ (PBD τ 155) ∧ (0 < σ.I 0 46 ∧ σ.I (ubX σ) 1 ≠ 0)) → lt3 ((601 - x3).toNat) 0 0 wa wb wc → VV E mX0_makeWorld (d + 1) 80 [(0, aO 0), (1, aO o1), (3, aI (x3))] [] τ (RV (fun τ => ((τ.I (o1 + 15) 6 = 0 ∧ τ.I (o1 + 15) 7 = (σ.I 0 39) ∧ τ.I (o1 + 15) 8 = 0) ∧ τ.I (o1 + 15) 1 = (if 0 < σ.I 0 46 then σ.I (ubX σ) 2 else 0)) ∧ (CHN τ (o1 + 15)) ∧ (SEX σ τ o1 K V x2) ∧ (PBD τ 155) ∧ (KMw o1 σ τ))) := fun z0 z1 h0 h1 hlt => (ih _ _ _ hlt) z0 z1 h0 h1 rfl rfl rfl
    clear ih
    skip
    · rintro x3 τ gτ ⟨i0, i1, i2, i3, i4, i5, i6⟩ ha hb hc
      subst ha hb hc
      have kc : ∀ c i, ¬ wsMw o1 c i → τ.I c i = σ.I c i := i0.2
      have u39 : τ.I 0 39 = (σ.I 0 39) := kc _ _ (by unfold wsMw; omega)
      have u46 : τ.I 0 46 = σ.I 0 46 := kc _ _ (by unfold wsMw; omega)
      have hub : 215 ≤ (ubX σ) ∧ (ubX σ) ≤ 260 := (by unfold ubX; omega)
      have u2 : τ.I (ubX σ) 2 = σ.I (ubX σ) 2 := kc _ _ (by unfold wsMw; omega)
      have hs171 := hdI (fun (h : x3 < (σ.I 0 39)) => (show τ.I 171 x3 = 0 ∨ τ.I 171 x3 = 1 from (by obtain ⟨α, ρ, _, _, q, _⟩ := i2; rw [q x3 i1.1 h]; have z := zb_cs (inV (σ.I 47) (σ.I 45) (σ.I 46) x2 x3); omega)))
      have h157 : τ.I 170 7 = (σ.I 0 39) := (by obtain ⟨α, ρ, p, s, _⟩ := i2; have z := p.2.2.2.1.1.1.2.1; exact (s 170 7 (by omega)).trans ((p.2.2.2.2.2.1.2 170 7 (by unfold wsPq wsPr; omega)).trans z))
      have hsn := hdI (fun (h : x3 < (σ.I 0 39) ∧ τ.I 171 x3 ≠ 0) => (show snW τ 155 x3 from ⟨by show x3 < τ.I 170 7; omega, by show τ.I 171 x3 = 1; have z := (hdO hs171) h.1; omega⟩))
      have hscr := SCR_s i3 x3
      refine ucX0_makeWorld_80W (K := K) (V := V) (hL.sf gτ) (ho1.sf gτ) ?_
      rintro ⟨f1, f1q⟩
      refine ⟨?_, ?_⟩
      · (first | exact ⟨by omega, by omega⟩ | assumption)
      refine ⟨fun c2 => ?_, fun c3 => ?_⟩
      · refine ⟨?_, ?_⟩
        · omega
        refine ⟨?_, ?_⟩
        · (first | omega | exact ⟨by omega, by omega⟩ | assumption)
        refine ⟨?_, ?_⟩
        · (first | omega | exact ⟨by omega, by omega⟩ | assumption)
        refine ⟨?_, ?_⟩
        · (clear ih0; (rw [i4.2.1]; exact tre_e p3.2.2.2.2.2.2.2.2.2.2.2.1 (funext fun i => kc _ _ (by unfold wsMw; omega))))
        rintro σ8 gσ8 ⟨⟨eσ8r, eσ8s, eσ8n⟩, eσ8⟩
        have hch := CHN_c (w := o1 + 15) (by omega) eσ8
        have k8 := hch.2
        have kσ8 : KMw o1 τ σ8 := ⟨⟨eσ8r, eσ8s, eσ8n⟩, fun c i q => k8 c i (fun z => q (by unfold wsMw; omega))⟩
        have u46b : σ8.I 0 46 = σ.I 0 46 := (k8 _ _ (by omega)).trans u46
        have hCC : CHN σ8 (o1 + 15) := hch.1
        have hPP : PBD σ8 155 := PBD_e i5 (fun c i q => k8 c i (by omega))
        have hSS : 0 < 1 → SEX σ σ8 o1 K V x2 := fun _ => HD8_e i2 (by omega) i6.1 i6.2 (fun k => k8 _ _ (by omega))
        have hWW : σ8.I (o1 + 15) 6 = 0 ∧ σ8.I (o1 + 15) 7 = (σ.I 0 39) ∧ σ8.I (o1 + 15) 8 = 0 := ⟨(k8 _ _ (by omega)).trans i4.1, (k8 _ _ (by omega)).trans i4.2.1, (k8 _ _ (by omega)).trans i4.2.2⟩
        have u2b : σ8.I (ubX σ) 2 = σ.I (ubX σ) 2 := (k8 _ _ (by omega)).trans u2
        rintro ⟨f4, f4q⟩
        refine ⟨fun c5 => ?_, fun c6 => ?_⟩
        · intro σ11 eσ11 gσ11
          have kσ11 : KMw o1 σ8 σ11 := KMw_w eσ11 (by unfold wsMw; omega)
          have f11 : ∀ c i, ¬ (c = o1 + 15 ∧ i = 1) → σ11.I c i = σ8.I c i := fun c i q => (by rw [eσ11, I_wI, if_neg q])
          have g11 : σ11.I (o1 + 15) 1 = 0 := (by rw [eσ11, I_same])
          have hCf : CHN σ11 (o1 + 15) := CHN_b hCC (by omega) eσ11
          have hPf : PBD σ11 155 := PBD_e hPP (fun c i q => f11 c i (by omega))
          have hSf : SEX σ σ11 o1 K V x2 := SEX_e (hSS (by omega)) (fun k => f11 _ _ (by omega))
          have hWf : σ11.I (o1 + 15) 6 = 0 ∧ σ11.I (o1 + 15) 7 = (σ.I 0 39) ∧ σ11.I (o1 + 15) 8 = 0 := ⟨(f11 _ _ (by omega)).trans hWW.1, (f11 _ _ (by omega)).trans hWW.2.1, (f11 _ _ (by omega)).trans hWW.2.2⟩
          refine RV_mk ?_
          · refine ⟨?_, ?_, ?_, ?_, ?_⟩
            · (clear ih0; first | exact ⟨hWf, by rw [g11, if_neg (by omega)]⟩ | exact ⟨hWf, by rw [g19, if_pos (by omega), u2b]⟩)
            · (clear ih0; exact hCf)
            · (clear ih0; exact hSf)
            · (clear ih0; first | exact hPf | exact hP37 | exact hP32 | exact i5)
            · exact (Ch.tr (Ch.tr i0 kσ8) kσ11)
        · refine ⟨?_, ?_⟩
          · (first | omega | exact ⟨by omega, by omega⟩ | assumption)
          refine ⟨?_, ?_⟩
          · (first | omega | exact ⟨by omega, by omega⟩ | assumption)
          refine ⟨?_, fun b14 r7 => ?_⟩
          · (clear ih0; (rw [show σ8.R = σ.R from eσ8r.trans i0.1.1, u46b, (user_at hL p2.1 p2.2).1]; exact (fun z => by cases z)))
          have e14 := usr_c (τ := σ8) hL (show σ8.R = σ.R from eσ8r.trans i0.1.1) u46b p2.1 p2.2 r7
          subst e14
          refine ⟨?_, ?_⟩
          · (clear ih0; exact (user_at (i := σ.I 0 46) (hL.sf (gτ.tr gσ8)) p2.1 p2.2).2)
          rintro ⟨f8, f8q⟩
          intro σ19 eσ19 gσ19
          have kσ19 : KMw o1 σ8 σ19 := KMw_w eσ19 (by unfold wsMw; omega)
          have f19 : ∀ c i, ¬ (c = o1 + 15 ∧ i = 1) → σ19.I c i = σ8.I c i := fun c i q => (by rw [eσ19, I_wI, if_neg q])
          have g19 : σ19.I (o1 + 15) 1 = σ8.I (ubX σ) 2 := (by rw [eσ19, I_same])
          have hCf : CHN σ19 (o1 + 15) := CHN_b hCC (by omega) eσ19
          have hPf : PBD σ19 155 := PBD_e hPP (fun c i q => f19 c i (by omega))
          have hSf : SEX σ σ19 o1 K V x2 := SEX_e (hSS (by omega)) (fun k => f19 _ _ (by omega))
          have hWf : σ19.I (o1 + 15) 6 = 0 ∧ σ19.I (o1 + 15) 7 = (σ.I 0 39) ∧ σ19.I (o1 + 15) 8 = 0 := ⟨(f19 _ _ (by omega)).trans hWW.1, (f19 _ _ (by omega)).trans hWW.2.1, (f19 _ _ (by omega)).trans hWW.2.2⟩
          refine RV_mk ?_
          · refine ⟨?_, ?_, ?_, ?_, ?_⟩
            · (clear ih0; first | exact ⟨hWf, by rw [g11, if_neg (by omega)]⟩ | exact ⟨hWf, by rw [g19, if_pos (by omega), u2b]⟩)
            · (clear ih0; exact hCf)
            · (clear ih0; exact hSf)
            · (clear ih0; first | exact hPf | exact hP37 | exact hP32 | exact i5)
            · exact (Ch.tr (Ch.tr i0 kσ8) kσ19)
      · refine ⟨?_, ?_⟩
        · (first | omega | exact ⟨by omega, by omega⟩ | assumption)
        refine ⟨?_, ?_⟩
        · (first | omega | exact ⟨by omega, by omega⟩ | assumption)
        rintro ⟨f9, f9q⟩
        refine ⟨fun c10 => ?_, fun c11 => ?_⟩
        · refine ih0 _ _ gτ ⟨?_, ?_, ?_, ?_, ?_, ?_, ?_⟩ ?_
          · exact i0
          · (first | omega | exact ⟨by omega, by omega⟩ | assumption)
          · (clear ih0; first | exact HD8_s i2 i1.1 (by omega) (a32.tr a37) (fun k => (f37 _ _ (by omega)).trans (f32 _ _ (by omega))) (fun k q => (f37 _ _ (by omega)).trans (f32 _ _ (by omega))) (Or.inr (Or.inr ⟨Classical.byContradiction (fun z => by have w := hscr.1.mpr z; omega), w37⟩)) | exact HD8_s i2 i1.1 (by omega) a32 (fun k => f32 _ _ (by omega)) (fun k q => f32 _ _ (by omega)) (Or.inr (Or.inl ⟨by omega, hscr.1.mp (by omega), f32 _ _ (by omega)⟩)) | exact HD8_s i2 i1.1 (by omega) (fun c i q => rfl) (fun k => rfl) (fun k q => rfl) (Or.inl ⟨by omega, rfl⟩))
          · (clear ih0; first | exact hS37 | exact hS32 | exact i3)
          · (clear ih0; first | exact i4 | exact ⟨((f37 _ _ (by omega)).trans (f32 _ _ (by omega))).trans i4.1, ((f37 _ _ (by omega)).trans (f32 _ _ (by omega))).trans i4.2.1, ((f37 _ _ (by omega)).trans (f32 _ _ (by omega))).trans i4.2.2⟩ | exact ⟨(f32 _ _ (by omega)).trans i4.1, (f32 _ _ (by omega)).trans i4.2.1, (f32 _ _ (by omega)).trans i4.2.2⟩)
          · (clear ih0; first | exact hPf | exact hP37 | exact hP32 | exact i5)
          · (first | omega | exact ⟨by omega, by omega⟩ | assumption)
          · (unfold lt3; omega)
        · rintro ⟨f12, f12q⟩
          refine ⟨?_, ?_⟩
          · (first | omega | exact ⟨by omega, by omega⟩ | assumption)
          refine ⟨?_, ?_⟩
          · (first | omega | exact ⟨by omega, by omega⟩ | assumption)
          refine ⟨?_, ?_⟩
          · (clear ih0; exact i3.1)
          refine ⟨?_, ?_⟩
          · (clear ih0; exact i3.2.1)
          refine ⟨?_, ?_⟩
          · (clear ih0; exact i3.2.2)
          refine ⟨?_, ?_⟩
          · (clear ih0; exact ⟨⟨by omega, by omega⟩, (hdO hsn) ⟨by omega, by omega⟩⟩)
          refine ⟨?_, ?_⟩
          · (first | omega | exact ⟨by omega, by omega⟩ | assumption)
          rintro y33 σ32 ⟨y33f, y33fq⟩ gσ32 ⟨eσ32_0, eσ32_1, eσ32_2⟩
          have kσ32 : KMw o1 τ σ32 := KMw_of_KNf eσ32_2
          have kσ32r := eσ32_2.1.1
          have a32 : SAG τ σ32 155 := fun c i q => eσ32_2.2 c i (by unfold wsNf; omega)
          have f32 : ∀ c i, c ≠ 155 + 29 → σ32.I c i = τ.I c i := fun c i q => eσ32_2.2 c i (by unfold wsNf; omega)
          have hS32 : SCR σ32 155 := SCR_a a32 eσ32_1 i3
          have hy : y33 = scW (tabS (GX τ 155)) (vXX τ 155) (τ.I (155 + 1) 4) x3 := eσ32_0
          have hP32 : PBD σ32 155 := PBD_e i5 (fun c i q => f32 c i (by omega))
          refine ⟨fun c13 => ?_, fun c14 => ?_⟩
          · refine ih0 _ _ (gτ.tr gσ32) ⟨?_, ?_, ?_, ?_, ?_, ?_, ?_⟩ ?_
            · exact (Ch.tr i0 kσ32)
            · (first | omega | exact ⟨by omega, by omega⟩ | assumption)
            · (clear ih0; first | exact HD8_s i2 i1.1 (by omega) (a32.tr a37) (fun k => (f37 _ _ (by omega)).trans (f32 _ _ (by omega))) (fun k q => (f37 _ _ (by omega)).trans (f32 _ _ (by omega))) (Or.inr (Or.inr ⟨Classical.byContradiction (fun z => by have w := hscr.1.mpr z; omega), w37⟩)) | exact HD8_s i2 i1.1 (by omega) a32 (fun k => f32 _ _ (by omega)) (fun k q => f32 _ _ (by omega)) (Or.inr (Or.inl ⟨by omega, hscr.1.mp (by omega), f32 _ _ (by omega)⟩)) | exact HD8_s i2 i1.1 (by omega) (fun c i q => rfl) (fun k => rfl) (fun k q => rfl) (Or.inl ⟨by omega, rfl⟩))
            · (clear ih0; first | exact hS37 | exact hS32 | exact i3)
            · (clear ih0; first | exact i4 | exact ⟨((f37 _ _ (by omega)).trans (f32 _ _ (by omega))).trans i4.1, ((f37 _ _ (by omega)).trans (f32 _ _ (by omega))).trans i4.2.1, ((f37 _ _ (by omega)).trans (f32 _ _ (by omega))).trans i4.2.2⟩ | exact ⟨(f32 _ _ (by omega)).trans i4.1, (f32 _ _ (by omega)).trans i4.2.1, (f32 _ _ (by omega)).trans i4.2.2⟩)
            · (clear ih0; first | exact hPf | exact hP37 | exact hP32 | exact i5)
            · (first | omega | exact ⟨by omega, by omega⟩ | assumption)
            · (unfold lt3; omega)
          · refine ⟨?_, ?_⟩
            · (first | omega | exact ⟨by omega, by omega⟩ | assumption)
            refine ⟨?_, ?_⟩
            · (first | omega | exact ⟨by omega, by omega⟩ | assumption)
            intro σ37 eσ37 gσ37
            have kσ37 : KMw o1 σ32 σ37 := KMw_w eσ37 (by unfold wsMw; omega)
            have f37 : ∀ c i, ¬ (c = o1 + 16 ∧ i = x3) → σ37.I c i = σ32.I c i := fun c i q => (by rw [eσ37, I_wI, if_neg (by omega)])
            have w37 : σ37.I (o1 + 16) x3 = 0 := (by rw [eσ37]; exact I_same _ _ _ _)
            have a37 : SAG σ32 σ37 155 := fun c i q => f37 c i (by omega)
            have hS37 : SCR σ37 155 := SCR_a a37 (SNX_a a37 (fun i => f37 _ _ (by omega)) hS32.2.1) hS32
            have hP37 : PBD σ37 155 := PBD_e hP32 (fun c i q => f37 c i (by omega))
            refine ih0 _ _ ((gτ.tr gσ32).tr gσ37) ⟨?_, ?_, ?_, ?_, ?_, ?_, ?_⟩ ?_
            · exact (Ch.tr (Ch.tr i0 kσ32) kσ37)
            · (first | omega | exact ⟨by omega, by omega⟩ | assumption)
            · (clear ih0; first | exact HD8_s i2 i1.1 (by omega) (a32.tr a37) (fun k => (f37 _ _ (by omega)).trans (f32 _ _ (by omega))) (fun k q => (f37 _ _ (by omega)).trans (f32 _ _ (by omega))) (Or.inr (Or.inr ⟨Classical.byContradiction (fun z => by have w := hscr.1.mpr z; omega), w37⟩)) | exact HD8_s i2 i1.1 (by omega) a32 (fun k => f32 _ _ (by omega)) (fun k q => f32 _ _ (by omega)) (Or.inr (Or.inl ⟨by omega, hscr.1.mp (by omega), f32 _ _ (by omega)⟩)) | exact HD8_s i2 i1.1 (by omega) (fun c i q => rfl) (fun k => rfl) (fun k q => rfl) (Or.inl ⟨by omega, rfl⟩))
            · (clear ih0; first | exact hS37 | exact hS32 | exact i3)
            · (clear ih0; first | exact i4 | exact ⟨((f37 _ _ (by omega)).trans (f32 _ _ (by omega))).trans i4.1, ((f37 _ _ (by omega)).trans (f32 _ _ (by omega))).trans i4.2.1, ((f37 _ _ (by omega)).trans (f32 _ _ (by omega))).trans i4.2.2⟩ | exact ⟨(f32 _ _ (by omega)).trans i4.1, (f32 _ _ (by omega)).trans i4.2.1, (f32 _ _ (by omega)).trans i4.2.2⟩)
            · (clear ih0; first | exact hPf | exact hP37 | exact hP32 | exact i5)
            · (first | omega | exact ⟨by omega, by omega⟩ | assumption)
            · (unfold lt3; omega)
  have k0_ : ∀ (x3 : Int) (τ : Sto), SF σ τ → ((KMw o1 σ τ) ∧ (0 ≤ x3 ∧ x3 ≤ (σ.I 0 39)) ∧ (HD8 σ τ o1 K V x2 x3) ∧ (SCR τ 155) ∧ (τ.I (o1 + 15) 6 = 0 ∧ τ.I (o1 + 15) 7 = (σ.I 0 39) ∧ τ.I (o1 + 15) 8 = 0) ∧ (PBD τ 155) ∧ (0 < σ.I 0 46 ∧ σ.I (ubX σ) 1 ≠ 0)) → VV E mX0_makeWorld (d + 1) 80 [(0, aO 0), (1, aO o1), (3, aI (x3))] [] τ (RV (fun τ => ((τ.I (o1 + 15) 6 = 0 ∧ τ.I (o1 + 15) 7 = (σ.I 0 39) ∧ τ.I (o1 + 15) 8 = 0) ∧ τ.I (o1 + 15) 1 = (if 0 < σ.I 0 46 then σ.I (ubX σ) 2 else 0)) ∧ (CHN τ (o1 + 15)) ∧ (SEX σ τ o1 K V x2) ∧ (PBD τ 155) ∧ (KMw o1 σ τ))) := fun z0 z1 h0 h1 => (key _ _ _) z0 z1 h0 h1 rfl rfl rfl
  clear key
  refine ucX0_makeWorld_0W (K := K) (V := V) hL ho1 ?_
  refine ⟨?_, ?_⟩
  · omega
  refine ⟨?_, ?_⟩
  · (first | omega | exact ⟨by omega, by omega⟩ | assumption)
  refine ⟨?_, ?_⟩
  · (first | omega | exact ⟨by omega, by omega⟩ | assumption)
  refine ⟨?_, ?_⟩
  · (clear k0_; exact p3.2.2.2.2.2.2.2.2.2.2.2.1)
  refine ⟨?_, ?_⟩
  · (first | omega | exact ⟨by omega, by omega⟩ | assumption)
  rintro σ6 gσ6 ⟨⟨⟨eσ6_0r, eσ6_0s, eσ6_0n⟩, eσ6_0⟩, eσ6_1⟩
  have k6 : ∀ c i, ¬ (o1 + 15 ≤ c ∧ c ≤ o1 + 20) → σ6.I c i = σ.I c i := fun c i q => (by rw [eσ6_0]; show (if c = _ ∨ c = _ then _ else if at2 c i _ _ then _ else if at2 c i _ _ then _ else if at2 c i _ _ then _ else if at2 c i _ _ then _ else if rg c i _ _ _ then _ else _) = _; rw [if_neg (by omega), if_neg (fun z => by have y := z.1; omega), if_neg (fun z => by have y := z.1; omega), if_neg (fun z => by have y := z.1; omega), if_neg (fun z => by have y := z.1; omega), if_neg (fun z => by have y := z.1; omega)])
  have w6 : σ6.I (o1 + 15) 6 = 0 ∧ σ6.I (o1 + 15) 7 = σ.I 0 39 ∧ σ6.I (o1 + 15) 8 = 0 ∧ σ6.I (o1 + 15) 1 = 0 := (by rw [eσ6_0]; refine ⟨?_, ?_, ?_, ?_⟩ <;> grind)
  have s6 : ∀ k, 0 ≤ k → k < σ.I 0 39 → σ6.I (o1 + 15 + 1) k = zb (inV (σ.I 47) (σ.I 45) (σ.I 46) x2 k) := fun k a b => (by rw [eσ6_0]; grind)
  have kσ6 : KMw o1 σ σ6 := ⟨⟨eσ6_0r, eσ6_0s, eσ6_0n⟩, fun c i q => k6 c i (fun z => q (by unfold wsMw; omega))⟩
  have u46 : σ6.I 0 46 = σ.I 0 46 := k6 _ _ (by omega)
  have hB := p3
  have hub : 215 ≤ (ubX σ) ∧ (ubX σ) ≤ 260 := (by unfold ubX; omega)
  have hb6 : PBD σ6 155 := PBD_e p5 (fun c i q => k6 c i (by omega))
  have hC6 : CHN σ6 (o1 + 15) := eσ6_1
  have hs6 : ∀ k, 0 ≤ k → k < (σ.I 0 39) → σ6.I (o1 + 16) k = zb (inV (σ.I 47) (σ.I 45) (σ.I 46) x2 k) := fun k a b => s6 k a b
  have hsx6 : σ.I 0 46 ≤ 0 ∨ σ.I (ubX σ) 1 = 0 → SEX σ σ6 o1 K V x2 := fun h => ⟨fun _ k a b => hs6 k a b, fun a b => by omega⟩
  rintro ⟨f1, f1q⟩
  refine ⟨?_, ?_⟩
  · (first | omega | exact ⟨by omega, by omega⟩ | assumption)
  refine ⟨?_, ?_⟩
  · (first | omega | exact ⟨by omega, by omega⟩ | assumption)
  refine ⟨?_, fun b10 r2 => ?_⟩
  · (clear k0_; (rw [eσ6_0r, u46, (user_at hL p2.1 p2.2).1]; exact (fun z => by cases z)))
  have e10 := usr_c hL eσ6_0r u46 p2.1 p2.2 r2
  subst e10
  have u1 : σ6.I (ubX σ) 1 = σ.I (ubX σ) 1 := k6 _ _ (by omega)
  have u2 : σ6.I (ubX σ) 2 = σ.I (ubX σ) 2 := k6 _ _ (by omega)
  refine ⟨?_, ?_⟩
  · (clear k0_; exact (user_at (i := σ.I 0 46) (hL.sf gσ6) p2.1 p2.2).2)
  rintro ⟨f3, f3q⟩
  refine ⟨fun c4 => ?_, fun c5 => ?_⟩
  · refine ⟨fun c6 => ?_, fun c7 => ?_⟩
    · intro σ17 eσ17 gσ17
      have kσ17 : KMw o1 σ6 σ17 := KMw_w eσ17 (by unfold wsMw; omega)
      have hCC := hC6
      have hPP := hb6
      have hSS := hsx6
      have hWW : σ6.I (o1 + 15) 6 = 0 ∧ σ6.I (o1 + 15) 7 = σ.I 0 39 ∧ σ6.I (o1 + 15) 8 = 0 := ⟨w6.1, w6.2.1, w6.2.2.1⟩
      have f17 : ∀ c i, ¬ (c = o1 + 15 ∧ i = 1) → σ17.I c i = σ6.I c i := fun c i q => (by rw [eσ17, I_wI, if_neg q])
      have g17 : σ17.I (o1 + 15) 1 = 0 := (by rw [eσ17, I_same])
      have hCf : CHN σ17 (o1 + 15) := CHN_b hCC (by omega) eσ17
      have hPf : PBD σ17 155 := PBD_e hPP (fun c i q => f17 c i (by omega))
      have hSf : SEX σ σ17 o1 K V x2 := SEX_e (hSS (by omega)) (fun k => f17 _ _ (by omega))
      have hWf : σ17.I (o1 + 15) 6 = 0 ∧ σ17.I (o1 + 15) 7 = (σ.I 0 39) ∧ σ17.I (o1 + 15) 8 = 0 := ⟨(f17 _ _ (by omega)).trans hWW.1, (f17 _ _ (by omega)).trans hWW.2.1, (f17 _ _ (by omega)).trans hWW.2.2⟩
      refine RV_mk ?_
      · refine ⟨?_, ?_, ?_, ?_, ?_⟩
        · (clear k0_; first | exact ⟨hWf, by rw [g17, if_neg (by omega)]⟩ | exact ⟨hWf, by rw [g25, if_pos (by omega), u2]⟩ | exact ⟨hWf, by rw [g28, if_neg (by omega)]⟩ | exact ⟨hWf, by rw [g36, if_pos (by omega), u2]⟩)
        · (clear k0_; exact hCf)
        · (clear k0_; exact hSf)
        · (clear k0_; first | exact hPf | exact hpb87)
        · exact (Ch.tr kσ6 kσ17)
    · refine ⟨?_, ?_⟩
      · (first | omega | exact ⟨by omega, by omega⟩ | assumption)
      refine ⟨?_, ?_⟩
      · (first | omega | exact ⟨by omega, by omega⟩ | assumption)
      refine ⟨?_, fun b20 r8 => ?_⟩
      · (clear k0_; (rw [eσ6_0r, u46, (user_at hL p2.1 p2.2).1]; exact (fun z => by cases z)))
      have e20 := usr_c hL eσ6_0r u46 p2.1 p2.2 r8
      subst e20
      refine ⟨?_, ?_⟩
      · (clear k0_; exact (user_at (i := σ.I 0 46) (hL.sf gσ6) p2.1 p2.2).2)
      rintro ⟨f9, f9q⟩
      intro σ25 eσ25 gσ25
      have kσ25 : KMw o1 σ6 σ25 := KMw_w eσ25 (by unfold wsMw; omega)
      have hCC := hC6
      have hPP := hb6
      have hSS := hsx6
      have hWW : σ6.I (o1 + 15) 6 = 0 ∧ σ6.I (o1 + 15) 7 = σ.I 0 39 ∧ σ6.I (o1 + 15) 8 = 0 := ⟨w6.1, w6.2.1, w6.2.2.1⟩
      have f25 : ∀ c i, ¬ (c = o1 + 15 ∧ i = 1) → σ25.I c i = σ6.I c i := fun c i q => (by rw [eσ25, I_wI, if_neg q])
      have g25 : σ25.I (o1 + 15) 1 = σ6.I (ubX σ) 2 := (by rw [eσ25, I_same])
      have hCf : CHN σ25 (o1 + 15) := CHN_b hCC (by omega) eσ25
      have hPf : PBD σ25 155 := PBD_e hPP (fun c i q => f25 c i (by omega))
      have hSf : SEX σ σ25 o1 K V x2 := SEX_e (hSS (by omega)) (fun k => f25 _ _ (by omega))
      have hWf : σ25.I (o1 + 15) 6 = 0 ∧ σ25.I (o1 + 15) 7 = (σ.I 0 39) ∧ σ25.I (o1 + 15) 8 = 0 := ⟨(f25 _ _ (by omega)).trans hWW.1, (f25 _ _ (by omega)).trans hWW.2.1, (f25 _ _ (by omega)).trans hWW.2.2⟩
      refine RV_mk ?_
      · refine ⟨?_, ?_, ?_, ?_, ?_⟩
        · (clear k0_; first | exact ⟨hWf, by rw [g17, if_neg (by omega)]⟩ | exact ⟨hWf, by rw [g25, if_pos (by omega), u2]⟩ | exact ⟨hWf, by rw [g28, if_neg (by omega)]⟩ | exact ⟨hWf, by rw [g36, if_pos (by omega), u2]⟩)
        · (clear k0_; exact hCf)
        · (clear k0_; exact hSf)
        · (clear k0_; first | exact hPf | exact hpb87)
        · exact (Ch.tr kσ6 kσ25)
  · refine ⟨fun c10 => ?_, fun c11 => ?_⟩
    · refine ⟨fun c12 => ?_, fun c13 => ?_⟩
      · intro σ28 eσ28 gσ28
        have kσ28 : KMw o1 σ6 σ28 := KMw_w eσ28 (by unfold wsMw; omega)
        have hCC := hC6
        have hPP := hb6
        have hSS := hsx6
        have hWW : σ6.I (o1 + 15) 6 = 0 ∧ σ6.I (o1 + 15) 7 = σ.I 0 39 ∧ σ6.I (o1 + 15) 8 = 0 := ⟨w6.1, w6.2.1, w6.2.2.1⟩
        have f28 : ∀ c i, ¬ (c = o1 + 15 ∧ i = 1) → σ28.I c i = σ6.I c i := fun c i q => (by rw [eσ28, I_wI, if_neg q])
        have g28 : σ28.I (o1 + 15) 1 = 0 := (by rw [eσ28, I_same])
        have hCf : CHN σ28 (o1 + 15) := CHN_b hCC (by omega) eσ28
        have hPf : PBD σ28 155 := PBD_e hPP (fun c i q => f28 c i (by omega))
        have hSf : SEX σ σ28 o1 K V x2 := SEX_e (hSS (by omega)) (fun k => f28 _ _ (by omega))
        have hWf : σ28.I (o1 + 15) 6 = 0 ∧ σ28.I (o1 + 15) 7 = (σ.I 0 39) ∧ σ28.I (o1 + 15) 8 = 0 := ⟨(f28 _ _ (by omega)).trans hWW.1, (f28 _ _ (by omega)).trans hWW.2.1, (f28 _ _ (by omega)).trans hWW.2.2⟩
        refine RV_mk ?_
        · refine ⟨?_, ?_, ?_, ?_, ?_⟩
          · (clear k0_; first | exact ⟨hWf, by rw [g17, if_neg (by omega)]⟩ | exact ⟨hWf, by rw [g25, if_pos (by omega), u2]⟩ | exact ⟨hWf, by rw [g28, if_neg (by omega)]⟩ | exact ⟨hWf, by rw [g36, if_pos (by omega), u2]⟩)
          · (clear k0_; exact hCf)
          · (clear k0_; exact hSf)
          · (clear k0_; first | exact hPf | exact hpb87)
          · exact (Ch.tr kσ6 kσ28)
      · refine ⟨?_, ?_⟩
        · (first | omega | exact ⟨by omega, by omega⟩ | assumption)
        refine ⟨?_, ?_⟩
        · (first | omega | exact ⟨by omega, by omega⟩ | assumption)
        refine ⟨?_, fun b31 r14 => ?_⟩
        · (clear k0_; (rw [eσ6_0r, u46, (user_at hL p2.1 p2.2).1]; exact (fun z => by cases z)))
        have e31 := usr_c hL eσ6_0r u46 p2.1 p2.2 r14
        subst e31
        refine ⟨?_, ?_⟩
        · (clear k0_; exact (user_at (i := σ.I 0 46) (hL.sf gσ6) p2.1 p2.2).2)
        rintro ⟨f15, f15q⟩
        intro σ36 eσ36 gσ36
        have kσ36 : KMw o1 σ6 σ36 := KMw_w eσ36 (by unfold wsMw; omega)
        have hCC := hC6
        have hPP := hb6
        have hSS := hsx6
        have hWW : σ6.I (o1 + 15) 6 = 0 ∧ σ6.I (o1 + 15) 7 = σ.I 0 39 ∧ σ6.I (o1 + 15) 8 = 0 := ⟨w6.1, w6.2.1, w6.2.2.1⟩
        have f36 : ∀ c i, ¬ (c = o1 + 15 ∧ i = 1) → σ36.I c i = σ6.I c i := fun c i q => (by rw [eσ36, I_wI, if_neg q])
        have g36 : σ36.I (o1 + 15) 1 = σ6.I (ubX σ) 2 := (by rw [eσ36, I_same])
        have hCf : CHN σ36 (o1 + 15) := CHN_b hCC (by omega) eσ36
        have hPf : PBD σ36 155 := PBD_e hPP (fun c i q => f36 c i (by omega))
        have hSf : SEX σ σ36 o1 K V x2 := SEX_e (hSS (by omega)) (fun k => f36 _ _ (by omega))
        have hWf : σ36.I (o1 + 15) 6 = 0 ∧ σ36.I (o1 + 15) 7 = (σ.I 0 39) ∧ σ36.I (o1 + 15) 8 = 0 := ⟨(f36 _ _ (by omega)).trans hWW.1, (f36 _ _ (by omega)).trans hWW.2.1, (f36 _ _ (by omega)).trans hWW.2.2⟩
        refine RV_mk ?_
        · refine ⟨?_, ?_, ?_, ?_, ?_⟩
          · (clear k0_; first | exact ⟨hWf, by rw [g17, if_neg (by omega)]⟩ | exact ⟨hWf, by rw [g25, if_pos (by omega), u2]⟩ | exact ⟨hWf, by rw [g28, if_neg (by omega)]⟩ | exact ⟨hWf, by rw [g36, if_pos (by omega), u2]⟩)
          · (clear k0_; exact hCf)
          · (clear k0_; exact hSf)
          · (clear k0_; first | exact hPf | exact hpb87)
          · exact (Ch.tr kσ6 kσ36)
    · refine ⟨?_, ?_⟩
      · (first | omega | exact ⟨by omega, by omega⟩ | assumption)
      refine ⟨?_, ?_⟩
      · (first | omega | exact ⟨by omega, by omega⟩ | assumption)
      refine ⟨?_, fun b39 r16 => ?_⟩
      · (clear k0_; (rw [eσ6_0r, u46, (user_at hL p2.1 p2.2).1]; exact (fun z => by cases z)))
      have e39 := usr_c hL eσ6_0r u46 p2.1 p2.2 r16
      subst e39
      have hQ := p4 (by omega) (by omega)
      have v1 : σ6.I ((ubX σ) + 1) 1 = σ.I ((ubX σ) + 1) 1 := k6 _ _ (by omega)
      have v2 : σ6.I ((ubX σ) + 1) 2 = σ.I ((ubX σ) + 1) 2 := k6 _ _ (by omega)
      have hq5 := hQ.2.2.2.2.1
      have hq2 := hQ.1.2
      refine ⟨?_, ?_⟩
      · (clear k0_; exact (user_at (i := σ.I 0 46) (hL.sf gσ6) p2.1 p2.2).2)
      refine ⟨?_, ?_⟩
      · omega
      refine ⟨?_, ?_⟩
      · (first | omega | exact ⟨by omega, by omega⟩ | assumption)
      refine ⟨?_, ?_⟩
      · (first | omega | exact ⟨by omega, by omega⟩ | assumption)
      refine ⟨?_, ?_⟩
      · (first | omega | exact ⟨by omega, by omega⟩ | assumption)
      rintro σ47 gσ47 ⟨⟨eσ47r, eσ47s, eσ47n⟩, eσ47⟩
      have k47 : ∀ c i, ¬ (156 ≤ c ∧ c ≤ 169) → σ47.I c i = σ6.I c i := fun c i q => (by rw [eσ47]; unfold CQF; rw [if_neg (by omega), if_neg (by omega), if_neg (by omega)])
      have q47a : ∀ c i, c = 156 → 1 ≤ i → i ≤ 4 → σ47.I c i = σ6.I ((ubX σ) + 1) i := fun c i a b d => (by rw [eσ47]; unfold CQF; rw [if_pos ⟨a, b, d⟩])
      have q47b : ∀ c i, c = 157 → 0 ≤ i → i < σ6.I ((ubX σ) + 1) 1 → σ47.I c i = σ6.I ((ubX σ) + 1 + 1) i := fun c i a b d => (by rw [eσ47]; unfold CQF; rw [if_neg (by omega), if_pos ⟨a, b, d⟩])
      have q47c : ∀ m x, 3 ≤ m → m ≤ 14 → 0 ≤ x → x < σ6.I ((ubX σ) + 1) 2 → σ47.I (155 + m) x = σ6.I ((ubX σ) + m) x := fun m x a b d e => (by rw [eσ47]; unfold CQF; rw [if_neg (by omega), if_neg (by omega), if_pos ⟨by omega, d, Or.inl e⟩, show (ubX σ) + 1 + (155 + m - 156) = (ubX σ) + m by omega])
      have kσ47 : KMw o1 σ6 σ47 := ⟨⟨eσ47r, eσ47s, eσ47n⟩, fun c i q => k47 c i (fun z => q (by unfold wsMw; omega))⟩
      intro σ48 eσ48 gσ48
      have kσ48 : KMw o1 σ47 σ48 := KMw_w eσ48 (by unfold wsMw; omega)
      have k48 : ∀ c i, ¬ (155 ≤ c ∧ c ≤ 169) → σ48.I c i = σ.I c i ∨ (o1 + 15 ≤ c ∧ c ≤ o1 + 20) := fun c i q => (by by_cases z : o1 + 15 ≤ c ∧ c ≤ o1 + 20; (exact Or.inr z); (left; rw [eσ48, I_ne _ _ _ _ (by omega), k47 c i (by omega)]; exact k6 c i z))
      have k48' : ∀ c i, ¬ (155 ≤ c ∧ c ≤ 169) → ¬ (o1 + 15 ≤ c ∧ c ≤ o1 + 20) → σ48.I c i = σ.I c i := fun c i a b => (k48 c i a).elim id (fun z => absurd z b)
      have u39 : σ48.I 0 39 = (σ.I 0 39) := k48' _ _ (by omega) (by omega)
      refine ⟨?_, ?_⟩
      · omega
      refine ⟨?_, ?_⟩
      · (first | omega | exact ⟨by omega, by omega⟩ | assumption)
      refine ⟨?_, ?_⟩
      · (first | omega | exact ⟨by omega, by omega⟩ | assumption)
      refine ⟨?_, ?_⟩
      · (clear k0_; (rw [u39]; exact tre_e p3.2.2.2.2.2.2.2.2.2.2.2.1 (funext fun i => k48' _ _ (by omega) (by omega))))
      refine ⟨?_, ?_⟩
      · (first | omega | exact ⟨by omega, by omega⟩ | assumption)
      rintro σ54 gσ54 ⟨⟨⟨eσ54_0r, eσ54_0s, eσ54_0n⟩, eσ54_0⟩, eσ54_1⟩
      have k54 : ∀ c i, ¬ (170 ≤ c ∧ c ≤ 175) → σ54.I c i = σ48.I c i := fun c i q => (by rw [eσ54_0]; show (if c = _ ∨ c = _ then _ else if at2 c i _ _ then _ else if at2 c i _ _ then _ else if at2 c i _ _ then _ else if at2 c i _ _ then _ else if rg c i _ _ _ then _ else _) = _; rw [if_neg (by omega), if_neg (fun z => by have y := z.1; omega), if_neg (fun z => by have y := z.1; omega), if_neg (fun z => by have y := z.1; omega), if_neg (fun z => by have y := z.1; omega), if_neg (fun z => by have y := z.1; omega)])
      have w54 : σ54.I (170) 6 = 0 ∧ σ54.I (170) 7 = σ48.I 0 39 ∧ σ54.I (170) 8 = 0 ∧ σ54.I (170) 1 = 0 := (by rw [eσ54_0]; refine ⟨?_, ?_, ?_, ?_⟩ <;> grind)
      have s54 : ∀ k, 0 ≤ k → k < σ48.I 0 39 → σ54.I (170 + 1) k = zb (inV (σ48.I 47) (σ48.I 45) (σ48.I 46) x2 k) := fun k a b => (by rw [eσ54_0]; grind)
      have kσ54 : KMw o1 σ48 σ54 := ⟨⟨eσ54_0r, eσ54_0s, eσ54_0n⟩, fun c i q => k54 c i (fun z => q (by unfold wsMw; omega))⟩
      have n54 : ∀ c i, ¬ (155 ≤ c ∧ c ≤ 175) → ¬ (o1 + 15 ≤ c ∧ c ≤ o1 + 20) → σ54.I c i = σ.I c i := fun c i a b => (k54 c i (by omega)).trans (k48' c i (by omega) b)
      have x54 : ∀ c i, 156 ≤ c → c ≤ 169 → σ54.I c i = σ47.I c i := fun c i a b => (k54 c i (by omega)).trans (by rw [eσ48]; exact I_ne _ _ _ _ (by omega))
      have hCPR : CPR σ σ54 155 (ubX σ) := ⟨⟨((x54 (155 + 1) 2 (by omega) (by omega)).trans (q47a _ _ (by omega) (by decide) (by decide))).trans (k6 _ _ (by omega)), ((x54 (155 + 1) 4 (by omega) (by omega)).trans (q47a _ _ (by omega) (by decide) (by decide))).trans (k6 _ _ (by omega)), ((x54 (155 + 1) 1 (by omega) (by omega)).trans (q47a _ _ (by omega) (by decide) (by decide))).trans (k6 _ _ (by omega))⟩, fun m x a b c e => ((x54 (155 + m) x (by omega) (by omega)).trans (q47c m x a b c (by rw [v2]; exact e))).trans (k6 _ _ (by omega)), fun i a b => ((x54 (155 + 2) i (by omega) (by omega)).trans (q47b _ _ (by omega) a (by rw [v1]; exact b))).trans (k6 _ _ (by omega))⟩
      have er54 : σ54.2 = σ.2 := Prod.ext (eσ54_0r.trans ((by rw [eσ48]; rfl : σ48.R = σ47.R).trans (eσ47r.trans eσ6_0r))) (Prod.ext (eσ54_0s.trans ((by rw [eσ48]; rfl : σ48.sh = σ47.sh).trans (eσ47s.trans eσ6_0s))) (eσ54_0n.trans ((by rw [eσ48]; rfl : σ48.n = σ47.n).trans (eσ47n.trans eσ6_0n))))
      have eA : ∀ c, 16 ≤ c ∧ c < 80 → σ54.I c = σ.I c := fun c q => funext fun i => n54 c i (by omega) (by omega)
      have eZ : ∀ i, σ54.I 0 i = σ.I 0 i := fun i => n54 0 i (by omega) (by omega)
      have eG : ∀ c, 675 ≤ c → σ54.I c = σ.I c := fun c q => funext fun i => n54 c i (by omega) (by omega)
      have hQ54 := CPR_q hCPR hQ eA ⟨eZ 9, eZ 4, eZ 20⟩ er54 eG p3.2.2.2.1
      have hB54 : BSX σ54 K V := BSX_e p3 eA (fun i _ => eZ i) (congrArg (·.1) er54) (congrArg (·.2.1) er54) (congrArg (·.2.2) er54) eG (HOWA_e p3.2.2.2.2.2.2.2.2.2.2.2.2 eA (fun i _ => eZ i))
      have hw54 : σ54.I (155 + 15) 6 = 0 ∧ σ54.I (155 + 15) 7 = σ54.I 0 39 ∧ σ54.I (155 + 15) 8 = 0 := ⟨w54.1, w54.2.1.trans (by rw [eZ, u39]), w54.2.2.1⟩
      have hHW := hB54.2.2.2.2.2.2.2.2.2.2.2.2 σ54 155 (by decide) (fun _ _ => rfl) (fun _ _ => rfl) hw54.2.2 hw54.1 hw54.2.1
      obtain ⟨⟨a1, a2, a3, a4, a5, a6, a7, a8, a9, a10, a11⟩, b1, b2, b3, b4, b5, b6, b7, b8, b9, b10, b11, b12⟩ := hB54
      have hb54 : PBD σ54 155 := PBD_e p5 (fun c i q => (show σ54.I c i = σ.I c i from n54 c i (by omega) (by omega)))
      have e39 := eZ 39
      have hN : σ54.I (155 + 15) 7 = (σ.I 0 39) := hw54.2.1.trans e39
      have z6 := hw54.1
      have z8 := hw54.2.2
      refine ⟨?_, ?_⟩
      · omega
      refine ⟨?_, ?_⟩
      · (first | omega | exact ⟨by omega, by omega⟩ | assumption)
      refine ⟨?_, ?_⟩
      · (clear k0_; exact hQ54.1.1.2)
      refine ⟨?_, ?_⟩
      · (clear k0_; exact hQ54.1.2.1)
      refine ⟨?_, ?_⟩
      · (clear k0_; exact hQ54.1.2.2.1)
      refine ⟨?_, ?_⟩
      · (clear k0_; exact hQ54.1.2.2.2.1)
      refine ⟨?_, ?_⟩
      · (first | omega | exact ⟨by omega, by omega⟩ | assumption)
      refine ⟨?_, ?_⟩
      · (first | omega | exact ⟨by omega, by omega⟩ | assumption)
      refine ⟨?_, ?_⟩
      · (clear k0_; exact a2)
      refine ⟨?_, ?_⟩
      · (clear k0_; exact a3)
      refine ⟨?_, ?_⟩
      · (clear k0_; exact (fun k x y _ => (b9 k x (by have z := hw54.2.1; omega)).2))
      refine ⟨?_, ?_⟩
      · (clear k0_; exact a4)
      refine ⟨?_, ?_⟩
      · (first | omega | exact ⟨by omega, by omega⟩ | assumption)
      refine ⟨?_, ?_⟩
      · (clear k0_; exact a6)
      refine ⟨?_, ?_⟩
      · (clear k0_; exact a7)
      refine ⟨?_, ?_⟩
      · (clear k0_; exact a8)
      refine ⟨?_, ?_⟩
      · (clear k0_; exact a9)
      refine ⟨?_, ?_⟩
      · (clear k0_; exact a10)
      refine ⟨?_, ?_⟩
      · (clear k0_; exact a11)
      refine ⟨?_, ?_⟩
      · (first | omega | exact ⟨by omega, by omega⟩ | assumption)
      refine ⟨?_, ?_⟩
      · (clear k0_; exact b2)
      refine ⟨?_, ?_⟩
      · (clear k0_; exact b3)
      refine ⟨?_, ?_⟩
      · (clear k0_; exact b4)
      refine ⟨?_, ?_⟩
      · (first | omega | exact ⟨by omega, by omega⟩ | assumption)
      refine ⟨?_, ?_⟩
      · (clear k0_; exact b6)
      refine ⟨?_, ?_⟩
      · (clear k0_; exact b7)
      refine ⟨?_, ?_⟩
      · (clear k0_; exact b8)
      refine ⟨?_, ?_⟩
      · (clear k0_; exact hb54)
      refine ⟨?_, ?_⟩
      · (clear k0_; (rw [hw54.2.1]; exact hHW.1))
      refine ⟨?_, ?_⟩
      · (clear k0_; (rw [hw54.2.1]; exact b10))
      refine ⟨?_, ?_⟩
      · (first | omega | exact ⟨by omega, by omega⟩ | assumption)
      refine ⟨?_, ?_⟩
      · (clear k0_; exact hHW.2.1)
      refine ⟨?_, ?_⟩
      · (clear k0_; exact (fun k x y _ => (b9 k x (by have z := hw54.2.1; omega)).1))
      rintro σ88 gσ88 ⟨eσ88_0, eσ88_1⟩
      have kσ88 : KMw o1 σ54 σ88 := KMw_of_KPq eσ88_1
      have kσ88r := eσ88_1.1.1
      refine k0_ _ _ ((((gσ6.tr gσ47).tr gσ48).tr gσ54).tr gσ88) ⟨?_, ?_, ?_, ?_, ?_, ?_, ?_⟩
      · exact (Ch.tr (Ch.tr (Ch.tr (Ch.tr kσ6 kσ47) kσ48) kσ54) kσ88)
      · (first | omega | exact ⟨by omega, by omega⟩ | assumption)
      · (clear k0_; exact hH0)
      · (clear k0_; exact hSCR)
      · (clear k0_; exact ⟨(o87 6).trans w6.1, (o87 7).trans w6.2.1, (o87 8).trans w6.2.2.1⟩)
      · (clear k0_; first | exact hPf | exact hpb87)
      · (first | omega | exact ⟨by omega, by omega⟩ | assumption)
