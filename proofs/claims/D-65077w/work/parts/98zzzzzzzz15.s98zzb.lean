set_option maxRecDepth 100000
set_option maxHeartbeats 1200000
theorem DX0_explain_0W : DD cX0_explain 0 1 1 (.aload_n 0) := ⟨by decide +kernel, rfl⟩
theorem DX0_explain_1W : DD cX0_explain 1 3 4 (.getfield 550) := ⟨by decide +kernel, rfl⟩
theorem DX0_explain_4W : DD cX0_explain 4 3 7 (.ifCond .eq 11) := ⟨by decide +kernel, rfl⟩
theorem DX0_explain_7W : DD cX0_explain 7 1 8 (.aload_n 0) := ⟨by decide +kernel, rfl⟩
theorem DX0_explain_8W : DD cX0_explain 8 1 9 (.iload_n 1) := ⟨by decide +kernel, rfl⟩
theorem DX0_explain_9W : DD cX0_explain 9 3 12 (.invokevirtual 629) := ⟨by decide +kernel, rfl⟩
theorem DX0_explain_12W : DD cX0_explain 12 3 15 (.ifCond .ne 5) := ⟨by decide +kernel, rfl⟩
theorem DX0_explain_15W : DD cX0_explain 15 1 16 (.iconst (-1)) := ⟨by decide +kernel, rfl⟩
theorem DX0_explain_16W : DD cX0_explain 16 1 17 (.ireturn) := ⟨by decide +kernel, rfl⟩
theorem DX0_explain_17W : DD cX0_explain 17 1 18 (.aload_n 0) := ⟨by decide +kernel, rfl⟩
theorem DX0_explain_18W : DD cX0_explain 18 1 19 (.iconst 0) := ⟨by decide +kernel, rfl⟩
theorem DX0_explain_19W : DD cX0_explain 19 3 22 (.putfield 553) := ⟨by decide +kernel, rfl⟩
theorem DX0_explain_22W : DD cX0_explain 22 1 23 (.aload_n 0) := ⟨by decide +kernel, rfl⟩
theorem DX0_explain_23W : DD cX0_explain 23 3 26 (.getfield 268) := ⟨by decide +kernel, rfl⟩
theorem DX0_explain_26W : DD cX0_explain 26 1 27 (.aload_n 0) := ⟨by decide +kernel, rfl⟩
theorem DX0_explain_27W : DD cX0_explain 27 3 30 (.getfield 268) := ⟨by decide +kernel, rfl⟩
theorem DX0_explain_30W : DD cX0_explain 30 3 33 (.getfield 577) := ⟨by decide +kernel, rfl⟩
theorem DX0_explain_33W : DD cX0_explain 33 3 36 (.getfield 587) := ⟨by decide +kernel, rfl⟩
theorem DX0_explain_36W : DD cX0_explain 36 1 37 (.aload_n 0) := ⟨by decide +kernel, rfl⟩
theorem DX0_explain_37W : DD cX0_explain 37 3 40 (.getfield 281) := ⟨by decide +kernel, rfl⟩
theorem DX0_explain_40W : DD cX0_explain 40 1 41 (.iload_n 1) := ⟨by decide +kernel, rfl⟩
theorem DX0_explain_41W : DD cX0_explain 41 1 42 (.iaload) := ⟨by decide +kernel, rfl⟩
theorem DX0_explain_42W : DD cX0_explain 42 1 43 (.iconst 0) := ⟨by decide +kernel, rfl⟩
theorem DX0_explain_43W : DD cX0_explain 43 3 46 (.invokevirtual 632) := ⟨by decide +kernel, rfl⟩
theorem DX0_explain_46W : DD cX0_explain 46 1 47 (.aload_n 0) := ⟨by decide +kernel, rfl⟩
theorem DX0_explain_47W : DD cX0_explain 47 3 50 (.getfield 553) := ⟨by decide +kernel, rfl⟩
theorem DX0_explain_50W : DD cX0_explain 50 1 51 (.ireturn) := ⟨by decide +kernel, rfl⟩
theorem ucX0_explain_0W {E : XE} {d : Nat} {σ : Sto} {Q : Res → Sto → Prop} {sz : Int → Int} {zm : Int → Int} {x1 : Int} (hL : Lay σ)  (h : (0 ≤ σ.I 0 71 ∧ σ.I 0 71 ≤ 1 → ((σ.I 0 71) = 0 → Q (.inl (some (aI (-1)))) σ) ∧ ((σ.I 0 71) ≠ 0 → 2 ≤ d ∧ (inR x1) ∧ (0 ≤ σ.I 0 70 ∧ σ.I 0 70 ≤ 600) ∧ ((0 ≤ x1 ∧ x1 < σ.I 0 70) → (∀ σ8 : Sto, σ8 = σ.wI 0 59 0 → SF σ σ8 → (inR (σ8.I 88 4) → 0 ≤ x1 ∧ x1 < 600 ∧ (inR (σ8.I 189 x1) → 3 * 130 + 9 + 130 ≤ d ∧ (87 = 87 ∨ 87 = 121 ∨ 87 = 155) ∧ (CHW σ8 87) ∧ (SNX σ8 87 (vXX σ8 87)) ∧ (0 ≤ (σ8.I 88 4) ∧ WX σ8 87 (vXX σ8 87) 130 (σ8.I 88 4)) ∧ ((0 ≤ (σ8.I 189 x1) ∧ (σ8.I 189 x1) < 601) ∧ snW σ8 87 (σ8.I 189 x1)) ∧ (WFX (GX σ8 87) (SZq (GX σ8 87) sz zm) 130 (σ8.I 88 4)) ∧ (∀ m, 0 ≤ zm m) ∧ (0 ≤ σ8.I 0 59 ∧ σ8.I 0 59 + sz (σ8.I 88 4) ≤ 200) ∧ (0 ≤ (0 : Int) ∧ (0 : Int) + 130 ≤ 1000) ∧ (130 ≤ 300) ∧ (∀ σ24 : Sto, SF σ8 σ24 → ((EXX σ8 87 (vXX σ8 87) 0 (σ8.I 88 4) (σ8.I 189 x1) (0 : Int) (lnX σ8) (lnX σ24)) ∧ (SNX σ24 87 (vXX σ8 87)) ∧ (KEx 87 σ8 σ24) ∧ (σ8.I 0 59 ≤ σ24.I 0 59 ∧ σ24.I 0 59 ≤ σ8.I 0 59 + sz (σ8.I 88 4))) → (inR (σ24.I 0 59) → Q (.inl (some (aI (σ24.I 0 59)))) σ24)))))) ∧ (¬ (0 ≤ x1 ∧ x1 < σ.I 0 70) → Q (.inl (some (aI (-1)))) σ)))) : VV E mX0_explain (d + 1) 0 [(0, aO 0), (1, aI (x1))] [] σ Q := by
  refine v_aload_n 0 DX0_explain_0W rfl rfl <| ?_
  refine w_getI (ci := 0) (kf := 71) (kz := 71) DX0_explain_1W (s_0 hL) rfl (by decide) rfl (Or.inl q1117) (fun _ _ => rfl) (fun f1 => ?_)
  have h := h f1
  refine v_if_eq (tg := 15) DX0_explain_4W (by decide) (inR_z f1) (fun c2 => ?_) (fun c2 => ?_)
  · have h := h.1 c2
    refine v_iconst DX0_explain_15W <| ?_
    exact v_iret DX0_explain_16W rfl rfl h
  · have h := h.2 c2
    refine v_aload_n 0 DX0_explain_7W rfl rfl <| v_iload_n 1 DX0_explain_8W rfl rfl <| ?_
    obtain ⟨k3, h⟩ := h
    obtain ⟨k4, k5, h⟩ := h
    refine v_invV (ci := 0) (as := [aI (x1)]) (st := []) DX0_explain_9W rfl okX0_isHit (Or.inl q1920) q1922 (s_0 hL) rfl qs83 npX0_isHit (sp_X0_isHit (σ := σ) (x1 := x1) k3 hL k4 k5) (Nat.le_of_ble_eq_true rfl) (Nat.le_refl _) (Nat.le_of_ble_eq_true rfl) (RZ_ret (fun c6 => ?_) (fun c6 => ?_)) RZ_thr
    · have h := h.1 c6
      refine v_if_ne (tg := 17) DX0_explain_12W (by decide) ⟨by decide, by decide⟩ (fun c7 => ?_) (fun c7 => absurd c7 (by decide))
      refine v_aload_n 0 DX0_explain_17W rfl rfl <| v_iconst DX0_explain_18W <| ?_
      refine w_putI (ci := 0) (kf := 59) (kz := 59) DX0_explain_19W (s_0 hL) rfl (by decide) rfl (Or.inl ⟨rfl, q1105⟩) (fun _ _ => rfl) ⟨by decide, by decide⟩ rfl rfl (fun σ8 eσ8 gσ8 => ?_)
      have h := h σ8 eσ8 gσ8
      refine v_aload_n 0 DX0_explain_22W rfl rfl <| w_getR (ci := 0) (kf := 60) (kz := 60) DX0_explain_23W (s_0 (hL.sf gσ8)) rfl (by decide) rfl (Or.inl q1106) (fun _ _ => rfl) (r_0_60 (hL.sf gσ8)) <| v_aload_n 0 DX0_explain_26W rfl rfl <| w_getR (ci := 0) (kf := 60) (kz := 60) DX0_explain_27W (s_0 (hL.sf gσ8)) rfl (by decide) rfl (Or.inl q1106) (fun _ _ => rfl) (r_0_60 (hL.sf gσ8)) <| w_getR (ci := 5) (kf := 0) (kz := 0) DX0_explain_30W (s_87 (hL.sf gσ8)) rfl (by decide) rfl (Or.inr ⟨_, q886⟩) (fun _ _ => rfl) (r_87_0 (hL.sf gσ8)) <| ?_
      refine w_getI (ci := 3) (kf := 4) (kz := 4) DX0_explain_33W (s_88 (hL.sf gσ8)) rfl (by decide) rfl (Or.inr ⟨_, q733⟩) (fun _ _ => rfl) (fun f9 => ?_)
      have h := h f9
      refine v_aload_n 0 DX0_explain_36W rfl rfl <| w_getR (ci := 0) (kf := 66) (kz := 66) DX0_explain_37W (s_0 (hL.sf gσ8)) rfl (by decide) rfl (Or.inl q1112) (fun _ _ => rfl) (r_0_66 (hL.sf gσ8)) <| v_iload_n 1 DX0_explain_40W rfl rfl <| ?_
      obtain ⟨k10, k11, h⟩ := h
      refine v_iald DX0_explain_41W (s_189 (hL.sf gσ8)) k10 k11 (fun f12 => ?_)
      have h := h f12
      refine v_iconst DX0_explain_42W <| ?_
      obtain ⟨k13, h⟩ := h
      obtain ⟨k14, k15, k16, k17, k18, k19, k20, k21, k22, k23, h⟩ := h
      refine v_invV (ci := 5) (as := [aI (σ8.I 88 4), aI (σ8.I 189 x1), aI (0)]) (st := []) DX0_explain_43W rfl okX5_explain (Or.inl q1932) q1933 (s_87 (hL.sf gσ8)) rfl q1934 npX5_explain (sx_X5_explain (σ := σ8) (o0 := 87) (x1 := σ8.I 88 4) (x2 := σ8.I 189 x1) (x3 := (0 : Int)) (V := (vXX σ8 87)) (sz := sz) (zm := zm) (f := 130) k13 (hL.sf gσ8) (lat_87 (hL.sf gσ8)) k14 k15 k16 k17 k18 k19 k20 k21 k22 k23) (Nat.le_of_ble_eq_true rfl) (Nat.le_refl _) (Nat.le_of_ble_eq_true rfl) (RV_ret (fun σ24 gσ24 eσ24 => ?_)) RV_thr
      have h := h σ24 gσ24 eσ24
      refine v_aload_n 0 DX0_explain_46W rfl rfl <| ?_
      refine w_getI (ci := 0) (kf := 59) (kz := 59) DX0_explain_47W (s_0 ((hL.sf gσ8).sf gσ24)) rfl (by decide) rfl (Or.inl q1105) (fun _ _ => rfl) (fun f25 => ?_)
      have h := h f25
      exact v_iret DX0_explain_50W rfl rfl h
    · have h := h.2 c6
      refine v_if_ne (tg := 17) DX0_explain_12W (by decide) ⟨by decide, by decide⟩ (fun c26 => absurd c26 (by decide)) (fun c26 => ?_)
      refine v_iconst DX0_explain_15W <| ?_
      exact v_iret DX0_explain_16W rfl rfl h
theorem sp_X0_explainW {E : XE} {d : Nat} {σ : Sto} {sz : Int → Int} {zm : Int → Int} {x1 : Int} (hd : 530 ≤ d) (hL : Lay σ)  (p0 : inR x1) (p1 : 0 ≤ σ.I 0 70 ∧ σ.I 0 70 ≤ 600) (p2 : (σ.I 0 71 ≠ 0 ∧ (0 ≤ x1 ∧ x1 < σ.I 0 70)) → XQE σ sz zm (σ.I 189 x1)) (p3 : ∀ m, 0 ≤ zm m) : CC E mX0_explain d [aO 0, aI (x1)] σ (RVI (fun y τ => ((¬ (σ.I 0 71 ≠ 0 ∧ (0 ≤ x1 ∧ x1 < σ.I 0 70)) ∧ y = -1 ∧ τ = σ) ∨ ((σ.I 0 71 ≠ 0 ∧ (0 ≤ x1 ∧ x1 < σ.I 0 70)) ∧ y = τ.I 0 59 ∧ EXX σ 87 (vXX σ 87) 0 (σ.I (87 + 1) 4) (σ.I 189 x1) 0 (0, σ.I 83, σ.I 84, σ.I 85, σ.I 86) (lnX τ) ∧ SCR τ 87 ∧ KEx 87 σ τ ∧ (0 ≤ τ.I 0 59 ∧ τ.I 0 59 ≤ 200))))) := by
  obtain ⟨d, rfl⟩ : ∃ e, d = e + 1 := ⟨d - 1, by omega⟩
  have p0a := p0.1; have p0b := p0.2
  refine ucX0_explain_0W (sz := sz) (zm := zm) hL  ?_
  rintro ⟨f1, f1q⟩
  refine ⟨fun c2 => ?_, fun c3 => ?_⟩
  · refine RVI_mk ?_ ?_
    · (first | exact ⟨by omega, by omega⟩ | assumption)
    · (first | exact Or.inl ⟨fun z => by have z1 := z.1; have z2 := z.2; omega, rfl, rfl⟩ | exact Or.inr ⟨hok, rfl, hX14, hS14, K14, by omega⟩)
  · refine ⟨?_, ?_⟩
    · omega
    refine ⟨?_, ?_⟩
    · (first | omega | exact ⟨by omega, by omega⟩ | assumption)
    refine ⟨?_, ?_⟩
    · (first | omega | exact ⟨by omega, by omega⟩ | assumption)
    refine ⟨fun c4 => ?_, fun c5 => ?_⟩
    · intro σ8 eσ8 gσ8
      have hok : (σ.I 0 71 ≠ 0 ∧ (0 ≤ x1 ∧ x1 < σ.I 0 70)) := ⟨by assumption, by omega⟩
      obtain ⟨hS, hk, hz, hzz⟩ := p2 hok
      have f8 : ∀ c i, ¬ (c = 0 ∧ i = 59) → σ8.I c i = σ.I c i := fun c i q => (by rw [eσ8]; exact I_ot _ _ _ _ _ _ q)
      have a8 : SAG σ σ8 87 := fun c i q => f8 c i (by omega)
      have n8 : σ8.I 0 59 = 0 := (by rw [eσ8]; exact I_same _ _ _ _)
      have ev : vXX σ8 87 = vXX σ 87 := vXX_a a8
      have er : σ8.I 88 4 = σ.I (87 + 1) 4 := f8 _ _ (by omega)
      have e189 : σ8.I 189 x1 = σ.I 189 x1 := f8 _ _ (by omega)
      have hS8 : SCR σ8 87 := SCR_a a8 (SNX_a a8 (fun i => f8 _ _ (by omega)) hS.2.1) hS
      have ln8 : lnX σ8 = (0, σ.I 83, σ.I 84, σ.I 85, σ.I 86) := (by unfold lnX; rw [n8, show σ8.I 83 = σ.I 83 from funext fun i => f8 _ _ (by omega), show σ8.I 84 = σ.I 84 from funext fun i => f8 _ _ (by omega), show σ8.I 85 = σ.I 85 from funext fun i => f8 _ _ (by omega), show σ8.I 86 = σ.I 86 from funext fun i => f8 _ _ (by omega)])
      have K8 : KEx 87 σ σ8 := (by rw [eσ8]; exact Ch.wI Ch.rf (by unfold wsEx; omega))
      rintro ⟨f6, f6q⟩
      refine ⟨?_, ?_⟩
      · (first | omega | exact ⟨by omega, by omega⟩ | assumption)
      refine ⟨?_, ?_⟩
      · (first | omega | exact ⟨by omega, by omega⟩ | assumption)
      rintro ⟨f7, f7q⟩
      refine ⟨?_, ?_⟩
      · (first | omega | exact ⟨by omega, by omega⟩ | assumption)
      refine ⟨?_, ?_⟩
      · (first | omega | exact ⟨by omega, by omega⟩ | assumption)
      refine ⟨?_, ?_⟩
      · (exact hS8.1)
      refine ⟨?_, ?_⟩
      · (exact hS8.2.1)
      refine ⟨?_, ?_⟩
      · (exact hS8.2.2)
      refine ⟨?_, ?_⟩
      · ((rw [e189, snW_a a8]; exact hk))
      refine ⟨?_, ?_⟩
      · ((rw [GX_a a8, er]; exact hz))
      refine ⟨?_, ?_⟩
      · (exact p3)
      refine ⟨?_, ?_⟩
      · ((rw [n8, er]; omega))
      refine ⟨?_, ?_⟩
      · (first | omega | exact ⟨by omega, by omega⟩ | assumption)
      refine ⟨?_, ?_⟩
      · (first | omega | exact ⟨by omega, by omega⟩ | assumption)
      rintro σ24 gσ24 ⟨eσ24_0, eσ24_1, eσ24_2, eσ24_3⟩
      have K14 : KEx 87 σ σ24 := Ch.tr K8 eσ24_2
      have a14 : SAG σ8 σ24 87 := KEx_a eσ24_2 (by decide)
      have hS14 : SCR σ24 87 := SCR_a a14 eσ24_1 hS8
      have hX14 := eσ24_0
      rw [EXX_a a8, ev, er, e189, ln8] at hX14
      have h14 := eσ24_3
      rw [n8, er] at h14
      rintro ⟨f8, f8q⟩
      refine RVI_mk ?_ ?_
      · (first | exact ⟨by omega, by omega⟩ | assumption)
      · (first | exact Or.inl ⟨fun z => by have z1 := z.1; have z2 := z.2; omega, rfl, rfl⟩ | exact Or.inr ⟨hok, rfl, hX14, hS14, K14, by omega⟩)
    · refine RVI_mk ?_ ?_
      · (first | exact ⟨by omega, by omega⟩ | assumption)
      · (first | exact Or.inl ⟨fun z => by have z1 := z.1; have z2 := z.2; omega, rfl, rfl⟩ | exact Or.inr ⟨hok, rfl, hX14, hS14, K14, by omega⟩)
theorem DX9_explainNode_0W : DD cX9_explainNode 0 1 1 (.aload_n 0) := ⟨by decide +kernel, rfl⟩
theorem DX9_explainNode_1W : DD cX9_explainNode 1 3 4 (.getfield 284) := ⟨by decide +kernel, rfl⟩
theorem DX9_explainNode_4W : DD cX9_explainNode 4 3 7 (.sipush 601) := ⟨by decide +kernel, rfl⟩
theorem DX9_explainNode_7W : DD cX9_explainNode 7 1 8 (.iload_n 1) := ⟨by decide +kernel, rfl⟩
theorem DX9_explainNode_8W : DD cX9_explainNode 8 1 9 (.imul) := ⟨by decide +kernel, rfl⟩
theorem DX9_explainNode_9W : DD cX9_explainNode 9 1 10 (.iload_n 2) := ⟨by decide +kernel, rfl⟩
theorem DX9_explainNode_10W : DD cX9_explainNode 10 1 11 (.iadd) := ⟨by decide +kernel, rfl⟩
theorem DX9_explainNode_11W : DD cX9_explainNode 11 1 12 (.baload) := ⟨by decide +kernel, rfl⟩
theorem DX9_explainNode_12W : DD cX9_explainNode 12 3 15 (.ifCond .ne 4) := ⟨by decide +kernel, rfl⟩
theorem DX9_explainNode_15W : DD cX9_explainNode 15 1 16 (.return_) := ⟨by decide +kernel, rfl⟩
theorem DX9_explainNode_16W : DD cX9_explainNode 16 1 17 (.aload_n 0) := ⟨by decide +kernel, rfl⟩
theorem DX9_explainNode_17W : DD cX9_explainNode 17 1 18 (.iload_n 3) := ⟨by decide +kernel, rfl⟩
theorem DX9_explainNode_18W : DD cX9_explainNode 18 1 19 (.iload_n 1) := ⟨by decide +kernel, rfl⟩
theorem DX9_explainNode_19W : DD cX9_explainNode 19 1 20 (.iload_n 2) := ⟨by decide +kernel, rfl⟩
theorem DX9_explainNode_20W : DD cX9_explainNode 20 3 23 (.invokevirtual 1003) := ⟨by decide +kernel, rfl⟩
theorem DX9_explainNode_23W : DD cX9_explainNode 23 1 24 (.aload_n 0) := ⟨by decide +kernel, rfl⟩
theorem DX9_explainNode_24W : DD cX9_explainNode 24 3 27 (.getfield 186) := ⟨by decide +kernel, rfl⟩
theorem DX9_explainNode_27W : DD cX9_explainNode 27 1 28 (.iload_n 1) := ⟨by decide +kernel, rfl⟩
theorem DX9_explainNode_28W : DD cX9_explainNode 28 1 29 (.iaload) := ⟨by decide +kernel, rfl⟩
theorem DX9_explainNode_29W : DD cX9_explainNode 29 1 30 (.iconst 4) := ⟨by decide +kernel, rfl⟩
theorem DX9_explainNode_30W : DD cX9_explainNode 30 3 33 (.if_icmp .ne 4) := ⟨by decide +kernel, rfl⟩
theorem DX9_explainNode_33W : DD cX9_explainNode 33 1 34 (.return_) := ⟨by decide +kernel, rfl⟩
theorem DX9_explainNode_34W : DD cX9_explainNode 34 1 35 (.aload_n 0) := ⟨by decide +kernel, rfl⟩
theorem DX9_explainNode_35W : DD cX9_explainNode 35 3 38 (.getfield 186) := ⟨by decide +kernel, rfl⟩
theorem DX9_explainNode_38W : DD cX9_explainNode 38 1 39 (.iload_n 1) := ⟨by decide +kernel, rfl⟩
theorem DX9_explainNode_39W : DD cX9_explainNode 39 1 40 (.iaload) := ⟨by decide +kernel, rfl⟩
theorem DX9_explainNode_40W : DD cX9_explainNode 40 1 41 (.iconst 5) := ⟨by decide +kernel, rfl⟩
theorem DX9_explainNode_41W : DD cX9_explainNode 41 3 44 (.if_icmp .ne 12) := ⟨by decide +kernel, rfl⟩
theorem DX9_explainNode_44W : DD cX9_explainNode 44 1 45 (.aload_n 0) := ⟨by decide +kernel, rfl⟩
theorem DX9_explainNode_45W : DD cX9_explainNode 45 3 48 (.getfield 129) := ⟨by decide +kernel, rfl⟩
theorem DX9_explainNode_48W : DD cX9_explainNode 48 1 49 (.iload_n 2) := ⟨by decide +kernel, rfl⟩
theorem DX9_explainNode_49W : DD cX9_explainNode 49 1 50 (.iaload) := ⟨by decide +kernel, rfl⟩
theorem DX9_explainNode_50W : DD cX9_explainNode 50 3 53 (.goto 4) := ⟨by decide +kernel, rfl⟩
theorem DX9_explainNode_53W : DD cX9_explainNode 53 1 54 (.iload_n 2) := ⟨by decide +kernel, rfl⟩
theorem DX9_explainNode_54W : DD cX9_explainNode 54 2 56 (.istore 4) := ⟨by decide +kernel, rfl⟩
theorem DX9_explainNode_56W : DD cX9_explainNode 56 1 57 (.aload_n 0) := ⟨by decide +kernel, rfl⟩
theorem DX9_explainNode_57W : DD cX9_explainNode 57 3 60 (.getfield 189) := ⟨by decide +kernel, rfl⟩
theorem DX9_explainNode_60W : DD cX9_explainNode 60 1 61 (.iload_n 1) := ⟨by decide +kernel, rfl⟩
theorem DX9_explainNode_61W : DD cX9_explainNode 61 1 62 (.iaload) := ⟨by decide +kernel, rfl⟩
theorem DX9_explainNode_62W : DD cX9_explainNode 62 2 64 (.istore 5) := ⟨by decide +kernel, rfl⟩
theorem DX9_explainNode_64W : DD cX9_explainNode 64 2 66 (.iload 5) := ⟨by decide +kernel, rfl⟩
theorem DX9_explainNode_66W : DD cX9_explainNode 66 3 69 (.ifCond .lt 37) := ⟨by decide +kernel, rfl⟩
theorem DX9_explainNode_69W : DD cX9_explainNode 69 1 70 (.aload_n 0) := ⟨by decide +kernel, rfl⟩
theorem DX9_explainNode_70W : DD cX9_explainNode 70 3 73 (.getfield 195) := ⟨by decide +kernel, rfl⟩
theorem DX9_explainNode_73W : DD cX9_explainNode 73 2 75 (.iload 5) := ⟨by decide +kernel, rfl⟩
theorem DX9_explainNode_75W : DD cX9_explainNode 75 1 76 (.iaload) := ⟨by decide +kernel, rfl⟩
theorem DX9_explainNode_76W : DD cX9_explainNode 76 1 77 (.iconst 1) := ⟨by decide +kernel, rfl⟩
theorem DX9_explainNode_77W : DD cX9_explainNode 77 3 80 (.if_icmp .eq 14) := ⟨by decide +kernel, rfl⟩
theorem DX9_explainNode_80W : DD cX9_explainNode 80 1 81 (.aload_n 0) := ⟨by decide +kernel, rfl⟩
theorem DX9_explainNode_81W : DD cX9_explainNode 81 2 83 (.iload 5) := ⟨by decide +kernel, rfl⟩
theorem DX9_explainNode_83W : DD cX9_explainNode 83 2 85 (.iload 4) := ⟨by decide +kernel, rfl⟩
theorem DX9_explainNode_85W : DD cX9_explainNode 85 1 86 (.iload_n 3) := ⟨by decide +kernel, rfl⟩
theorem DX9_explainNode_86W : DD cX9_explainNode 86 1 87 (.iconst 1) := ⟨by decide +kernel, rfl⟩
theorem DX9_explainNode_87W : DD cX9_explainNode 87 1 88 (.iadd) := ⟨by decide +kernel, rfl⟩
theorem DX9_explainNode_88W : DD cX9_explainNode 88 3 91 (.invokevirtual 1006) := ⟨by decide +kernel, rfl⟩
theorem DX9_explainNode_91W : DD cX9_explainNode 91 1 92 (.aload_n 0) := ⟨by decide +kernel, rfl⟩
theorem DX9_explainNode_92W : DD cX9_explainNode 92 3 95 (.getfield 192) := ⟨by decide +kernel, rfl⟩
theorem DX9_explainNode_95W : DD cX9_explainNode 95 2 97 (.iload 5) := ⟨by decide +kernel, rfl⟩
theorem DX9_explainNode_97W : DD cX9_explainNode 97 1 98 (.iaload) := ⟨by decide +kernel, rfl⟩
theorem DX9_explainNode_98W : DD cX9_explainNode 98 2 100 (.istore 5) := ⟨by decide +kernel, rfl⟩
theorem DX9_explainNode_100W : DD cX9_explainNode 100 3 103 (.goto (-36)) := ⟨by decide +kernel, rfl⟩
theorem DX9_explainNode_103W : DD cX9_explainNode 103 1 104 (.return_) := ⟨by decide +kernel, rfl⟩
theorem ucX9_explainNode_0W {E : XE} {d : Nat} {σ : Sto} {Q : Res → Sto → Prop} {sz : Int → Int} {zm : Int → Int} {f : Nat} {x1 : Int} {x2 : Int} {x3 : Int} (hL : Lay σ)  (q6 : RC_X9_explainNode E sz zm (Nat.pred f)) (h : 0 ≤ ((601 * x1) + x2) ∧ ((601 * x1) + x2) < 78130 ∧ (0 ≤ σ.I 641 ((601 * x1) + x2) ∧ σ.I 641 ((601 * x1) + x2) ≤ 1 → ((σ.I 641 ((601 * x1) + x2)) ≠ 0 → 2 ≤ d ∧ (0 ≤ σ.I 555 133 ∧ σ.I 555 133 < 130) ∧ (inR x3) ∧ (0 ≤ x1 ∧ x1 < 130) ∧ (0 ≤ x2 ∧ x2 < 601) ∧ (1 ≤ σ.I 613 x1 ∧ σ.I 613 x1 ≤ 1000000000000000) ∧ (0 ≤ σ.I 642 (601 * x1 + x2) ∧ σ.I 642 (601 * x1 + x2) ≤ 9000000000000000000) ∧ (∀ σ12 : Sto, SF σ σ12 → (RD σ σ12 (fun c i => if at2 c i 653 (4 * σ.I 555 133) then x3 else if at2 c i 653 (4 * σ.I 555 133 + 1) then σ.I 609 x1 else if at2 c i 653 (4 * σ.I 555 133 + 2) then prd (σ.I 613 x1) (σ.I 642 (601 * x1 + x2)) else if at2 c i 653 (4 * σ.I 555 133 + 3) then σ.I 643 (601 * x1 + x2) else if at2 c i 555 133 then σ.I 555 133 + 1 else σ.I c i)) → 0 ≤ x1 ∧ x1 < 130 ∧ (inR (σ12.I 609 x1) → ((σ12.I 609 x1) ≠ 4 → 0 ≤ x1 ∧ x1 < 130 ∧ ((σ12.I 609 x1) ≠ 5 → 0 ≤ x1 ∧ x1 < 130 ∧ (inR (σ12.I 610 x1) → VV E mX9_explainNode (d + 1) 64 [(0, aO 555), (3, aI (x3)), (4, aI (x2)), (5, aI (σ12.I 610 x1))] [] σ12 Q)) ∧ ((σ12.I 609 x1) = 5 → 0 ≤ x2 ∧ x2 < 601 ∧ (inR (σ12.I 591 x2) → 0 ≤ x1 ∧ x1 < 130 ∧ (inR (σ12.I 610 x1) → VV E mX9_explainNode (d + 1) 64 [(0, aO 555), (3, aI (x3)), (4, aI (σ12.I 591 x2)), (5, aI (σ12.I 610 x1))] [] σ12 Q)))) ∧ ((σ12.I 609 x1) = 4 → Q (.inl none) σ12)))) ∧ ((σ.I 641 ((601 * x1) + x2)) = 0 → Q (.inl none) σ))) : VV E mX9_explainNode (d + 1) 0 [(0, aO 555), (1, aI (x1)), (2, aI (x2)), (3, aI (x3))] [] σ Q := by
  refine v_aload_n 0 DX9_explainNode_0W rfl rfl <| w_getR (ci := 9) (kf := 121) (kz := 121) DX9_explainNode_1W (s_555 hL) rfl (by decide) rfl (Or.inl q2345) (fun _ _ => rfl) (r_555_121 hL) <| v_sipush DX9_explainNode_4W ⟨by decide, by decide⟩ <| v_iload_n 1 DX9_explainNode_7W rfl rfl <| v_imul DX9_explainNode_8W <| v_iload_n 2 DX9_explainNode_9W rfl rfl <| v_iadd DX9_explainNode_10W <| ?_
  obtain ⟨k1, k2, h⟩ := h
  refine v_zald DX9_explainNode_11W (s_641 hL) k1 k2 (fun f3 => ?_)
  have h := h f3
  refine v_if_ne (tg := 16) DX9_explainNode_12W (by decide) (inR_z f3) (fun c4 => ?_) (fun c4 => ?_)
  · have h := h.1 c4
    refine v_aload_n 0 DX9_explainNode_16W rfl rfl <| v_iload_n 3 DX9_explainNode_17W rfl rfl <| v_iload_n 1 DX9_explainNode_18W rfl rfl <| v_iload_n 2 DX9_explainNode_19W rfl rfl <| ?_
    obtain ⟨k5, h⟩ := h
    obtain ⟨k6, k7, k8, k9, k10, k11, h⟩ := h
    refine v_invV (ci := 9) (as := [aI (x3), aI (x1), aI (x2)]) (st := []) DX9_explainNode_20W rfl okX9_layLine (Or.inl q3425) q3427 (s_555 hL) rfl qs217 npX9_layLine (sp_X9_layLine (σ := σ) (x1 := x3) (x2 := x1) (x3 := x2) k5 hL k6 k7 k8 k9 k10 k11) (Nat.le_of_ble_eq_true rfl) (Nat.le_refl _) (Nat.le_of_ble_eq_true rfl) (RV_ret (fun σ12 gσ12 eσ12 => ?_)) RV_thr
    have h := h σ12 gσ12 eσ12
    refine v_aload_n 0 DX9_explainNode_23W rfl rfl <| w_getR (ci := 9) (kf := 81) (kz := 81) DX9_explainNode_24W (s_555 (hL.sf gσ12)) rfl (by decide) rfl (Or.inl q2305) (fun _ _ => rfl) (r_555_81 (hL.sf gσ12)) <| v_iload_n 1 DX9_explainNode_27W rfl rfl <| ?_
    obtain ⟨k13, k14, h⟩ := h
    refine v_iald DX9_explainNode_28W (s_609 (hL.sf gσ12)) k13 k14 (fun f15 => ?_)
    have h := h f15
    refine v_iconst DX9_explainNode_29W <| ?_
    refine v_icmp_ne (tg := 34) DX9_explainNode_30W (by decide) f15 ⟨by decide, by decide⟩ (fun c16 => ?_) (fun c16 => ?_)
    · have h := h.1 c16
      refine v_aload_n 0 DX9_explainNode_34W rfl rfl <| w_getR (ci := 9) (kf := 81) (kz := 81) DX9_explainNode_35W (s_555 (hL.sf gσ12)) rfl (by decide) rfl (Or.inl q2305) (fun _ _ => rfl) (r_555_81 (hL.sf gσ12)) <| v_iload_n 1 DX9_explainNode_38W rfl rfl <| ?_
      obtain ⟨k17, k18, h⟩ := h
      refine v_iald DX9_explainNode_39W (s_609 (hL.sf gσ12)) k17 k18 (fun _ => ?_)
      refine v_iconst DX9_explainNode_40W <| ?_
      refine v_icmp_ne (tg := 53) DX9_explainNode_41W (by decide) f15 ⟨by decide, by decide⟩ (fun c20 => ?_) (fun c20 => ?_)
      · have h := h.1 c20
        refine v_iload_n 2 DX9_explainNode_53W rfl rfl <| v_istore DX9_explainNode_54W (by decide) rfl <| v_aload_n 1 DX9_explainNode_56W rfl rfl <| w_getR (ci := 9) (kf := 82) (kz := 82) DX9_explainNode_57W (s_555 (hL.sf gσ12)) rfl (by decide) rfl (Or.inl q2306) (fun _ _ => rfl) (r_555_82 (hL.sf gσ12)) <| v_iload_n 2 DX9_explainNode_60W rfl rfl <| ?_
        obtain ⟨k21, k22, h⟩ := h
        refine v_iald DX9_explainNode_61W (s_610 (hL.sf gσ12)) k21 k22 (fun f23 => ?_)
        have h := h f23
        refine v_istore DX9_explainNode_62W (by decide) rfl <| ?_
        exact v_pick [2, 5, 1, 0] rfl h
      · have h := h.2 c20
        refine v_aload_n 0 DX9_explainNode_44W rfl rfl <| w_getR (ci := 9) (kf := 46) (kz := 46) DX9_explainNode_45W (s_555 (hL.sf gσ12)) rfl (by decide) rfl (Or.inl q2270) (fun _ _ => rfl) (r_555_46 (hL.sf gσ12)) <| v_iload_n 2 DX9_explainNode_48W rfl rfl <| ?_
        obtain ⟨k24, k25, h⟩ := h
        refine v_iald DX9_explainNode_49W (s_591 (hL.sf gσ12)) k24 k25 (fun f26 => ?_)
        have h := h f26
        refine v_goto (pc' := 54) DX9_explainNode_50W.1 (by decide) <| v_istore DX9_explainNode_54W (by decide) rfl <| v_aload_n 1 DX9_explainNode_56W rfl rfl <| w_getR (ci := 9) (kf := 82) (kz := 82) DX9_explainNode_57W (s_555 (hL.sf gσ12)) rfl (by decide) rfl (Or.inl q2306) (fun _ _ => rfl) (r_555_82 (hL.sf gσ12)) <| v_iload_n 2 DX9_explainNode_60W rfl rfl <| ?_
        obtain ⟨k27, k28, h⟩ := h
        refine v_iald DX9_explainNode_61W (s_610 (hL.sf gσ12)) k27 k28 (fun f29 => ?_)
        have h := h f29
        refine v_istore DX9_explainNode_62W (by decide) rfl <| ?_
        exact v_pick [2, 5, 1, 0] rfl h
    · have h := h.2 c16
      exact v_vret DX9_explainNode_33W rfl h
  · have h := h.2 c4
    exact v_vret DX9_explainNode_15W rfl h
theorem ucX9_explainNode_64W {E : XE} {d : Nat} {σ : Sto} {Q : Res → Sto → Prop} {sz : Int → Int} {zm : Int → Int} {f : Nat} {x3 : Int} {x4 : Int} {x5 : Int} (hL : Lay σ)  (q6 : RC_X9_explainNode E sz zm (Nat.pred f)) (h : inR x5 ∧ (x5 < 0 → Q (.inl none) σ) ∧ (0 ≤ x5 → 0 ≤ x5 ∧ x5 < 130 ∧ (inR (σ.I 612 x5) → ((σ.I 612 x5) = 1 → 0 ≤ x5 ∧ x5 < 130 ∧ (inR (σ.I 611 x5) → VV E mX9_explainNode (d + 1) 64 [(0, aO 555), (3, aI (x3)), (4, aI (x4)), (5, aI (σ.I 611 x5))] [] σ Q)) ∧ ((σ.I 612 x5) ≠ 1 → (Nat.pred f) + 4 ≤ d ∧ (0 ≤ x5 ∧ WFX (GM σ) (RQM σ sz zm) (Nat.pred f) x5) ∧ (0 ≤ x4 ∧ x4 < 601) ∧ (HMP σ) ∧ (∀ m, 0 ≤ zm m) ∧ (0 ≤ σ.I 555 133 ∧ σ.I 555 133 + sz x5 ≤ 130) ∧ (0 ≤ (x3 + 1) ∧ (x3 + 1) + (Nat.pred f) ≤ 1000) ∧ (∀ σ17 : Sto, SF σ σ17 → ((EXK σ 0 x5 x4 (x3 + 1) (lnM σ) (lnM σ17)) ∧ (KEk σ σ17) ∧ (σ.I 555 133 ≤ σ17.I 555 133 ∧ σ17.I 555 133 ≤ σ.I 555 133 + sz x5)) → 0 ≤ x5 ∧ x5 < 130 ∧ (inR (σ17.I 611 x5) → VV E mX9_explainNode (d + 1) 64 [(0, aO 555), (3, aI (x3)), (4, aI (x4)), (5, aI (σ17.I 611 x5))] [] σ17 Q)))))) : VV E mX9_explainNode (d + 1) 64 [(0, aO 555), (3, aI (x3)), (4, aI (x4)), (5, aI (x5))] [] σ Q := by
  refine v_iload 3 DX9_explainNode_64W rfl <| ?_
  obtain ⟨k1, h⟩ := h
  refine v_if_lt (tg := 103) DX9_explainNode_66W (by decide) k1 (fun c2 => ?_) (fun c2 => ?_)
  · have h := h.1 c2
    exact v_vret DX9_explainNode_103W rfl h
  · have h := h.2 c2
    refine v_aload_n 0 DX9_explainNode_69W rfl rfl <| w_getR (ci := 9) (kf := 84) (kz := 84) DX9_explainNode_70W (s_555 hL) rfl (by decide) rfl (Or.inl q2308) (fun _ _ => rfl) (r_555_84 hL) <| v_iload 3 DX9_explainNode_73W rfl <| ?_
    obtain ⟨k3, k4, h⟩ := h
    refine v_iald DX9_explainNode_75W (s_612 hL) k3 k4 (fun f5 => ?_)
    have h := h f5
    refine v_iconst DX9_explainNode_76W <| ?_
    refine v_icmp_eq (tg := 91) DX9_explainNode_77W (by decide) f5 ⟨by decide, by decide⟩ (fun c6 => ?_) (fun c6 => ?_)
    · have h := h.1 c6
      refine v_aload_n 0 DX9_explainNode_91W rfl rfl <| w_getR (ci := 9) (kf := 83) (kz := 83) DX9_explainNode_92W (s_555 hL) rfl (by decide) rfl (Or.inl q2307) (fun _ _ => rfl) (r_555_83 hL) <| v_iload 3 DX9_explainNode_95W rfl <| ?_
      obtain ⟨k7, k8, h⟩ := h
      refine v_iald DX9_explainNode_97W (s_611 hL) k7 k8 (fun f9 => ?_)
      have h := h f9
      refine v_istore DX9_explainNode_98W (by decide) rfl <| v_goto (pc' := 64) DX9_explainNode_100W.1 (by decide) <| ?_
      exact v_pick [1, 2, 3, 0] rfl h
    · have h := h.2 c6
      refine v_aload_n 0 DX9_explainNode_80W rfl rfl <| v_iload 3 DX9_explainNode_81W rfl <| v_iload 2 DX9_explainNode_83W rfl <| v_iload_n 1 DX9_explainNode_85W rfl rfl <| v_iconst DX9_explainNode_86W <| v_iadd DX9_explainNode_87W <| ?_
      obtain ⟨k10, h⟩ := h
      obtain ⟨k11, k12, k13, k14, k15, k16, h⟩ := h
      refine v_invV (ci := 9) (as := [aI (x5), aI (x4), aI (x3 + 1)]) (st := []) DX9_explainNode_88W rfl okX9_explainNode (Or.inl q3421) q3423 (s_555 hL) rfl qs216 npX9_explainNode (q6 (σ := σ) (x1 := x5) (x2 := x4) (x3 := x3 + 1) k10 hL k11 k12 k13 k14 k15 k16) (Nat.le_of_ble_eq_true rfl) (Nat.le_refl _) (Nat.le_of_ble_eq_true rfl) (RV_ret (fun σ17 gσ17 eσ17 => ?_)) RV_thr
      have h := h σ17 gσ17 eσ17
      refine v_aload_n 0 DX9_explainNode_91W rfl rfl <| w_getR (ci := 9) (kf := 83) (kz := 83) DX9_explainNode_92W (s_555 (hL.sf gσ17)) rfl (by decide) rfl (Or.inl q2307) (fun _ _ => rfl) (r_555_83 (hL.sf gσ17)) <| v_iload 3 DX9_explainNode_95W rfl <| ?_
      obtain ⟨k18, k19, h⟩ := h
      refine v_iald DX9_explainNode_97W (s_611 (hL.sf gσ17)) k18 k19 (fun f20 => ?_)
      have h := h f20
      refine v_istore DX9_explainNode_98W (by decide) rfl <| v_goto (pc' := 64) DX9_explainNode_100W.1 (by decide) <| ?_
      exact v_pick [1, 2, 3, 0] rfl h
theorem sp_X9_explainNodeW {E : XE} {d : Nat} {σ : Sto} {sz : Int → Int} {zm : Int → Int} {f : Nat} {x1 : Int} {x2 : Int} {x3 : Int} (hd : f + 4 ≤ d) (hL : Lay σ)  (p0 : 0 ≤ x1 ∧ WFX (GM σ) (RQM σ sz zm) f x1) (p1 : 0 ≤ x2 ∧ x2 < 601) (p2 : HMP σ) (p3 : ∀ m, 0 ≤ zm m) (p4 : 0 ≤ σ.I 555 133 ∧ σ.I 555 133 + sz x1 ≤ 130) (p5 : 0 ≤ x3 ∧ x3 + f ≤ 1000) (p6 : RC_X9_explainNode E sz zm (Nat.pred f)) : CC E mX9_explainNode d [aO 555, aI (x1), aI (x2), aI (x3)] σ (RV (fun τ => (EXK σ 0 x1 x2 x3 (lnM σ) (lnM τ)) ∧ (KEk σ τ) ∧ (σ.I 555 133 ≤ τ.I 555 133 ∧ τ.I 555 133 ≤ σ.I 555 133 + sz x1))) := by
  obtain ⟨d, rfl⟩ : ∃ e, d = e + 1 := ⟨d - 1, by omega⟩
  obtain ⟨hf0, hx200, ⟨hx130, htm, hs1, hs4, hs2⟩, hw1, hw2⟩ := WFX_at p0.2 p0.1
  have hpd : Nat.pred f = f - 1 := rfl
  have hH := p2 x1 x2 hx130.1 hx130.2.1 p1.1 p1.2
  have g0 : GM σ 0 x1 = σ.I 609 x1 := rfl
  have g1 : GM σ 1 x1 = σ.I 610 x1 := rfl
  have hs4 := hdI hs4
  have hH := hdI hH
  have hzz := p3 (GM σ 1 x1)
  have key : ∀ wa wb wc : Nat, (∀ (x4 : Int) (x5 : Int) (τ : Sto), SF σ τ → ((KEk σ τ) ∧ (WFX (GM σ) (RQM σ sz zm) (Nat.pred f) x5) ∧ (0 ≤ x4 ∧ x4 < 601) ∧ (∀ l', EXK σ 1 x5 x4 (x3 + 1) (lnM τ) l' → EXK σ 0 x1 x2 x3 (lnM σ) l') ∧ (σ.I 555 133 ≤ τ.I 555 133 ∧ τ.I 555 133 + zm x5 ≤ σ.I 555 133 + sz x1)) → wa = clX (GM σ) (Nat.pred f) x5 → wb = 0 → wc = 0 → VV E mX9_explainNode (d + 1) 64 [(0, aO 555), (3, aI (x3)), (4, aI (x4)), (5, aI (x5))] [] τ (RV (fun τ => (EXK σ 0 x1 x2 x3 (lnM σ) (lnM τ)) ∧ (KEk σ τ) ∧ (σ.I 555 133 ≤ τ.I 555 133 ∧ τ.I 555 133 ≤ σ.I 555 133 + sz x1)))) := by
    refine lex3 (fun wa wb wc ih => ?_)
    have ih0 : ∀ (x4 : Int) (x5 : Int) (τ : Sto), SF σ τ → ((KEk σ τ) ∧ (WFX (GM σ) (RQM σ sz zm) (Nat.pred f) x5) ∧ (0 ≤ x4 ∧ x4 < 601) ∧ (∀ l', EXK σ 1 x5 x4 (x3 + 1) (lnM τ) l' → EXK σ 0 x1 x2 x3 (lnM σ) l') ∧ (σ.I 555 133 ≤ τ.I 555 133 ∧ τ.I 555 133 + zm x5 ≤ σ.I 555 133 + sz x1)) → lt3 (clX (GM σ) (Nat.pred f) x5) 0 0 wa wb wc → VV E mX9_explainNode (d + 1) 64 [(0, aO 555), (3, aI (x3)), (4, aI (x4)), (5, aI (x5))] [] τ (RV (fun τ => (EXK σ 0 x1 x2 x3 (lnM σ) (lnM τ)) ∧ (KEk σ τ) ∧ (σ.I 555 133 ≤ τ.I 555 133 ∧ τ.I 555 133 ≤ σ.I 555 133 + sz x1))) := fun z0 z1 z2 h0 h1 hlt => (ih _ _ _ hlt) z0 z1 z2 h0 h1 rfl rfl rfl
    clear ih
    skip
    · rintro x4 x5 τ gτ ⟨i0, i1, i2, i3, i4⟩ ha hb hc
      subst ha hb hc
      have kt : ∀ c i, ¬ wsEk c i → τ.I c i = σ.I c i := i0.2
      have hat := hdI (fun (h : 0 ≤ x5) => (WFX_at i1 h).2.2.1)
      have hnx := hdI (fun (h : 0 ≤ x5) => WFX_n i1 h)
      have hcs := hdI (fun (h : 0 ≤ x5) => clX_s i1 h)
      have hv5 := WFX_v i1
      have hq1 := fun (h : 0 ≤ x5) => ((hdO hat) h).1
      have hq2 := fun (h : 0 ≤ x5) => ((hdO hat) h).2.2.2.2
      have hq3 := fun (h : 0 ≤ x5) => ((hdO hat) h).2.2.1
      have gs : GM σ 3 x5 = τ.I 612 x5 := (kt _ _ (by unfold wsEk; omega)).symm
      have g2 : GM σ 2 x5 = τ.I 611 x5 := (kt _ _ (by unfold wsEk; omega)).symm
      have hzn := p3 x5
      have hzg := p3 (GM σ 2 x5)
      refine ucX9_explainNode_64W (sz := sz) (zm := zm) (f := f) (hL.sf gτ) p6 ?_
      clear p6
      refine ⟨?_, ?_⟩
      · (first | exact ⟨by omega, by omega⟩ | assumption)
      refine ⟨fun c1 => ?_, fun c2 => ?_⟩
      · refine RV_mk ?_
        · refine ⟨?_, ?_, ?_⟩
          · (clear ih0; exact i3 _ (EM_5 (by omega)))
          · (clear ih0; first | exact K11 | exact i0)
          · (first | omega | exact ⟨by omega, by omega⟩ | assumption)
      · refine ⟨?_, ?_⟩
        · (first | omega | exact ⟨by omega, by omega⟩ | assumption)
        refine ⟨?_, ?_⟩
        · (first | omega | exact ⟨by omega, by omega⟩ | assumption)
        rintro ⟨f3, f3q⟩
        refine ⟨fun c4 => ?_, fun c5 => ?_⟩
        · refine ⟨?_, ?_⟩
          · (first | omega | exact ⟨by omega, by omega⟩ | assumption)
          refine ⟨?_, ?_⟩
          · (first | omega | exact ⟨by omega, by omega⟩ | assumption)
          rintro ⟨f6, f6q⟩
          refine ih0 _ _ _ gτ ⟨?_, ?_, ?_, ?_, ?_⟩ ?_
          · (clear ih0; first | exact K11 | exact i0)
          · (clear ih0; first | (rw [m11]; exact (hdO hnx) (by omega)) | (rw [← g2]; exact (hdO hnx) (by omega)))
          · (first | omega | exact ⟨by omega, by omega⟩ | assumption)
          · (clear ih0; first | exact hx7 | (intro l' h; rw [← g2] at h; exact i3 l' (EM_6 (by omega) (by rw [gs]; assumption) h)))
          · (clear ih0; first | (rw [m11]; have z := hq2 (by omega); omega) | (rw [← g2]; have z := hq2 (by omega); have z1 := hq3 (by omega); omega))
          · (unfold lt3; first | (rw [m11]; have z := (hdO hcs) (by omega); exact Or.inl z) | (rw [← g2]; have z := (hdO hcs) (by omega); exact Or.inl z))
        · refine ⟨?_, ?_⟩
          · (first | omega | exact ⟨by omega, by omega⟩ | assumption)
          refine ⟨?_, ?_⟩
          · (clear ih0; exact ⟨by omega, by rw [GM_k i0, RQM_k i0]; exact i1⟩)
          refine ⟨?_, ?_⟩
          · (first | omega | exact ⟨by omega, by omega⟩ | assumption)
          refine ⟨?_, ?_⟩
          · (clear ih0; exact HMP_k i0 p2)
          refine ⟨?_, ?_⟩
          · (clear ih0; exact p3)
          refine ⟨?_, ?_⟩
          · (clear ih0; (have z := hq2 (by omega); omega))
          refine ⟨?_, ?_⟩
          · (first | omega | exact ⟨by omega, by omega⟩ | assumption)
          rintro σ17 gσ17 ⟨eσ17_0, eσ17_1, eσ17_2⟩
          have K11 : KEk σ σ17 := Ch.tr i0 eσ17_1
          have m11 : σ17.I 611 x5 = GM σ 2 x5 := K11.2 _ _ (by unfold wsEk; omega)
          have hx7 : ∀ l', EXK σ 1 (σ17.I 611 x5) x4 (x3 + 1) (lnM σ17) l' → EXK σ 0 x1 x2 x3 (lnM σ) l' := fun l' h => i3 l' (EM_7 (by omega) (by rw [gs]; assumption) (by have z := eσ17_0; rw [EXK_k i0] at z; exact z) (by rw [m11] at h; exact h))
          have h11 := eσ17_2
          refine ⟨?_, ?_⟩
          · (first | omega | exact ⟨by omega, by omega⟩ | assumption)
          refine ⟨?_, ?_⟩
          · (first | omega | exact ⟨by omega, by omega⟩ | assumption)
          rintro ⟨f7, f7q⟩
          refine ih0 _ _ _ (gτ.tr gσ17) ⟨?_, ?_, ?_, ?_, ?_⟩ ?_
          · (clear ih0; first | exact K11 | exact i0)
          · (clear ih0; first | (rw [m11]; exact (hdO hnx) (by omega)) | (rw [← g2]; exact (hdO hnx) (by omega)))
          · (first | omega | exact ⟨by omega, by omega⟩ | assumption)
          · (clear ih0; first | exact hx7 | (intro l' h; rw [← g2] at h; exact i3 l' (EM_6 (by omega) (by rw [gs]; assumption) h)))
          · (clear ih0; first | (rw [m11]; have z := hq2 (by omega); omega) | (rw [← g2]; have z := hq2 (by omega); have z1 := hq3 (by omega); omega))
          · (unfold lt3; first | (rw [m11]; have z := (hdO hcs) (by omega); exact Or.inl z) | (rw [← g2]; have z := (hdO hcs) (by omega); exact Or.inl z))
  have k0_ : ∀ (x4 : Int) (x5 : Int) (τ : Sto), SF σ τ → ((KEk σ τ) ∧ (WFX (GM σ) (RQM σ sz zm) (Nat.pred f) x5) ∧ (0 ≤ x4 ∧ x4 < 601) ∧ (∀ l', EXK σ 1 x5 x4 (x3 + 1) (lnM τ) l' → EXK σ 0 x1 x2 x3 (lnM σ) l') ∧ (σ.I 555 133 ≤ τ.I 555 133 ∧ τ.I 555 133 + zm x5 ≤ σ.I 555 133 + sz x1)) → VV E mX9_explainNode (d + 1) 64 [(0, aO 555), (3, aI (x3)), (4, aI (x4)), (5, aI (x5))] [] τ (RV (fun τ => (EXK σ 0 x1 x2 x3 (lnM σ) (lnM τ)) ∧ (KEk σ τ) ∧ (σ.I 555 133 ≤ τ.I 555 133 ∧ τ.I 555 133 ≤ σ.I 555 133 + sz x1))) := fun z0 z1 z2 h0 h1 => (key _ _ _) z0 z1 z2 h0 h1 rfl rfl rfl
  clear key
  refine ucX9_explainNode_0W (sz := sz) (zm := zm) (f := f) hL p6 ?_
  clear p6
  refine ⟨?_, ?_⟩
  · (first | omega | exact ⟨by omega, by omega⟩ | assumption)
  refine ⟨?_, ?_⟩
  · (first | omega | exact ⟨by omega, by omega⟩ | assumption)
  rintro ⟨f1, f1q⟩
  refine ⟨fun c2 => ?_, fun c3 => ?_⟩
  · refine ⟨?_, ?_⟩
    · omega
    refine ⟨?_, ?_⟩
    · (first | omega | exact ⟨by omega, by omega⟩ | assumption)
    refine ⟨?_, ?_⟩
    · (first | omega | exact ⟨by omega, by omega⟩ | assumption)
    refine ⟨?_, ?_⟩
    · (first | omega | exact ⟨by omega, by omega⟩ | assumption)
    refine ⟨?_, ?_⟩
    · (first | omega | exact ⟨by omega, by omega⟩ | assumption)
    refine ⟨?_, ?_⟩
    · (first | omega | exact ⟨by omega, by omega⟩ | assumption)
    refine ⟨?_, ?_⟩
    · (clear k0_; exact ⟨by have z := (hdO hH) (by assumption); omega, by have z := (hdO hH) (by assumption); omega⟩)
    rintro σ12 gσ12 ⟨⟨eσ12r, eσ12s, eσ12n⟩, eσ12⟩
    obtain ⟨l12, f12⟩ := ln_M rfl eσ12
    have K12 : KEk σ σ12 := ⟨⟨eσ12r, eσ12s, eσ12n⟩, f12⟩
    have hh := (hdO hH) (by assumption)
    have hsc : scE σ x1 x2 = prd (σ.I 613 x1) (σ.I 642 (601 * x1 + x2)) := if_neg (by assumption)
    have hsp := prd_in (t := σ.I 613 x1) (s := σ.I 642 (601 * x1 + x2)) (by omega) (by omega)
    have hs0 : 0 ≤ scE σ x1 x2 := (by rw [hsc]; exact hsp.1)
    have m12 : σ12.I 609 x1 = σ.I 609 x1 := f12 _ _ (by unfold wsEk; omega)
    have n12 : σ12.I 555 133 = σ.I 555 133 + 1 := congrArg (·.1) l12
    have k12 : σ12.I 610 x1 = GM σ 1 x1 := f12 _ _ (by unfold wsEk; omega)
    have j12 : σ12.I 591 x2 = σ.I 591 x2 := f12 _ _ (by unfold wsEk; omega)
    have hl : lnM σ12 = psh (lnM σ) x3 (GM σ 0 x1) (scE σ x1 x2) (fnE σ x1 x2) := (by rw [l12, hsc]; rfl)
    refine ⟨?_, ?_⟩
    · (first | omega | exact ⟨by omega, by omega⟩ | assumption)
    refine ⟨?_, ?_⟩
    · (first | omega | exact ⟨by omega, by omega⟩ | assumption)
    rintro ⟨f4, f4q⟩
    refine ⟨fun c5 => ?_, fun c6 => ?_⟩
    · refine ⟨?_, ?_⟩
      · (first | omega | exact ⟨by omega, by omega⟩ | assumption)
      refine ⟨?_, ?_⟩
      · (first | omega | exact ⟨by omega, by omega⟩ | assumption)
      refine ⟨fun c7 => ?_, fun c8 => ?_⟩
      · refine ⟨?_, ?_⟩
        · (first | omega | exact ⟨by omega, by omega⟩ | assumption)
        refine ⟨?_, ?_⟩
        · (first | omega | exact ⟨by omega, by omega⟩ | assumption)
        rintro ⟨f9, f9q⟩
        refine k0_ _ _ _ gσ12 ⟨?_, ?_, ?_, ?_, ?_⟩
        · (clear k0_; first | exact K12 | exact Ch.rf)
        · (clear k0_; (rw [k12]; exact hw1))
        · (clear k0_; first | omega | (rw [j12]; exact hh.1 (by omega)))
        · (clear k0_; (intro l' h; rw [hl, k12] at h; refine EM_3 hs0 (by rw [g0]; omega) ?_; first | (rw [if_neg (by rw [g0]; omega)]; exact h) | (rw [if_pos (by rw [g0]; omega)]; rw [j12] at h; exact h)))
        · (clear k0_; (rw [n12, k12]; have z := (hdO hs4) (by rw [g0]; omega); omega))
      · refine ⟨?_, ?_⟩
        · (first | omega | exact ⟨by omega, by omega⟩ | assumption)
        refine ⟨?_, ?_⟩
        · (first | omega | exact ⟨by omega, by omega⟩ | assumption)
        rintro ⟨f10, f10q⟩
        refine ⟨?_, ?_⟩
        · (first | omega | exact ⟨by omega, by omega⟩ | assumption)
        refine ⟨?_, ?_⟩
        · (first | omega | exact ⟨by omega, by omega⟩ | assumption)
        rintro ⟨f11, f11q⟩
        refine k0_ _ _ _ gσ12 ⟨?_, ?_, ?_, ?_, ?_⟩
        · (clear k0_; first | exact K12 | exact Ch.rf)
        · (clear k0_; (rw [k12]; exact hw1))
        · (clear k0_; first | omega | (rw [j12]; exact hh.1 (by omega)))
        · (clear k0_; (intro l' h; rw [hl, k12] at h; refine EM_3 hs0 (by rw [g0]; omega) ?_; first | (rw [if_neg (by rw [g0]; omega)]; exact h) | (rw [if_pos (by rw [g0]; omega)]; rw [j12] at h; exact h)))
        · (clear k0_; (rw [n12, k12]; have z := (hdO hs4) (by rw [g0]; omega); omega))
    · refine RV_mk ?_
      · refine ⟨?_, ?_, ?_⟩
        · (clear k0_; first | exact EM_1 (by show (if _ then _ else _) < _; rw [if_pos (by assumption)]; decide) | (rw [hl]; exact EM_2 hs0 (by rw [g0]; omega)))
        · (clear k0_; first | exact K12 | exact Ch.rf)
        · (clear k0_; first | omega | (rw [n12]; omega))
  · refine RV_mk ?_
    · refine ⟨?_, ?_, ?_⟩
      · (clear k0_; first | exact EM_1 (by show (if _ then _ else _) < _; rw [if_pos (by assumption)]; decide) | (rw [hl]; exact EM_2 hs0 (by rw [g0]; omega)))
      · (clear k0_; first | exact K12 | exact Ch.rf)
      · (clear k0_; first | omega | (rw [n12]; omega))
