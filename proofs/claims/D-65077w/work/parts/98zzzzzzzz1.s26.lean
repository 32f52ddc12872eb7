set_option maxRecDepth 100000
set_option maxHeartbeats 4000000
theorem DX0_hit_0W : DD cX0_hit 0 1 1 (.aload_n 0) := ⟨by decide +kernel, rfl⟩
theorem DX0_hit_1W : DD cX0_hit 1 1 2 (.iload_n 1) := ⟨by decide +kernel, rfl⟩
theorem DX0_hit_2W : DD cX0_hit 2 3 5 (.invokevirtual 629) := ⟨by decide +kernel, rfl⟩
theorem DX0_hit_5W : DD cX0_hit 5 3 8 (.ifCond .eq 12) := ⟨by decide +kernel, rfl⟩
theorem DX0_hit_8W : DD cX0_hit 8 1 9 (.aload_n 0) := ⟨by decide +kernel, rfl⟩
theorem DX0_hit_9W : DD cX0_hit 9 3 12 (.getfield 281) := ⟨by decide +kernel, rfl⟩
theorem DX0_hit_12W : DD cX0_hit 12 1 13 (.iload_n 1) := ⟨by decide +kernel, rfl⟩
theorem DX0_hit_13W : DD cX0_hit 13 1 14 (.iaload) := ⟨by decide +kernel, rfl⟩
theorem DX0_hit_14W : DD cX0_hit 14 3 17 (.goto 4) := ⟨by decide +kernel, rfl⟩
theorem DX0_hit_17W : DD cX0_hit 17 1 18 (.iconst (-1)) := ⟨by decide +kernel, rfl⟩
theorem DX0_hit_18W : DD cX0_hit 18 1 19 (.ireturn) := ⟨by decide +kernel, rfl⟩
theorem ucX0_hit_0W {E : XE} {d : Nat} {σ : Sto} {Q : Res → Sto → Prop} {x1 : Int} (hL : Lay σ)  (h : 2 ≤ d ∧ (inR x1) ∧ (0 ≤ σ.I 0 70 ∧ σ.I 0 70 ≤ 600) ∧ ((0 ≤ x1 ∧ x1 < σ.I 0 70) → 0 ≤ x1 ∧ x1 < 600 ∧ (inR (σ.I 189 x1) → Q (.inl (some (aI (σ.I 189 x1)))) σ)) ∧ (¬ (0 ≤ x1 ∧ x1 < σ.I 0 70) → Q (.inl (some (aI (-1)))) σ)) : VV E mX0_hit (d + 1) 0 [(0, aO 0), (1, aI (x1))] [] σ Q := by
  refine v_aload_n 0 DX0_hit_0W rfl rfl <| v_iload_n 1 DX0_hit_1W rfl rfl <| ?_
  obtain ⟨k1, h⟩ := h
  obtain ⟨k2, k3, h⟩ := h
  refine v_invV (ci := 0) (as := [aI (x1)]) (st := []) DX0_hit_2W rfl okX0_isHit (Or.inl q1920) q1922 (s_0 hL) rfl qs83 npX0_isHit (sp_X0_isHit (σ := σ) (x1 := x1) k1 hL k2 k3) (Nat.le_of_ble_eq_true rfl) (Nat.le_refl _) (Nat.le_of_ble_eq_true rfl) (RZ_ret (fun c4 => ?_) (fun c4 => ?_)) RZ_thr
  · have h := h.1 c4
    refine v_if_eq (tg := 17) DX0_hit_5W (by decide) ⟨by decide, by decide⟩ (fun c5 => absurd c5 (by decide)) (fun c5 => ?_)
    refine v_aload_n 0 DX0_hit_8W rfl rfl <| w_getR (ci := 0) (kf := 66) (kz := 66) DX0_hit_9W (s_0 hL) rfl (by decide) rfl (Or.inl q1112) (fun _ _ => rfl) (r_0_66 hL) <| v_iload_n 1 DX0_hit_12W rfl rfl <| ?_
    obtain ⟨k6, k7, h⟩ := h
    refine v_iald DX0_hit_13W (s_189 hL) k6 k7 (fun f8 => ?_)
    have h := h f8
    refine v_goto (pc' := 18) DX0_hit_14W.1 (by decide) <| ?_
    exact v_iret DX0_hit_18W rfl rfl h
  · have h := h.2 c4
    refine v_if_eq (tg := 17) DX0_hit_5W (by decide) ⟨by decide, by decide⟩ (fun c9 => ?_) (fun c9 => absurd c9 (by decide))
    refine v_iconst DX0_hit_17W <| ?_
    exact v_iret DX0_hit_18W rfl rfl h
theorem sp_X0_hitW {E : XE} {d : Nat} {σ : Sto} {x1 : Int} (hd : 3 ≤ d) (hL : Lay σ)  (p0 : inR x1) (p1 : 0 ≤ σ.I 0 70 ∧ σ.I 0 70 ≤ 600) : CC E mX0_hit d [aO 0, aI (x1)] σ (RI σ (if (0 ≤ x1 ∧ x1 < σ.I 0 70) then σ.I 189 x1 else -1)) := by
  obtain ⟨d, rfl⟩ : ∃ e, d = e + 1 := ⟨d - 1, by omega⟩
  have p0a := p0.1; have p0b := p0.2
  refine ucX0_hit_0W  hL  ?_
  refine ⟨?_, ?_⟩
  · omega
  refine ⟨?_, ?_⟩
  · (first | omega | (grind (splits := 16) (ematch := 30) (gen := 30) [-Prod, inR, inL]))
  refine ⟨?_, ?_⟩
  · (first | omega | (grind (splits := 16) (ematch := 30) (gen := 30) [-Prod, inR, inL]))
  refine ⟨fun c1 => ?_, fun c2 => ?_⟩
  · refine ⟨?_, ?_⟩
    · (first | omega | (grind (splits := 16) (ematch := 30) (gen := 30) [-Prod, inR, inL]))
    refine ⟨?_, ?_⟩
    · (first | omega | (grind (splits := 16) (ematch := 30) (gen := 30) [-Prod, inR, inL]))
    rintro ⟨f3, f3q⟩
    refine RI_mk ?_ ?_
    · (first | omega | (grind (splits := 16) (ematch := 30) (gen := 30) [-Prod, inR, inL]))
    · (first | exact ⟨by omega, by omega⟩ | (grind (splits := 16) (ematch := 30) (gen := 30) [-Prod, inR, inL]))
  · refine RI_mk ?_ ?_
    · (first | omega | (grind (splits := 16) (ematch := 30) (gen := 30) [-Prod, inR, inL]))
    · (first | exact ⟨by omega, by omega⟩ | (grind (splits := 16) (ematch := 30) (gen := 30) [-Prod, inR, inL]))
theorem DX9_hit_0W : DD cX9_hit 0 1 1 (.aload_n 0) := ⟨by decide +kernel, rfl⟩
theorem DX9_hit_1W : DD cX9_hit 1 1 2 (.iload_n 1) := ⟨by decide +kernel, rfl⟩
theorem DX9_hit_2W : DD cX9_hit 2 3 5 (.invokevirtual 998) := ⟨by decide +kernel, rfl⟩
theorem DX9_hit_5W : DD cX9_hit 5 3 8 (.ifCond .eq 12) := ⟨by decide +kernel, rfl⟩
theorem DX9_hit_8W : DD cX9_hit 8 1 9 (.aload_n 0) := ⟨by decide +kernel, rfl⟩
theorem DX9_hit_9W : DD cX9_hit 9 3 12 (.getfield 272) := ⟨by decide +kernel, rfl⟩
theorem DX9_hit_12W : DD cX9_hit 12 1 13 (.iload_n 1) := ⟨by decide +kernel, rfl⟩
theorem DX9_hit_13W : DD cX9_hit 13 1 14 (.iaload) := ⟨by decide +kernel, rfl⟩
theorem DX9_hit_14W : DD cX9_hit 14 3 17 (.goto 4) := ⟨by decide +kernel, rfl⟩
theorem DX9_hit_17W : DD cX9_hit 17 1 18 (.iconst (-1)) := ⟨by decide +kernel, rfl⟩
theorem DX9_hit_18W : DD cX9_hit 18 1 19 (.ireturn) := ⟨by decide +kernel, rfl⟩
theorem ucX9_hit_0W {E : XE} {d : Nat} {σ : Sto} {Q : Res → Sto → Prop} {x1 : Int} (hL : Lay σ)  (h : 1 ≤ d ∧ (inR x1) ∧ ((0 ≤ x1 ∧ x1 < σ.I 555 115) → 0 ≤ x1 ∧ x1 < 600 ∧ (inR (σ.I 637 x1) → Q (.inl (some (aI (σ.I 637 x1)))) σ)) ∧ (¬ (0 ≤ x1 ∧ x1 < σ.I 555 115) → Q (.inl (some (aI (-1)))) σ)) : VV E mX9_hit (d + 1) 0 [(0, aO 555), (1, aI (x1))] [] σ Q := by
  refine v_aload_n 0 DX9_hit_0W rfl rfl <| v_iload_n 1 DX9_hit_1W rfl rfl <| ?_
  obtain ⟨k1, h⟩ := h
  obtain ⟨k2, h⟩ := h
  refine v_invV (ci := 9) (as := [aI (x1)]) (st := []) DX9_hit_2W rfl okX9_isHit (Or.inl q3408) q3410 (s_555 hL) rfl qs215 npX9_isHit (sp_X9_isHit (σ := σ) (x1 := x1) k1 hL k2) (Nat.le_of_ble_eq_true rfl) (Nat.le_refl _) (Nat.le_of_ble_eq_true rfl) (RZ_ret (fun c3 => ?_) (fun c3 => ?_)) RZ_thr
  · have h := h.1 c3
    refine v_if_eq (tg := 17) DX9_hit_5W (by decide) ⟨by decide, by decide⟩ (fun c4 => absurd c4 (by decide)) (fun c4 => ?_)
    refine v_aload_n 0 DX9_hit_8W rfl rfl <| w_getR (ci := 9) (kf := 116) (kz := 116) DX9_hit_9W (s_555 hL) rfl (by decide) rfl (Or.inl q2340) (fun _ _ => rfl) (r_555_116 hL) <| v_iload_n 1 DX9_hit_12W rfl rfl <| ?_
    obtain ⟨k5, k6, h⟩ := h
    refine v_iald DX9_hit_13W (s_637 hL) k5 k6 (fun f7 => ?_)
    have h := h f7
    refine v_goto (pc' := 18) DX9_hit_14W.1 (by decide) <| ?_
    exact v_iret DX9_hit_18W rfl rfl h
  · have h := h.2 c3
    refine v_if_eq (tg := 17) DX9_hit_5W (by decide) ⟨by decide, by decide⟩ (fun c8 => ?_) (fun c8 => absurd c8 (by decide))
    refine v_iconst DX9_hit_17W <| ?_
    exact v_iret DX9_hit_18W rfl rfl h
theorem sp_X9_hitW {E : XE} {d : Nat} {σ : Sto} {x1 : Int} (hd : 2 ≤ d) (hL : Lay σ)  (p0 : inR x1) (p1 : 0 ≤ σ.I 555 115 ∧ σ.I 555 115 ≤ 600) : CC E mX9_hit d [aO 555, aI (x1)] σ (RI σ (if (0 ≤ x1 ∧ x1 < σ.I 555 115) then σ.I 637 x1 else -1)) := by
  obtain ⟨d, rfl⟩ : ∃ e, d = e + 1 := ⟨d - 1, by omega⟩
  have p0a := p0.1; have p0b := p0.2
  refine ucX9_hit_0W  hL  ?_
  refine ⟨?_, ?_⟩
  · omega
  refine ⟨?_, ?_⟩
  · (first | omega | (grind (splits := 16) (ematch := 30) (gen := 30) [-Prod, inR, inL]))
  refine ⟨fun c1 => ?_, fun c2 => ?_⟩
  · refine ⟨?_, ?_⟩
    · (first | omega | (grind (splits := 16) (ematch := 30) (gen := 30) [-Prod, inR, inL]))
    refine ⟨?_, ?_⟩
    · (first | omega | (grind (splits := 16) (ematch := 30) (gen := 30) [-Prod, inR, inL]))
    rintro ⟨f3, f3q⟩
    refine RI_mk ?_ ?_
    · (first | omega | (grind (splits := 16) (ematch := 30) (gen := 30) [-Prod, inR, inL]))
    · (first | exact ⟨by omega, by omega⟩ | (grind (splits := 16) (ematch := 30) (gen := 30) [-Prod, inR, inL]))
  · refine RI_mk ?_ ?_
    · (first | omega | (grind (splits := 16) (ematch := 30) (gen := 30) [-Prod, inR, inL]))
    · (first | exact ⟨by omega, by omega⟩ | (grind (splits := 16) (ematch := 30) (gen := 30) [-Prod, inR, inL]))
theorem DX0_score_0W : DD cX0_score 0 1 1 (.aload_n 0) := ⟨by decide +kernel, rfl⟩
theorem DX0_score_1W : DD cX0_score 1 1 2 (.iload_n 1) := ⟨by decide +kernel, rfl⟩
theorem DX0_score_2W : DD cX0_score 2 3 5 (.invokevirtual 629) := ⟨by decide +kernel, rfl⟩
theorem DX0_score_5W : DD cX0_score 5 3 8 (.ifCond .eq 12) := ⟨by decide +kernel, rfl⟩
theorem DX0_score_8W : DD cX0_score 8 1 9 (.aload_n 0) := ⟨by decide +kernel, rfl⟩
theorem DX0_score_9W : DD cX0_score 9 3 12 (.getfield 284) := ⟨by decide +kernel, rfl⟩
theorem DX0_score_12W : DD cX0_score 12 1 13 (.iload_n 1) := ⟨by decide +kernel, rfl⟩
theorem DX0_score_13W : DD cX0_score 13 1 14 (.laload) := ⟨by decide +kernel, rfl⟩
theorem DX0_score_14W : DD cX0_score 14 3 17 (.goto 6) := ⟨by decide +kernel, rfl⟩
theorem DX0_score_17W : DD cX0_score 17 3 20 (.ldc2_w 609) := ⟨by decide +kernel, rfl⟩
theorem DX0_score_20W : DD cX0_score 20 1 21 (.lreturn) := ⟨by decide +kernel, rfl⟩
theorem ucX0_score_0W {E : XE} {d : Nat} {σ : Sto} {Q : Res → Sto → Prop} {x1 : Int} (hL : Lay σ)  (h : 2 ≤ d ∧ (inR x1) ∧ (0 ≤ σ.I 0 70 ∧ σ.I 0 70 ≤ 600) ∧ ((0 ≤ x1 ∧ x1 < σ.I 0 70) → 0 ≤ x1 ∧ x1 < 600 ∧ (inL (σ.I 190 x1) → Q (.inl (some (aL (σ.I 190 x1)))) σ)) ∧ (¬ (0 ≤ x1 ∧ x1 < σ.I 0 70) → Q (.inl (some (aL (-1)))) σ)) : VV E mX0_score (d + 1) 0 [(0, aO 0), (1, aI (x1))] [] σ Q := by
  refine v_aload_n 0 DX0_score_0W rfl rfl <| v_iload_n 1 DX0_score_1W rfl rfl <| ?_
  obtain ⟨k1, h⟩ := h
  obtain ⟨k2, k3, h⟩ := h
  refine v_invV (ci := 0) (as := [aI (x1)]) (st := []) DX0_score_2W rfl okX0_isHit (Or.inl q1920) q1922 (s_0 hL) rfl qs83 npX0_isHit (sp_X0_isHit (σ := σ) (x1 := x1) k1 hL k2 k3) (Nat.le_of_ble_eq_true rfl) (Nat.le_refl _) (Nat.le_of_ble_eq_true rfl) (RZ_ret (fun c4 => ?_) (fun c4 => ?_)) RZ_thr
  · have h := h.1 c4
    refine v_if_eq (tg := 17) DX0_score_5W (by decide) ⟨by decide, by decide⟩ (fun c5 => absurd c5 (by decide)) (fun c5 => ?_)
    refine v_aload_n 0 DX0_score_8W rfl rfl <| w_getR (ci := 0) (kf := 67) (kz := 67) DX0_score_9W (s_0 hL) rfl (by decide) rfl (Or.inl q1113) (fun _ _ => rfl) (r_0_67 hL) <| v_iload_n 1 DX0_score_12W rfl rfl <| ?_
    obtain ⟨k6, k7, h⟩ := h
    refine v_lald DX0_score_13W (s_190 hL) k6 k7 (fun f8 => ?_)
    have h := h f8
    refine v_goto (pc' := 20) DX0_score_14W.1 (by decide) <| ?_
    exact v_lret DX0_score_20W rfl h
  · have h := h.2 c4
    refine v_if_eq (tg := 17) DX0_score_5W (by decide) ⟨by decide, by decide⟩ (fun c9 => ?_) (fun c9 => absurd c9 (by decide))
    refine v_ldc2 (x := (-1)) DX0_score_17W q1898 rfl <| ?_
    exact v_lret DX0_score_20W rfl h
theorem sp_X0_scoreW {E : XE} {d : Nat} {σ : Sto} {x1 : Int} (hd : 3 ≤ d) (hL : Lay σ)  (p0 : inR x1) (p1 : 0 ≤ σ.I 0 70 ∧ σ.I 0 70 ≤ 600) : CC E mX0_score d [aO 0, aI (x1)] σ (RL σ (if (0 ≤ x1 ∧ x1 < σ.I 0 70) then σ.I 190 x1 else -1)) := by
  obtain ⟨d, rfl⟩ : ∃ e, d = e + 1 := ⟨d - 1, by omega⟩
  have p0a := p0.1; have p0b := p0.2
  refine ucX0_score_0W  hL  ?_
  refine ⟨?_, ?_⟩
  · omega
  refine ⟨?_, ?_⟩
  · (first | omega | (grind (splits := 16) (ematch := 30) (gen := 30) [-Prod, inR, inL]))
  refine ⟨?_, ?_⟩
  · (first | omega | (grind (splits := 16) (ematch := 30) (gen := 30) [-Prod, inR, inL]))
  refine ⟨fun c1 => ?_, fun c2 => ?_⟩
  · refine ⟨?_, ?_⟩
    · (first | omega | (grind (splits := 16) (ematch := 30) (gen := 30) [-Prod, inR, inL]))
    refine ⟨?_, ?_⟩
    · (first | omega | (grind (splits := 16) (ematch := 30) (gen := 30) [-Prod, inR, inL]))
    rintro ⟨f3, f3q⟩
    refine RL_mk ?_ ?_
    · (first | omega | (grind (splits := 16) (ematch := 30) (gen := 30) [-Prod, inR, inL]))
    · (first | exact ⟨by omega, by omega⟩ | (grind (splits := 16) (ematch := 30) (gen := 30) [-Prod, inR, inL]))
  · refine RL_mk ?_ ?_
    · (first | omega | (grind (splits := 16) (ematch := 30) (gen := 30) [-Prod, inR, inL]))
    · (first | exact ⟨by omega, by omega⟩ | (grind (splits := 16) (ematch := 30) (gen := 30) [-Prod, inR, inL]))
theorem DX9_score_0W : DD cX9_score 0 1 1 (.aload_n 0) := ⟨by decide +kernel, rfl⟩
theorem DX9_score_1W : DD cX9_score 1 1 2 (.iload_n 1) := ⟨by decide +kernel, rfl⟩
theorem DX9_score_2W : DD cX9_score 2 3 5 (.invokevirtual 998) := ⟨by decide +kernel, rfl⟩
theorem DX9_score_5W : DD cX9_score 5 3 8 (.ifCond .eq 12) := ⟨by decide +kernel, rfl⟩
theorem DX9_score_8W : DD cX9_score 8 1 9 (.aload_n 0) := ⟨by decide +kernel, rfl⟩
theorem DX9_score_9W : DD cX9_score 9 3 12 (.getfield 275) := ⟨by decide +kernel, rfl⟩
theorem DX9_score_12W : DD cX9_score 12 1 13 (.iload_n 1) := ⟨by decide +kernel, rfl⟩
theorem DX9_score_13W : DD cX9_score 13 1 14 (.laload) := ⟨by decide +kernel, rfl⟩
theorem DX9_score_14W : DD cX9_score 14 3 17 (.goto 6) := ⟨by decide +kernel, rfl⟩
theorem DX9_score_17W : DD cX9_score 17 3 20 (.ldc2_w 1001) := ⟨by decide +kernel, rfl⟩
theorem DX9_score_20W : DD cX9_score 20 1 21 (.lreturn) := ⟨by decide +kernel, rfl⟩
theorem ucX9_score_0W {E : XE} {d : Nat} {σ : Sto} {Q : Res → Sto → Prop} {x1 : Int} (hL : Lay σ)  (h : 1 ≤ d ∧ (inR x1) ∧ ((0 ≤ x1 ∧ x1 < σ.I 555 115) → 0 ≤ x1 ∧ x1 < 600 ∧ (inL (σ.I 638 x1) → Q (.inl (some (aL (σ.I 638 x1)))) σ)) ∧ (¬ (0 ≤ x1 ∧ x1 < σ.I 555 115) → Q (.inl (some (aL (-1)))) σ)) : VV E mX9_score (d + 1) 0 [(0, aO 555), (1, aI (x1))] [] σ Q := by
  refine v_aload_n 0 DX9_score_0W rfl rfl <| v_iload_n 1 DX9_score_1W rfl rfl <| ?_
  obtain ⟨k1, h⟩ := h
  obtain ⟨k2, h⟩ := h
  refine v_invV (ci := 9) (as := [aI (x1)]) (st := []) DX9_score_2W rfl okX9_isHit (Or.inl q3408) q3410 (s_555 hL) rfl qs215 npX9_isHit (sp_X9_isHit (σ := σ) (x1 := x1) k1 hL k2) (Nat.le_of_ble_eq_true rfl) (Nat.le_refl _) (Nat.le_of_ble_eq_true rfl) (RZ_ret (fun c3 => ?_) (fun c3 => ?_)) RZ_thr
  · have h := h.1 c3
    refine v_if_eq (tg := 17) DX9_score_5W (by decide) ⟨by decide, by decide⟩ (fun c4 => absurd c4 (by decide)) (fun c4 => ?_)
    refine v_aload_n 0 DX9_score_8W rfl rfl <| w_getR (ci := 9) (kf := 117) (kz := 117) DX9_score_9W (s_555 hL) rfl (by decide) rfl (Or.inl q2341) (fun _ _ => rfl) (r_555_117 hL) <| v_iload_n 1 DX9_score_12W rfl rfl <| ?_
    obtain ⟨k5, k6, h⟩ := h
    refine v_lald DX9_score_13W (s_638 hL) k5 k6 (fun f7 => ?_)
    have h := h f7
    refine v_goto (pc' := 20) DX9_score_14W.1 (by decide) <| ?_
    exact v_lret DX9_score_20W rfl h
  · have h := h.2 c3
    refine v_if_eq (tg := 17) DX9_score_5W (by decide) ⟨by decide, by decide⟩ (fun c8 => ?_) (fun c8 => absurd c8 (by decide))
    refine v_ldc2 (x := (-1)) DX9_score_17W q3416 rfl <| ?_
    exact v_lret DX9_score_20W rfl h
theorem sp_X9_scoreW {E : XE} {d : Nat} {σ : Sto} {x1 : Int} (hd : 2 ≤ d) (hL : Lay σ)  (p0 : inR x1) (p1 : 0 ≤ σ.I 555 115 ∧ σ.I 555 115 ≤ 600) : CC E mX9_score d [aO 555, aI (x1)] σ (RL σ (if (0 ≤ x1 ∧ x1 < σ.I 555 115) then σ.I 638 x1 else -1)) := by
  obtain ⟨d, rfl⟩ : ∃ e, d = e + 1 := ⟨d - 1, by omega⟩
  have p0a := p0.1; have p0b := p0.2
  refine ucX9_score_0W  hL  ?_
  refine ⟨?_, ?_⟩
  · omega
  refine ⟨?_, ?_⟩
  · (first | omega | (grind (splits := 16) (ematch := 30) (gen := 30) [-Prod, inR, inL]))
  refine ⟨fun c1 => ?_, fun c2 => ?_⟩
  · refine ⟨?_, ?_⟩
    · (first | omega | (grind (splits := 16) (ematch := 30) (gen := 30) [-Prod, inR, inL]))
    refine ⟨?_, ?_⟩
    · (first | omega | (grind (splits := 16) (ematch := 30) (gen := 30) [-Prod, inR, inL]))
    rintro ⟨f3, f3q⟩
    refine RL_mk ?_ ?_
    · (first | omega | (grind (splits := 16) (ematch := 30) (gen := 30) [-Prod, inR, inL]))
    · (first | exact ⟨by omega, by omega⟩ | (grind (splits := 16) (ematch := 30) (gen := 30) [-Prod, inR, inL]))
  · refine RL_mk ?_ ?_
    · (first | omega | (grind (splits := 16) (ematch := 30) (gen := 30) [-Prod, inR, inL]))
    · (first | exact ⟨by omega, by omega⟩ | (grind (splits := 16) (ematch := 30) (gen := 30) [-Prod, inR, inL]))
theorem DX0_line_0W : DD cX0_line 0 1 1 (.iload_n 1) := ⟨by decide +kernel, rfl⟩
theorem DX0_line_1W : DD cX0_line 1 1 2 (.iconst 0) := ⟨by decide +kernel, rfl⟩
theorem DX0_line_2W : DD cX0_line 2 1 3 (.aload_n 0) := ⟨by decide +kernel, rfl⟩
theorem DX0_line_3W : DD cX0_line 3 3 6 (.getfield 553) := ⟨by decide +kernel, rfl⟩
theorem DX0_line_6W : DD cX0_line 6 1 7 (.iconst 1) := ⟨by decide +kernel, rfl⟩
theorem DX0_line_7W : DD cX0_line 7 1 8 (.isub) := ⟨by decide +kernel, rfl⟩
theorem DX0_line_8W : DD cX0_line 8 3 11 (.invokestatic 18) := ⟨by decide +kernel, rfl⟩
theorem DX0_line_11W : DD cX0_line 11 3 14 (.ifCond .ne 7) := ⟨by decide +kernel, rfl⟩
theorem DX0_line_14W : DD cX0_line 14 3 17 (.ldc2_w 609) := ⟨by decide +kernel, rfl⟩
theorem DX0_line_17W : DD cX0_line 17 1 18 (.lreturn) := ⟨by decide +kernel, rfl⟩
theorem DX0_line_18W : DD cX0_line 18 1 19 (.iload_n 2) := ⟨by decide +kernel, rfl⟩
theorem DX0_line_19W : DD cX0_line 19 29 48 (.tableswitch 60 0 3 #[29, 37, 45, 52]) := ⟨by decide +kernel, rfl⟩
theorem DX0_line_48W : DD cX0_line 48 1 49 (.aload_n 0) := ⟨by decide +kernel, rfl⟩
theorem DX0_line_49W : DD cX0_line 49 3 52 (.getfield 253) := ⟨by decide +kernel, rfl⟩
theorem DX0_line_52W : DD cX0_line 52 1 53 (.iload_n 1) := ⟨by decide +kernel, rfl⟩
theorem DX0_line_53W : DD cX0_line 53 1 54 (.iaload) := ⟨by decide +kernel, rfl⟩
theorem DX0_line_54W : DD cX0_line 54 1 55 (.i2l) := ⟨by decide +kernel, rfl⟩
theorem DX0_line_55W : DD cX0_line 55 1 56 (.lreturn) := ⟨by decide +kernel, rfl⟩
theorem DX0_line_56W : DD cX0_line 56 1 57 (.aload_n 0) := ⟨by decide +kernel, rfl⟩
theorem DX0_line_57W : DD cX0_line 57 3 60 (.getfield 256) := ⟨by decide +kernel, rfl⟩
theorem DX0_line_60W : DD cX0_line 60 1 61 (.iload_n 1) := ⟨by decide +kernel, rfl⟩
theorem DX0_line_61W : DD cX0_line 61 1 62 (.iaload) := ⟨by decide +kernel, rfl⟩
theorem DX0_line_62W : DD cX0_line 62 1 63 (.i2l) := ⟨by decide +kernel, rfl⟩
theorem DX0_line_63W : DD cX0_line 63 1 64 (.lreturn) := ⟨by decide +kernel, rfl⟩
theorem DX0_line_64W : DD cX0_line 64 1 65 (.aload_n 0) := ⟨by decide +kernel, rfl⟩
theorem DX0_line_65W : DD cX0_line 65 3 68 (.getfield 259) := ⟨by decide +kernel, rfl⟩
theorem DX0_line_68W : DD cX0_line 68 1 69 (.iload_n 1) := ⟨by decide +kernel, rfl⟩
theorem DX0_line_69W : DD cX0_line 69 1 70 (.laload) := ⟨by decide +kernel, rfl⟩
theorem DX0_line_70W : DD cX0_line 70 1 71 (.lreturn) := ⟨by decide +kernel, rfl⟩
theorem DX0_line_71W : DD cX0_line 71 1 72 (.aload_n 0) := ⟨by decide +kernel, rfl⟩
theorem DX0_line_72W : DD cX0_line 72 3 75 (.getfield 262) := ⟨by decide +kernel, rfl⟩
theorem DX0_line_75W : DD cX0_line 75 1 76 (.iload_n 1) := ⟨by decide +kernel, rfl⟩
theorem DX0_line_76W : DD cX0_line 76 1 77 (.iaload) := ⟨by decide +kernel, rfl⟩
theorem DX0_line_77W : DD cX0_line 77 1 78 (.i2l) := ⟨by decide +kernel, rfl⟩
theorem DX0_line_78W : DD cX0_line 78 1 79 (.lreturn) := ⟨by decide +kernel, rfl⟩
theorem DX0_line_79W : DD cX0_line 79 3 82 (.ldc2_w 609) := ⟨by decide +kernel, rfl⟩
theorem DX0_line_82W : DD cX0_line 82 1 83 (.lreturn) := ⟨by decide +kernel, rfl⟩
theorem ucX0_line_0W {E : XE} {d : Nat} {σ : Sto} {Q : Res → Sto → Prop} {x1 : Int} {x2 : Int} (hL : Lay σ)  (h : (inR (σ.I 0 59) → 1 ≤ d ∧ (inR x1) ∧ (inR (0 : Int)) ∧ (inR ((σ.I 0 59) - 1)) ∧ (((0 : Int) ≤ x1 ∧ x1 ≤ ((σ.I 0 59) - 1)) → inR x2 ∧ (x2 = 0 → 0 ≤ x1 ∧ x1 < 200 ∧ (inR (σ.I 83 x1) → Q (.inl (some (aL (σ.I 83 x1)))) σ)) ∧ (x2 = 1 → 0 ≤ x1 ∧ x1 < 200 ∧ (inR (σ.I 84 x1) → Q (.inl (some (aL (σ.I 84 x1)))) σ)) ∧ (x2 = 2 → 0 ≤ x1 ∧ x1 < 200 ∧ (inL (σ.I 85 x1) → Q (.inl (some (aL (σ.I 85 x1)))) σ)) ∧ (x2 = 3 → 0 ≤ x1 ∧ x1 < 200 ∧ (inR (σ.I 86 x1) → Q (.inl (some (aL (σ.I 86 x1)))) σ)) ∧ ((x2 < 0 ∨ 3 < x2) → Q (.inl (some (aL (-1)))) σ)) ∧ (¬ ((0 : Int) ≤ x1 ∧ x1 ≤ ((σ.I 0 59) - 1)) → Q (.inl (some (aL (-1)))) σ))) : VV E mX0_line (d + 1) 0 [(0, aO 0), (1, aI (x1)), (2, aI (x2))] [] σ Q := by
  refine v_iload_n 1 DX0_line_0W rfl rfl <| v_iconst DX0_line_1W <| v_aload_n 0 DX0_line_2W rfl rfl <| ?_
  refine w_getI (ci := 0) (kf := 59) (kz := 59) DX0_line_3W (s_0 hL) rfl (by decide) rfl (Or.inl q1105) (fun _ _ => rfl) (fun f1 => ?_)
  have h := h f1
  refine v_iconst DX0_line_6W <| v_isub DX0_line_7W <| ?_
  obtain ⟨k2, h⟩ := h
  obtain ⟨k3, k4, k5, h⟩ := h
  refine v_invS (as := [aI (x1), aI (0), aI ((σ.I 0 59) - 1)]) (st := []) DX0_line_8W rfl okX0_isIn (Or.inl q300) q301 npX0_isIn (sp_X0_isIn (σ := σ) (x0 := x1) (x1 := (0 : Int)) (x2 := (σ.I 0 59) - 1) k2 hL k3 k4 k5) (Nat.le_of_ble_eq_true rfl) (Nat.le_refl _) (Nat.le_of_ble_eq_true rfl) (RZ_ret (fun c6 => ?_) (fun c6 => ?_)) RZ_thr
  · have h := h.1 c6
    refine v_if_ne (tg := 18) DX0_line_11W (by decide) ⟨by decide, by decide⟩ (fun c7 => ?_) (fun c7 => absurd c7 (by decide))
    refine v_iload_n 2 DX0_line_18W rfl rfl <| ?_
    obtain ⟨k8, h⟩ := h
    have hsw : x2 = 0 ∨ x2 = 1 ∨ x2 = 2 ∨ x2 = 3 ∨ (x2 < 0 ∨ 3 < x2) := by omega
    rcases hsw with hsw | hsw | hsw | hsw | hsw
    · have h := h.1 hsw
      refine v_tsw (tg := 48) DX0_line_19W.1 (v := 0) ⟨by decide, by decide⟩ hsw ⟨by decide, by decide⟩ rfl (by decide) ?_
      refine v_aload_n 0 DX0_line_48W rfl rfl <| w_getR (ci := 0) (kf := 55) (kz := 55) DX0_line_49W (s_0 hL) rfl (by decide) rfl (Or.inl q1096) (fun _ _ => rfl) (r_0_55 hL) <| v_iload_n 1 DX0_line_52W rfl rfl <| ?_
      obtain ⟨k9, k10, h⟩ := h
      refine v_iald DX0_line_53W (s_83 hL) k9 k10 (fun f11 => ?_)
      have h := h f11
      refine v_i2l DX0_line_54W f11 <| ?_
      exact v_lret DX0_line_55W rfl h
    · have h := h.2.1 hsw
      refine v_tsw (tg := 56) DX0_line_19W.1 (v := 1) ⟨by decide, by decide⟩ hsw ⟨by decide, by decide⟩ rfl (by decide) ?_
      refine v_aload_n 0 DX0_line_56W rfl rfl <| w_getR (ci := 0) (kf := 56) (kz := 56) DX0_line_57W (s_0 hL) rfl (by decide) rfl (Or.inl q1098) (fun _ _ => rfl) (r_0_56 hL) <| v_iload_n 1 DX0_line_60W rfl rfl <| ?_
      obtain ⟨k12, k13, h⟩ := h
      refine v_iald DX0_line_61W (s_84 hL) k12 k13 (fun f14 => ?_)
      have h := h f14
      refine v_i2l DX0_line_62W f14 <| ?_
      exact v_lret DX0_line_63W rfl h
    · have h := h.2.2.1 hsw
      refine v_tsw (tg := 64) DX0_line_19W.1 (v := 2) ⟨by decide, by decide⟩ hsw ⟨by decide, by decide⟩ rfl (by decide) ?_
      refine v_aload_n 0 DX0_line_64W rfl rfl <| w_getR (ci := 0) (kf := 57) (kz := 57) DX0_line_65W (s_0 hL) rfl (by decide) rfl (Or.inl q1100) (fun _ _ => rfl) (r_0_57 hL) <| v_iload_n 1 DX0_line_68W rfl rfl <| ?_
      obtain ⟨k15, k16, h⟩ := h
      refine v_lald DX0_line_69W (s_85 hL) k15 k16 (fun f17 => ?_)
      have h := h f17
      exact v_lret DX0_line_70W rfl h
    · have h := h.2.2.2.1 hsw
      refine v_tsw (tg := 71) DX0_line_19W.1 (v := 3) ⟨by decide, by decide⟩ hsw ⟨by decide, by decide⟩ rfl (by decide) ?_
      refine v_aload_n 0 DX0_line_71W rfl rfl <| w_getR (ci := 0) (kf := 58) (kz := 58) DX0_line_72W (s_0 hL) rfl (by decide) rfl (Or.inl q1102) (fun _ _ => rfl) (r_0_58 hL) <| v_iload_n 1 DX0_line_75W rfl rfl <| ?_
      obtain ⟨k18, k19, h⟩ := h
      refine v_iald DX0_line_76W (s_86 hL) k18 k19 (fun f20 => ?_)
      have h := h f20
      refine v_i2l DX0_line_77W f20 <| ?_
      exact v_lret DX0_line_78W rfl h
    · have h := h.2.2.2.2 hsw
      refine v_tswO (tg := 79) DX0_line_19W.1 k8 hsw (by decide) ?_
      refine v_ldc2 (x := (-1)) DX0_line_79W q1898 rfl <| ?_
      exact v_lret DX0_line_82W rfl h
  · have h := h.2 c6
    refine v_if_ne (tg := 18) DX0_line_11W (by decide) ⟨by decide, by decide⟩ (fun c21 => absurd c21 (by decide)) (fun c21 => ?_)
    refine v_ldc2 (x := (-1)) DX0_line_14W q1898 rfl <| ?_
    exact v_lret DX0_line_17W rfl h
theorem sp_X0_lineW {E : XE} {d : Nat} {σ : Sto} {x1 : Int} {x2 : Int} (hd : 2 ≤ d) (hL : Lay σ)  (p0 : inR x1) (p1 : inR x2) (p2 : 0 ≤ σ.I 0 59 ∧ σ.I 0 59 ≤ 200) : CC E mX0_line d [aO 0, aI (x1), aI (x2)] σ (RL σ (if ¬ (0 ≤ x1 ∧ x1 < σ.I 0 59) then -1 else if x2 = 0 then σ.I 83 x1 else if x2 = 1 then σ.I 84 x1 else if x2 = 2 then σ.I 85 x1 else if x2 = 3 then σ.I 86 x1 else -1)) := by
  obtain ⟨d, rfl⟩ : ∃ e, d = e + 1 := ⟨d - 1, by omega⟩
  have p0a := p0.1; have p0b := p0.2
  have p1a := p1.1; have p1b := p1.2
  refine ucX0_line_0W  hL  ?_
  rintro ⟨f1, f1q⟩
  refine ⟨?_, ?_⟩
  · omega
  refine ⟨?_, ?_⟩
  · (first | omega | (grind (splits := 16) (ematch := 30) (gen := 30) [-Prod, inR, inL]))
  refine ⟨?_, ?_⟩
  · (first | omega | (grind (splits := 16) (ematch := 30) (gen := 30) [-Prod, inR, inL]))
  refine ⟨?_, ?_⟩
  · (first | omega | (grind (splits := 16) (ematch := 30) (gen := 30) [-Prod, inR, inL]))
  refine ⟨fun c2 => ?_, fun c3 => ?_⟩
  · refine ⟨?_, ?_⟩
    · (first | exact ⟨by omega, by omega⟩ | (grind (splits := 16) (ematch := 30) (gen := 30) [-Prod, inR, inL]))
    refine ⟨fun c4 => ?_, fun c5 => ?_, fun c6 => ?_, fun c7 => ?_, fun c8 => ?_⟩
    · refine ⟨?_, ?_⟩
      · (first | omega | (grind (splits := 16) (ematch := 30) (gen := 30) [-Prod, inR, inL]))
      refine ⟨?_, ?_⟩
      · (first | omega | (grind (splits := 16) (ematch := 30) (gen := 30) [-Prod, inR, inL]))
      rintro ⟨f9, f9q⟩
      refine RL_mk ?_ ?_
      · (first | omega | (grind (splits := 16) (ematch := 30) (gen := 30) [-Prod, inR, inL]))
      · (first | exact ⟨by omega, by omega⟩ | (grind (splits := 16) (ematch := 30) (gen := 30) [-Prod, inR, inL]))
    · refine ⟨?_, ?_⟩
      · (first | omega | (grind (splits := 16) (ematch := 30) (gen := 30) [-Prod, inR, inL]))
      refine ⟨?_, ?_⟩
      · (first | omega | (grind (splits := 16) (ematch := 30) (gen := 30) [-Prod, inR, inL]))
      rintro ⟨f10, f10q⟩
      refine RL_mk ?_ ?_
      · (first | omega | (grind (splits := 16) (ematch := 30) (gen := 30) [-Prod, inR, inL]))
      · (first | exact ⟨by omega, by omega⟩ | (grind (splits := 16) (ematch := 30) (gen := 30) [-Prod, inR, inL]))
    · refine ⟨?_, ?_⟩
      · (first | omega | (grind (splits := 16) (ematch := 30) (gen := 30) [-Prod, inR, inL]))
      refine ⟨?_, ?_⟩
      · (first | omega | (grind (splits := 16) (ematch := 30) (gen := 30) [-Prod, inR, inL]))
      rintro ⟨f11, f11q⟩
      refine RL_mk ?_ ?_
      · (first | omega | (grind (splits := 16) (ematch := 30) (gen := 30) [-Prod, inR, inL]))
      · (first | exact ⟨by omega, by omega⟩ | (grind (splits := 16) (ematch := 30) (gen := 30) [-Prod, inR, inL]))
    · refine ⟨?_, ?_⟩
      · (first | omega | (grind (splits := 16) (ematch := 30) (gen := 30) [-Prod, inR, inL]))
      refine ⟨?_, ?_⟩
      · (first | omega | (grind (splits := 16) (ematch := 30) (gen := 30) [-Prod, inR, inL]))
      rintro ⟨f12, f12q⟩
      refine RL_mk ?_ ?_
      · (first | omega | (grind (splits := 16) (ematch := 30) (gen := 30) [-Prod, inR, inL]))
      · (first | exact ⟨by omega, by omega⟩ | (grind (splits := 16) (ematch := 30) (gen := 30) [-Prod, inR, inL]))
    · refine RL_mk ?_ ?_
      · (first | omega | (grind (splits := 16) (ematch := 30) (gen := 30) [-Prod, inR, inL]))
      · (first | exact ⟨by omega, by omega⟩ | (grind (splits := 16) (ematch := 30) (gen := 30) [-Prod, inR, inL]))
  · refine RL_mk ?_ ?_
    · (first | omega | (grind (splits := 16) (ematch := 30) (gen := 30) [-Prod, inR, inL]))
    · (first | exact ⟨by omega, by omega⟩ | (grind (splits := 16) (ematch := 30) (gen := 30) [-Prod, inR, inL]))
theorem DX9_line_0W : DD cX9_line 0 1 1 (.iload_n 1) := ⟨by decide +kernel, rfl⟩
theorem DX9_line_1W : DD cX9_line 1 3 4 (.ifCond .lt 20) := ⟨by decide +kernel, rfl⟩
theorem DX9_line_4W : DD cX9_line 4 1 5 (.iload_n 1) := ⟨by decide +kernel, rfl⟩
theorem DX9_line_5W : DD cX9_line 5 1 6 (.aload_n 0) := ⟨by decide +kernel, rfl⟩
theorem DX9_line_6W : DD cX9_line 6 3 9 (.getfield 951) := ⟨by decide +kernel, rfl⟩
theorem DX9_line_9W : DD cX9_line 9 3 12 (.if_icmp .ge 12) := ⟨by decide +kernel, rfl⟩
theorem DX9_line_12W : DD cX9_line 12 1 13 (.iload_n 2) := ⟨by decide +kernel, rfl⟩
theorem DX9_line_13W : DD cX9_line 13 3 16 (.ifCond .lt 8) := ⟨by decide +kernel, rfl⟩
theorem DX9_line_16W : DD cX9_line 16 1 17 (.iload_n 2) := ⟨by decide +kernel, rfl⟩
theorem DX9_line_17W : DD cX9_line 17 1 18 (.iconst 3) := ⟨by decide +kernel, rfl⟩
theorem DX9_line_18W : DD cX9_line 18 3 21 (.if_icmp .le 9) := ⟨by decide +kernel, rfl⟩
theorem DX9_line_21W : DD cX9_line 21 3 24 (.ldc2_w 1001) := ⟨by decide +kernel, rfl⟩
theorem DX9_line_24W : DD cX9_line 24 3 27 (.goto 13) := ⟨by decide +kernel, rfl⟩
theorem DX9_line_27W : DD cX9_line 27 1 28 (.aload_n 0) := ⟨by decide +kernel, rfl⟩
theorem DX9_line_28W : DD cX9_line 28 3 31 (.getfield 324) := ⟨by decide +kernel, rfl⟩
theorem DX9_line_31W : DD cX9_line 31 1 32 (.iconst 4) := ⟨by decide +kernel, rfl⟩
theorem DX9_line_32W : DD cX9_line 32 1 33 (.iload_n 1) := ⟨by decide +kernel, rfl⟩
theorem DX9_line_33W : DD cX9_line 33 1 34 (.imul) := ⟨by decide +kernel, rfl⟩
theorem DX9_line_34W : DD cX9_line 34 1 35 (.iload_n 2) := ⟨by decide +kernel, rfl⟩
theorem DX9_line_35W : DD cX9_line 35 1 36 (.iadd) := ⟨by decide +kernel, rfl⟩
theorem DX9_line_36W : DD cX9_line 36 1 37 (.laload) := ⟨by decide +kernel, rfl⟩
theorem DX9_line_37W : DD cX9_line 37 1 38 (.lreturn) := ⟨by decide +kernel, rfl⟩
theorem ucX9_line_0W {E : XE} {d : Nat} {σ : Sto} {Q : Res → Sto → Prop} {x1 : Int} {x2 : Int} (hL : Lay σ)  (h : inR x1 ∧ (x1 < 0 → Q (.inl (some (aL (-1)))) σ) ∧ (0 ≤ x1 → (inR (σ.I 555 133) → ((σ.I 555 133) ≤ x1 → Q (.inl (some (aL (-1)))) σ) ∧ (x1 < (σ.I 555 133) → inR x2 ∧ (x2 < 0 → Q (.inl (some (aL (-1)))) σ) ∧ (0 ≤ x2 → (x2 ≤ 3 → 0 ≤ ((4 * x1) + x2) ∧ ((4 * x1) + x2) < 520 ∧ (inL (σ.I 653 ((4 * x1) + x2)) → Q (.inl (some (aL (σ.I 653 ((4 * x1) + x2))))) σ)) ∧ (3 < x2 → Q (.inl (some (aL (-1)))) σ)))))) : VV E mX9_line (d + 1) 0 [(0, aO 555), (1, aI (x1)), (2, aI (x2))] [] σ Q := by
  refine v_iload_n 1 DX9_line_0W rfl rfl <| ?_
  obtain ⟨k1, h⟩ := h
  refine v_if_lt (tg := 21) DX9_line_1W (by decide) k1 (fun c2 => ?_) (fun c2 => ?_)
  · have h := h.1 c2
    refine v_ldc2 (x := (-1)) DX9_line_21W q3416 rfl <| v_goto (pc' := 37) DX9_line_24W.1 (by decide) <| ?_
    exact v_lret DX9_line_37W rfl h
  · have h := h.2 c2
    refine v_iload_n 1 DX9_line_4W rfl rfl <| v_aload_n 0 DX9_line_5W rfl rfl <| ?_
    refine w_getI (ci := 9) (kf := 133) (kz := 133) DX9_line_6W (s_555 hL) rfl (by decide) rfl (Or.inl q2357) (fun _ _ => rfl) (fun f3 => ?_)
    have h := h f3
    refine v_icmp_ge (tg := 21) DX9_line_9W (by decide) k1 f3 (fun c4 => ?_) (fun c4 => ?_)
    · have h := h.1 c4
      refine v_ldc2 (x := (-1)) DX9_line_21W q3416 rfl <| v_goto (pc' := 37) DX9_line_24W.1 (by decide) <| ?_
      exact v_lret DX9_line_37W rfl h
    · have h := h.2 c4
      refine v_iload_n 2 DX9_line_12W rfl rfl <| ?_
      obtain ⟨k5, h⟩ := h
      refine v_if_lt (tg := 21) DX9_line_13W (by decide) k5 (fun c6 => ?_) (fun c6 => ?_)
      · have h := h.1 c6
        refine v_ldc2 (x := (-1)) DX9_line_21W q3416 rfl <| v_goto (pc' := 37) DX9_line_24W.1 (by decide) <| ?_
        exact v_lret DX9_line_37W rfl h
      · have h := h.2 c6
        refine v_iload_n 2 DX9_line_16W rfl rfl <| v_iconst DX9_line_17W <| ?_
        refine v_icmp_le (tg := 27) DX9_line_18W (by decide) k5 ⟨by decide, by decide⟩ (fun c7 => ?_) (fun c7 => ?_)
        · have h := h.1 c7
          refine v_aload_n 0 DX9_line_27W rfl rfl <| w_getR (ci := 9) (kf := 138) (kz := 138) DX9_line_28W (s_555 hL) rfl (by decide) rfl (Or.inl q2362) (fun _ _ => rfl) (r_555_138 hL) <| v_iconst DX9_line_31W <| v_iload_n 1 DX9_line_32W rfl rfl <| v_imul DX9_line_33W <| v_iload_n 2 DX9_line_34W rfl rfl <| v_iadd DX9_line_35W <| ?_
          obtain ⟨k8, k9, h⟩ := h
          refine v_lald DX9_line_36W (s_653 hL) k8 k9 (fun f10 => ?_)
          have h := h f10
          exact v_lret DX9_line_37W rfl h
        · have h := h.2 c7
          refine v_ldc2 (x := (-1)) DX9_line_21W q3416 rfl <| v_goto (pc' := 37) DX9_line_24W.1 (by decide) <| ?_
          exact v_lret DX9_line_37W rfl h
theorem sp_X9_lineW {E : XE} {d : Nat} {σ : Sto} {x1 : Int} {x2 : Int} (hd : 1 ≤ d) (hL : Lay σ)  (p0 : inR x1) (p1 : inR x2) (p2 : 0 ≤ σ.I 555 133 ∧ σ.I 555 133 ≤ 130) : CC E mX9_line d [aO 555, aI (x1), aI (x2)] σ (RL σ (if ¬ (0 ≤ x1 ∧ x1 < σ.I 555 133) ∨ x2 < 0 ∨ 3 < x2 then -1 else σ.I 653 (4 * x1 + x2))) := by
  obtain ⟨d, rfl⟩ : ∃ e, d = e + 1 := ⟨d - 1, by omega⟩
  have p0a := p0.1; have p0b := p0.2
  have p1a := p1.1; have p1b := p1.2
  refine ucX9_line_0W  hL  ?_
  refine ⟨?_, ?_⟩
  · (first | exact ⟨by omega, by omega⟩ | (grind (splits := 16) (ematch := 30) (gen := 30) [-Prod, inR, inL]))
  refine ⟨fun c1 => ?_, fun c2 => ?_⟩
  · refine RL_mk ?_ ?_
    · (first | omega | (grind (splits := 16) (ematch := 30) (gen := 30) [-Prod, inR, inL]))
    · (first | exact ⟨by omega, by omega⟩ | (grind (splits := 16) (ematch := 30) (gen := 30) [-Prod, inR, inL]))
  · rintro ⟨f3, f3q⟩
    refine ⟨fun c4 => ?_, fun c5 => ?_⟩
    · refine RL_mk ?_ ?_
      · (first | omega | (grind (splits := 16) (ematch := 30) (gen := 30) [-Prod, inR, inL]))
      · (first | exact ⟨by omega, by omega⟩ | (grind (splits := 16) (ematch := 30) (gen := 30) [-Prod, inR, inL]))
    · refine ⟨?_, ?_⟩
      · (first | exact ⟨by omega, by omega⟩ | (grind (splits := 16) (ematch := 30) (gen := 30) [-Prod, inR, inL]))
      refine ⟨fun c6 => ?_, fun c7 => ?_⟩
      · refine RL_mk ?_ ?_
        · (first | omega | (grind (splits := 16) (ematch := 30) (gen := 30) [-Prod, inR, inL]))
        · (first | exact ⟨by omega, by omega⟩ | (grind (splits := 16) (ematch := 30) (gen := 30) [-Prod, inR, inL]))
      · refine ⟨fun c8 => ?_, fun c9 => ?_⟩
        · refine ⟨?_, ?_⟩
          · (first | omega | (grind (splits := 16) (ematch := 30) (gen := 30) [-Prod, inR, inL]))
          refine ⟨?_, ?_⟩
          · (first | omega | (grind (splits := 16) (ematch := 30) (gen := 30) [-Prod, inR, inL]))
          rintro ⟨f10, f10q⟩
          refine RL_mk ?_ ?_
          · (first | omega | (grind (splits := 16) (ematch := 30) (gen := 30) [-Prod, inR, inL]))
          · (first | exact ⟨by omega, by omega⟩ | (grind (splits := 16) (ematch := 30) (gen := 30) [-Prod, inR, inL]))
        · refine RL_mk ?_ ?_
          · (first | omega | (grind (splits := 16) (ematch := 30) (gen := 30) [-Prod, inR, inL]))
          · (first | exact ⟨by omega, by omega⟩ | (grind (splits := 16) (ematch := 30) (gen := 30) [-Prod, inR, inL]))
theorem DX0_mark_0W : DD cX0_mark 0 1 1 (.iload_n 1) := ⟨by decide +kernel, rfl⟩
theorem DX0_mark_1W : DD cX0_mark 1 1 2 (.iconst 0) := ⟨by decide +kernel, rfl⟩
theorem DX0_mark_2W : DD cX0_mark 2 1 3 (.aload_n 0) := ⟨by decide +kernel, rfl⟩
theorem DX0_mark_3W : DD cX0_mark 3 3 6 (.getfield 556) := ⟨by decide +kernel, rfl⟩
theorem DX0_mark_6W : DD cX0_mark 6 1 7 (.iconst 1) := ⟨by decide +kernel, rfl⟩
theorem DX0_mark_7W : DD cX0_mark 7 1 8 (.isub) := ⟨by decide +kernel, rfl⟩
theorem DX0_mark_8W : DD cX0_mark 8 3 11 (.invokestatic 18) := ⟨by decide +kernel, rfl⟩
theorem DX0_mark_11W : DD cX0_mark 11 3 14 (.ifCond .ne 5) := ⟨by decide +kernel, rfl⟩
theorem DX0_mark_14W : DD cX0_mark 14 1 15 (.iconst (-1)) := ⟨by decide +kernel, rfl⟩
theorem DX0_mark_15W : DD cX0_mark 15 1 16 (.ireturn) := ⟨by decide +kernel, rfl⟩
theorem DX0_mark_16W : DD cX0_mark 16 1 17 (.iload_n 2) := ⟨by decide +kernel, rfl⟩
theorem DX0_mark_17W : DD cX0_mark 17 27 44 (.tableswitch 48 0 2 #[27, 34, 41]) := ⟨by decide +kernel, rfl⟩
theorem DX0_mark_44W : DD cX0_mark 44 1 45 (.aload_n 0) := ⟨by decide +kernel, rfl⟩
theorem DX0_mark_45W : DD cX0_mark 45 3 48 (.getfield 293) := ⟨by decide +kernel, rfl⟩
theorem DX0_mark_48W : DD cX0_mark 48 1 49 (.iload_n 1) := ⟨by decide +kernel, rfl⟩
theorem DX0_mark_49W : DD cX0_mark 49 1 50 (.iaload) := ⟨by decide +kernel, rfl⟩
theorem DX0_mark_50W : DD cX0_mark 50 1 51 (.ireturn) := ⟨by decide +kernel, rfl⟩
theorem DX0_mark_51W : DD cX0_mark 51 1 52 (.aload_n 0) := ⟨by decide +kernel, rfl⟩
theorem DX0_mark_52W : DD cX0_mark 52 3 55 (.getfield 296) := ⟨by decide +kernel, rfl⟩
theorem DX0_mark_55W : DD cX0_mark 55 1 56 (.iload_n 1) := ⟨by decide +kernel, rfl⟩
theorem DX0_mark_56W : DD cX0_mark 56 1 57 (.iaload) := ⟨by decide +kernel, rfl⟩
theorem DX0_mark_57W : DD cX0_mark 57 1 58 (.ireturn) := ⟨by decide +kernel, rfl⟩
theorem DX0_mark_58W : DD cX0_mark 58 1 59 (.aload_n 0) := ⟨by decide +kernel, rfl⟩
theorem DX0_mark_59W : DD cX0_mark 59 3 62 (.getfield 299) := ⟨by decide +kernel, rfl⟩
theorem DX0_mark_62W : DD cX0_mark 62 1 63 (.iload_n 1) := ⟨by decide +kernel, rfl⟩
theorem DX0_mark_63W : DD cX0_mark 63 1 64 (.iaload) := ⟨by decide +kernel, rfl⟩
theorem DX0_mark_64W : DD cX0_mark 64 1 65 (.ireturn) := ⟨by decide +kernel, rfl⟩
theorem DX0_mark_65W : DD cX0_mark 65 1 66 (.iconst (-1)) := ⟨by decide +kernel, rfl⟩
theorem DX0_mark_66W : DD cX0_mark 66 1 67 (.ireturn) := ⟨by decide +kernel, rfl⟩
theorem ucX0_mark_0W {E : XE} {d : Nat} {σ : Sto} {Q : Res → Sto → Prop} {x1 : Int} {x2 : Int} (hL : Lay σ)  (h : (inR (σ.I 0 75) → 1 ≤ d ∧ (inR x1) ∧ (inR (0 : Int)) ∧ (inR ((σ.I 0 75) - 1)) ∧ (((0 : Int) ≤ x1 ∧ x1 ≤ ((σ.I 0 75) - 1)) → inR x2 ∧ (x2 = 0 → 0 ≤ x1 ∧ x1 < 6000 ∧ (inR (σ.I 193 x1) → Q (.inl (some (aI (σ.I 193 x1)))) σ)) ∧ (x2 = 1 → 0 ≤ x1 ∧ x1 < 6000 ∧ (inR (σ.I 194 x1) → Q (.inl (some (aI (σ.I 194 x1)))) σ)) ∧ (x2 = 2 → 0 ≤ x1 ∧ x1 < 6000 ∧ (inR (σ.I 195 x1) → Q (.inl (some (aI (σ.I 195 x1)))) σ)) ∧ ((x2 < 0 ∨ 2 < x2) → Q (.inl (some (aI (-1)))) σ)) ∧ (¬ ((0 : Int) ≤ x1 ∧ x1 ≤ ((σ.I 0 75) - 1)) → Q (.inl (some (aI (-1)))) σ))) : VV E mX0_mark (d + 1) 0 [(0, aO 0), (1, aI (x1)), (2, aI (x2))] [] σ Q := by
  refine v_iload_n 1 DX0_mark_0W rfl rfl <| v_iconst DX0_mark_1W <| v_aload_n 0 DX0_mark_2W rfl rfl <| ?_
  refine w_getI (ci := 0) (kf := 75) (kz := 75) DX0_mark_3W (s_0 hL) rfl (by decide) rfl (Or.inl q1121) (fun _ _ => rfl) (fun f1 => ?_)
  have h := h f1
  refine v_iconst DX0_mark_6W <| v_isub DX0_mark_7W <| ?_
  obtain ⟨k2, h⟩ := h
  obtain ⟨k3, k4, k5, h⟩ := h
  refine v_invS (as := [aI (x1), aI (0), aI ((σ.I 0 75) - 1)]) (st := []) DX0_mark_8W rfl okX0_isIn (Or.inl q300) q301 npX0_isIn (sp_X0_isIn (σ := σ) (x0 := x1) (x1 := (0 : Int)) (x2 := (σ.I 0 75) - 1) k2 hL k3 k4 k5) (Nat.le_of_ble_eq_true rfl) (Nat.le_refl _) (Nat.le_of_ble_eq_true rfl) (RZ_ret (fun c6 => ?_) (fun c6 => ?_)) RZ_thr
  · have h := h.1 c6
    refine v_if_ne (tg := 16) DX0_mark_11W (by decide) ⟨by decide, by decide⟩ (fun c7 => ?_) (fun c7 => absurd c7 (by decide))
    refine v_iload_n 2 DX0_mark_16W rfl rfl <| ?_
    obtain ⟨k8, h⟩ := h
    have hsw : x2 = 0 ∨ x2 = 1 ∨ x2 = 2 ∨ (x2 < 0 ∨ 2 < x2) := by omega
    rcases hsw with hsw | hsw | hsw | hsw
    · have h := h.1 hsw
      refine v_tsw (tg := 44) DX0_mark_17W.1 (v := 0) ⟨by decide, by decide⟩ hsw ⟨by decide, by decide⟩ rfl (by decide) ?_
      refine v_aload_n 0 DX0_mark_44W rfl rfl <| w_getR (ci := 0) (kf := 72) (kz := 72) DX0_mark_45W (s_0 hL) rfl (by decide) rfl (Or.inl q1118) (fun _ _ => rfl) (r_0_72 hL) <| v_iload_n 1 DX0_mark_48W rfl rfl <| ?_
      obtain ⟨k9, k10, h⟩ := h
      refine v_iald DX0_mark_49W (s_193 hL) k9 k10 (fun f11 => ?_)
      have h := h f11
      exact v_iret DX0_mark_50W rfl rfl h
    · have h := h.2.1 hsw
      refine v_tsw (tg := 51) DX0_mark_17W.1 (v := 1) ⟨by decide, by decide⟩ hsw ⟨by decide, by decide⟩ rfl (by decide) ?_
      refine v_aload_n 0 DX0_mark_51W rfl rfl <| w_getR (ci := 0) (kf := 73) (kz := 73) DX0_mark_52W (s_0 hL) rfl (by decide) rfl (Or.inl q1119) (fun _ _ => rfl) (r_0_73 hL) <| v_iload_n 1 DX0_mark_55W rfl rfl <| ?_
      obtain ⟨k12, k13, h⟩ := h
      refine v_iald DX0_mark_56W (s_194 hL) k12 k13 (fun f14 => ?_)
      have h := h f14
      exact v_iret DX0_mark_57W rfl rfl h
    · have h := h.2.2.1 hsw
      refine v_tsw (tg := 58) DX0_mark_17W.1 (v := 2) ⟨by decide, by decide⟩ hsw ⟨by decide, by decide⟩ rfl (by decide) ?_
      refine v_aload_n 0 DX0_mark_58W rfl rfl <| w_getR (ci := 0) (kf := 74) (kz := 74) DX0_mark_59W (s_0 hL) rfl (by decide) rfl (Or.inl q1120) (fun _ _ => rfl) (r_0_74 hL) <| v_iload_n 1 DX0_mark_62W rfl rfl <| ?_
      obtain ⟨k15, k16, h⟩ := h
      refine v_iald DX0_mark_63W (s_195 hL) k15 k16 (fun f17 => ?_)
      have h := h f17
      exact v_iret DX0_mark_64W rfl rfl h
    · have h := h.2.2.2 hsw
      refine v_tswO (tg := 65) DX0_mark_17W.1 k8 hsw (by decide) ?_
      refine v_iconst DX0_mark_65W <| ?_
      exact v_iret DX0_mark_66W rfl rfl h
  · have h := h.2 c6
    refine v_if_ne (tg := 16) DX0_mark_11W (by decide) ⟨by decide, by decide⟩ (fun c18 => absurd c18 (by decide)) (fun c18 => ?_)
    refine v_iconst DX0_mark_14W <| ?_
    exact v_iret DX0_mark_15W rfl rfl h
theorem sp_X0_markW {E : XE} {d : Nat} {σ : Sto} {x1 : Int} {x2 : Int} (hd : 2 ≤ d) (hL : Lay σ)  (p0 : inR x1) (p1 : inR x2) (p2 : 0 ≤ σ.I 0 75 ∧ σ.I 0 75 ≤ 6000) : CC E mX0_mark d [aO 0, aI (x1), aI (x2)] σ (RI σ (if ¬ (0 ≤ x1 ∧ x1 < σ.I 0 75) then -1 else if x2 = 0 then σ.I 193 x1 else if x2 = 1 then σ.I 194 x1 else if x2 = 2 then σ.I 195 x1 else -1)) := by
  obtain ⟨d, rfl⟩ : ∃ e, d = e + 1 := ⟨d - 1, by omega⟩
  have p0a := p0.1; have p0b := p0.2
  have p1a := p1.1; have p1b := p1.2
  refine ucX0_mark_0W  hL  ?_
  rintro ⟨f1, f1q⟩
  refine ⟨?_, ?_⟩
  · omega
  refine ⟨?_, ?_⟩
  · (first | omega | (grind (splits := 16) (ematch := 30) (gen := 30) [-Prod, inR, inL]))
  refine ⟨?_, ?_⟩
  · (first | omega | (grind (splits := 16) (ematch := 30) (gen := 30) [-Prod, inR, inL]))
  refine ⟨?_, ?_⟩
  · (first | omega | (grind (splits := 16) (ematch := 30) (gen := 30) [-Prod, inR, inL]))
  refine ⟨fun c2 => ?_, fun c3 => ?_⟩
  · refine ⟨?_, ?_⟩
    · (first | exact ⟨by omega, by omega⟩ | (grind (splits := 16) (ematch := 30) (gen := 30) [-Prod, inR, inL]))
    refine ⟨fun c4 => ?_, fun c5 => ?_, fun c6 => ?_, fun c7 => ?_⟩
    · refine ⟨?_, ?_⟩
      · (first | omega | (grind (splits := 16) (ematch := 30) (gen := 30) [-Prod, inR, inL]))
      refine ⟨?_, ?_⟩
      · (first | omega | (grind (splits := 16) (ematch := 30) (gen := 30) [-Prod, inR, inL]))
      rintro ⟨f8, f8q⟩
      refine RI_mk ?_ ?_
      · (first | omega | (grind (splits := 16) (ematch := 30) (gen := 30) [-Prod, inR, inL]))
      · (first | exact ⟨by omega, by omega⟩ | (grind (splits := 16) (ematch := 30) (gen := 30) [-Prod, inR, inL]))
    · refine ⟨?_, ?_⟩
      · (first | omega | (grind (splits := 16) (ematch := 30) (gen := 30) [-Prod, inR, inL]))
      refine ⟨?_, ?_⟩
      · (first | omega | (grind (splits := 16) (ematch := 30) (gen := 30) [-Prod, inR, inL]))
      rintro ⟨f9, f9q⟩
      refine RI_mk ?_ ?_
      · (first | omega | (grind (splits := 16) (ematch := 30) (gen := 30) [-Prod, inR, inL]))
      · (first | exact ⟨by omega, by omega⟩ | (grind (splits := 16) (ematch := 30) (gen := 30) [-Prod, inR, inL]))
    · refine ⟨?_, ?_⟩
      · (first | omega | (grind (splits := 16) (ematch := 30) (gen := 30) [-Prod, inR, inL]))
      refine ⟨?_, ?_⟩
      · (first | omega | (grind (splits := 16) (ematch := 30) (gen := 30) [-Prod, inR, inL]))
      rintro ⟨f10, f10q⟩
      refine RI_mk ?_ ?_
      · (first | omega | (grind (splits := 16) (ematch := 30) (gen := 30) [-Prod, inR, inL]))
      · (first | exact ⟨by omega, by omega⟩ | (grind (splits := 16) (ematch := 30) (gen := 30) [-Prod, inR, inL]))
    · refine RI_mk ?_ ?_
      · (first | omega | (grind (splits := 16) (ematch := 30) (gen := 30) [-Prod, inR, inL]))
      · (first | exact ⟨by omega, by omega⟩ | (grind (splits := 16) (ematch := 30) (gen := 30) [-Prod, inR, inL]))
  · refine RI_mk ?_ ?_
    · (first | omega | (grind (splits := 16) (ematch := 30) (gen := 30) [-Prod, inR, inL]))
    · (first | exact ⟨by omega, by omega⟩ | (grind (splits := 16) (ematch := 30) (gen := 30) [-Prod, inR, inL]))
theorem DX9_mark_0W : DD cX9_mark 0 1 1 (.iload_n 1) := ⟨by decide +kernel, rfl⟩
theorem DX9_mark_1W : DD cX9_mark 1 3 4 (.ifCond .lt 20) := ⟨by decide +kernel, rfl⟩
theorem DX9_mark_4W : DD cX9_mark 4 1 5 (.iload_n 1) := ⟨by decide +kernel, rfl⟩
theorem DX9_mark_5W : DD cX9_mark 5 1 6 (.aload_n 0) := ⟨by decide +kernel, rfl⟩
theorem DX9_mark_6W : DD cX9_mark 6 3 9 (.getfield 954) := ⟨by decide +kernel, rfl⟩
theorem DX9_mark_9W : DD cX9_mark 9 3 12 (.if_icmp .ge 12) := ⟨by decide +kernel, rfl⟩
theorem DX9_mark_12W : DD cX9_mark 12 1 13 (.iload_n 2) := ⟨by decide +kernel, rfl⟩
theorem DX9_mark_13W : DD cX9_mark 13 3 16 (.ifCond .lt 8) := ⟨by decide +kernel, rfl⟩
theorem DX9_mark_16W : DD cX9_mark 16 1 17 (.iload_n 2) := ⟨by decide +kernel, rfl⟩
theorem DX9_mark_17W : DD cX9_mark 17 1 18 (.iconst 2) := ⟨by decide +kernel, rfl⟩
theorem DX9_mark_18W : DD cX9_mark 18 3 21 (.if_icmp .le 7) := ⟨by decide +kernel, rfl⟩
theorem DX9_mark_21W : DD cX9_mark 21 1 22 (.iconst (-1)) := ⟨by decide +kernel, rfl⟩
theorem DX9_mark_22W : DD cX9_mark 22 3 25 (.goto 13) := ⟨by decide +kernel, rfl⟩
theorem DX9_mark_25W : DD cX9_mark 25 1 26 (.aload_n 0) := ⟨by decide +kernel, rfl⟩
theorem DX9_mark_26W : DD cX9_mark 26 3 29 (.getfield 330) := ⟨by decide +kernel, rfl⟩
theorem DX9_mark_29W : DD cX9_mark 29 1 30 (.iconst 3) := ⟨by decide +kernel, rfl⟩
theorem DX9_mark_30W : DD cX9_mark 30 1 31 (.iload_n 1) := ⟨by decide +kernel, rfl⟩
theorem DX9_mark_31W : DD cX9_mark 31 1 32 (.imul) := ⟨by decide +kernel, rfl⟩
theorem DX9_mark_32W : DD cX9_mark 32 1 33 (.iload_n 2) := ⟨by decide +kernel, rfl⟩
theorem DX9_mark_33W : DD cX9_mark 33 1 34 (.iadd) := ⟨by decide +kernel, rfl⟩
theorem DX9_mark_34W : DD cX9_mark 34 1 35 (.iaload) := ⟨by decide +kernel, rfl⟩
theorem DX9_mark_35W : DD cX9_mark 35 1 36 (.ireturn) := ⟨by decide +kernel, rfl⟩
theorem ucX9_mark_0W {E : XE} {d : Nat} {σ : Sto} {Q : Res → Sto → Prop} {x1 : Int} {x2 : Int} (hL : Lay σ)  (h : inR x1 ∧ (x1 < 0 → Q (.inl (some (aI (-1)))) σ) ∧ (0 ≤ x1 → (inR (σ.I 555 134) → ((σ.I 555 134) ≤ x1 → Q (.inl (some (aI (-1)))) σ) ∧ (x1 < (σ.I 555 134) → inR x2 ∧ (x2 < 0 → Q (.inl (some (aI (-1)))) σ) ∧ (0 ≤ x2 → (x2 ≤ 2 → 0 ≤ ((3 * x1) + x2) ∧ ((3 * x1) + x2) < 18000 ∧ (inR (σ.I 655 ((3 * x1) + x2)) → Q (.inl (some (aI (σ.I 655 ((3 * x1) + x2))))) σ)) ∧ (2 < x2 → Q (.inl (some (aI (-1)))) σ)))))) : VV E mX9_mark (d + 1) 0 [(0, aO 555), (1, aI (x1)), (2, aI (x2))] [] σ Q := by
  refine v_iload_n 1 DX9_mark_0W rfl rfl <| ?_
  obtain ⟨k1, h⟩ := h
  refine v_if_lt (tg := 21) DX9_mark_1W (by decide) k1 (fun c2 => ?_) (fun c2 => ?_)
  · have h := h.1 c2
    refine v_iconst DX9_mark_21W <| v_goto (pc' := 35) DX9_mark_22W.1 (by decide) <| ?_
    exact v_iret DX9_mark_35W rfl rfl h
  · have h := h.2 c2
    refine v_iload_n 1 DX9_mark_4W rfl rfl <| v_aload_n 0 DX9_mark_5W rfl rfl <| ?_
    refine w_getI (ci := 9) (kf := 134) (kz := 134) DX9_mark_6W (s_555 hL) rfl (by decide) rfl (Or.inl q2358) (fun _ _ => rfl) (fun f3 => ?_)
    have h := h f3
    refine v_icmp_ge (tg := 21) DX9_mark_9W (by decide) k1 f3 (fun c4 => ?_) (fun c4 => ?_)
    · have h := h.1 c4
      refine v_iconst DX9_mark_21W <| v_goto (pc' := 35) DX9_mark_22W.1 (by decide) <| ?_
      exact v_iret DX9_mark_35W rfl rfl h
    · have h := h.2 c4
      refine v_iload_n 2 DX9_mark_12W rfl rfl <| ?_
      obtain ⟨k5, h⟩ := h
      refine v_if_lt (tg := 21) DX9_mark_13W (by decide) k5 (fun c6 => ?_) (fun c6 => ?_)
      · have h := h.1 c6
        refine v_iconst DX9_mark_21W <| v_goto (pc' := 35) DX9_mark_22W.1 (by decide) <| ?_
        exact v_iret DX9_mark_35W rfl rfl h
      · have h := h.2 c6
        refine v_iload_n 2 DX9_mark_16W rfl rfl <| v_iconst DX9_mark_17W <| ?_
        refine v_icmp_le (tg := 25) DX9_mark_18W (by decide) k5 ⟨by decide, by decide⟩ (fun c7 => ?_) (fun c7 => ?_)
        · have h := h.1 c7
          refine v_aload_n 0 DX9_mark_25W rfl rfl <| w_getR (ci := 9) (kf := 140) (kz := 140) DX9_mark_26W (s_555 hL) rfl (by decide) rfl (Or.inl q2364) (fun _ _ => rfl) (r_555_140 hL) <| v_iconst DX9_mark_29W <| v_iload_n 1 DX9_mark_30W rfl rfl <| v_imul DX9_mark_31W <| v_iload_n 2 DX9_mark_32W rfl rfl <| v_iadd DX9_mark_33W <| ?_
          obtain ⟨k8, k9, h⟩ := h
          refine v_iald DX9_mark_34W (s_655 hL) k8 k9 (fun f10 => ?_)
          have h := h f10
          exact v_iret DX9_mark_35W rfl rfl h
        · have h := h.2 c7
          refine v_iconst DX9_mark_21W <| v_goto (pc' := 35) DX9_mark_22W.1 (by decide) <| ?_
          exact v_iret DX9_mark_35W rfl rfl h
theorem sp_X9_markW {E : XE} {d : Nat} {σ : Sto} {x1 : Int} {x2 : Int} (hd : 1 ≤ d) (hL : Lay σ)  (p0 : inR x1) (p1 : inR x2) (p2 : 0 ≤ σ.I 555 134 ∧ σ.I 555 134 ≤ 6000) : CC E mX9_mark d [aO 555, aI (x1), aI (x2)] σ (RI σ (if ¬ (0 ≤ x1 ∧ x1 < σ.I 555 134) ∨ x2 < 0 ∨ 2 < x2 then -1 else σ.I 655 (3 * x1 + x2))) := by
  obtain ⟨d, rfl⟩ : ∃ e, d = e + 1 := ⟨d - 1, by omega⟩
  have p0a := p0.1; have p0b := p0.2
  have p1a := p1.1; have p1b := p1.2
  refine ucX9_mark_0W  hL  ?_
  refine ⟨?_, ?_⟩
  · (first | exact ⟨by omega, by omega⟩ | (grind (splits := 16) (ematch := 30) (gen := 30) [-Prod, inR, inL]))
  refine ⟨fun c1 => ?_, fun c2 => ?_⟩
  · refine RI_mk ?_ ?_
    · (first | omega | (grind (splits := 16) (ematch := 30) (gen := 30) [-Prod, inR, inL]))
    · (first | exact ⟨by omega, by omega⟩ | (grind (splits := 16) (ematch := 30) (gen := 30) [-Prod, inR, inL]))
  · rintro ⟨f3, f3q⟩
    refine ⟨fun c4 => ?_, fun c5 => ?_⟩
    · refine RI_mk ?_ ?_
      · (first | omega | (grind (splits := 16) (ematch := 30) (gen := 30) [-Prod, inR, inL]))
      · (first | exact ⟨by omega, by omega⟩ | (grind (splits := 16) (ematch := 30) (gen := 30) [-Prod, inR, inL]))
    · refine ⟨?_, ?_⟩
      · (first | exact ⟨by omega, by omega⟩ | (grind (splits := 16) (ematch := 30) (gen := 30) [-Prod, inR, inL]))
      refine ⟨fun c6 => ?_, fun c7 => ?_⟩
      · refine RI_mk ?_ ?_
        · (first | omega | (grind (splits := 16) (ematch := 30) (gen := 30) [-Prod, inR, inL]))
        · (first | exact ⟨by omega, by omega⟩ | (grind (splits := 16) (ematch := 30) (gen := 30) [-Prod, inR, inL]))
      · refine ⟨fun c8 => ?_, fun c9 => ?_⟩
        · refine ⟨?_, ?_⟩
          · (first | omega | (grind (splits := 16) (ematch := 30) (gen := 30) [-Prod, inR, inL]))
          refine ⟨?_, ?_⟩
          · (first | omega | (grind (splits := 16) (ematch := 30) (gen := 30) [-Prod, inR, inL]))
          rintro ⟨f10, f10q⟩
          refine RI_mk ?_ ?_
          · (first | omega | (grind (splits := 16) (ematch := 30) (gen := 30) [-Prod, inR, inL]))
          · (first | exact ⟨by omega, by omega⟩ | (grind (splits := 16) (ematch := 30) (gen := 30) [-Prod, inR, inL]))
        · refine RI_mk ?_ ?_
          · (first | omega | (grind (splits := 16) (ematch := 30) (gen := 30) [-Prod, inR, inL]))
          · (first | exact ⟨by omega, by omega⟩ | (grind (splits := 16) (ematch := 30) (gen := 30) [-Prod, inR, inL]))
theorem DX0_matched_0W : DD cX0_matched 0 1 1 (.iload_n 1) := ⟨by decide +kernel, rfl⟩
theorem DX0_matched_1W : DD cX0_matched 1 1 2 (.iconst 0) := ⟨by decide +kernel, rfl⟩
theorem DX0_matched_2W : DD cX0_matched 2 1 3 (.aload_n 0) := ⟨by decide +kernel, rfl⟩
theorem DX0_matched_3W : DD cX0_matched 3 3 6 (.getfield 720) := ⟨by decide +kernel, rfl⟩
theorem DX0_matched_6W : DD cX0_matched 6 1 7 (.iconst 1) := ⟨by decide +kernel, rfl⟩
theorem DX0_matched_7W : DD cX0_matched 7 1 8 (.isub) := ⟨by decide +kernel, rfl⟩
theorem DX0_matched_8W : DD cX0_matched 8 3 11 (.invokestatic 18) := ⟨by decide +kernel, rfl⟩
theorem DX0_matched_11W : DD cX0_matched 11 3 14 (.ifCond .eq 12) := ⟨by decide +kernel, rfl⟩
theorem DX0_matched_14W : DD cX0_matched 14 1 15 (.aload_n 0) := ⟨by decide +kernel, rfl⟩
theorem DX0_matched_15W : DD cX0_matched 15 3 18 (.getfield 341) := ⟨by decide +kernel, rfl⟩
theorem DX0_matched_18W : DD cX0_matched 18 1 19 (.iload_n 1) := ⟨by decide +kernel, rfl⟩
theorem DX0_matched_19W : DD cX0_matched 19 1 20 (.iaload) := ⟨by decide +kernel, rfl⟩
theorem DX0_matched_20W : DD cX0_matched 20 3 23 (.goto 4) := ⟨by decide +kernel, rfl⟩
theorem DX0_matched_23W : DD cX0_matched 23 1 24 (.iconst (-1)) := ⟨by decide +kernel, rfl⟩
theorem DX0_matched_24W : DD cX0_matched 24 1 25 (.ireturn) := ⟨by decide +kernel, rfl⟩
theorem ucX0_matched_0W {E : XE} {d : Nat} {σ : Sto} {Q : Res → Sto → Prop} {x1 : Int} (hL : Lay σ)  (h : (inR (σ.I 0 94) → 1 ≤ d ∧ (inR x1) ∧ (inR (0 : Int)) ∧ (inR ((σ.I 0 94) - 1)) ∧ (((0 : Int) ≤ x1 ∧ x1 ≤ ((σ.I 0 94) - 1)) → 0 ≤ x1 ∧ x1 < 20 ∧ (inR (σ.I 209 x1) → Q (.inl (some (aI (σ.I 209 x1)))) σ)) ∧ (¬ ((0 : Int) ≤ x1 ∧ x1 ≤ ((σ.I 0 94) - 1)) → Q (.inl (some (aI (-1)))) σ))) : VV E mX0_matched (d + 1) 0 [(0, aO 0), (1, aI (x1))] [] σ Q := by
  refine v_iload_n 1 DX0_matched_0W rfl rfl <| v_iconst DX0_matched_1W <| v_aload_n 0 DX0_matched_2W rfl rfl <| ?_
  refine w_getI (ci := 0) (kf := 94) (kz := 94) DX0_matched_3W (s_0 hL) rfl (by decide) rfl (Or.inl q1140) (fun _ _ => rfl) (fun f1 => ?_)
  have h := h f1
  refine v_iconst DX0_matched_6W <| v_isub DX0_matched_7W <| ?_
  obtain ⟨k2, h⟩ := h
  obtain ⟨k3, k4, k5, h⟩ := h
  refine v_invS (as := [aI (x1), aI (0), aI ((σ.I 0 94) - 1)]) (st := []) DX0_matched_8W rfl okX0_isIn (Or.inl q300) q301 npX0_isIn (sp_X0_isIn (σ := σ) (x0 := x1) (x1 := (0 : Int)) (x2 := (σ.I 0 94) - 1) k2 hL k3 k4 k5) (Nat.le_of_ble_eq_true rfl) (Nat.le_refl _) (Nat.le_of_ble_eq_true rfl) (RZ_ret (fun c6 => ?_) (fun c6 => ?_)) RZ_thr
  · have h := h.1 c6
    refine v_if_eq (tg := 23) DX0_matched_11W (by decide) ⟨by decide, by decide⟩ (fun c7 => absurd c7 (by decide)) (fun c7 => ?_)
    refine v_aload_n 0 DX0_matched_14W rfl rfl <| w_getR (ci := 0) (kf := 93) (kz := 93) DX0_matched_15W (s_0 hL) rfl (by decide) rfl (Or.inl q1139) (fun _ _ => rfl) (r_0_93 hL) <| v_iload_n 1 DX0_matched_18W rfl rfl <| ?_
    obtain ⟨k8, k9, h⟩ := h
    refine v_iald DX0_matched_19W (s_209 hL) k8 k9 (fun f10 => ?_)
    have h := h f10
    refine v_goto (pc' := 24) DX0_matched_20W.1 (by decide) <| ?_
    exact v_iret DX0_matched_24W rfl rfl h
  · have h := h.2 c6
    refine v_if_eq (tg := 23) DX0_matched_11W (by decide) ⟨by decide, by decide⟩ (fun c11 => ?_) (fun c11 => absurd c11 (by decide))
    refine v_iconst DX0_matched_23W <| ?_
    exact v_iret DX0_matched_24W rfl rfl h
theorem sp_X0_matchedW {E : XE} {d : Nat} {σ : Sto} {x1 : Int} (hd : 2 ≤ d) (hL : Lay σ)  (p0 : inR x1) (p1 : 0 ≤ σ.I 0 94 ∧ σ.I 0 94 ≤ 20) : CC E mX0_matched d [aO 0, aI (x1)] σ (RI σ (if (0 ≤ x1 ∧ x1 < σ.I 0 94) then σ.I 209 x1 else -1)) := by
  obtain ⟨d, rfl⟩ : ∃ e, d = e + 1 := ⟨d - 1, by omega⟩
  have p0a := p0.1; have p0b := p0.2
  refine ucX0_matched_0W  hL  ?_
  rintro ⟨f1, f1q⟩
  refine ⟨?_, ?_⟩
  · omega
  refine ⟨?_, ?_⟩
  · (first | omega | (grind (splits := 16) (ematch := 30) (gen := 30) [-Prod, inR, inL]))
  refine ⟨?_, ?_⟩
  · (first | omega | (grind (splits := 16) (ematch := 30) (gen := 30) [-Prod, inR, inL]))
  refine ⟨?_, ?_⟩
  · (first | omega | (grind (splits := 16) (ematch := 30) (gen := 30) [-Prod, inR, inL]))
  refine ⟨fun c2 => ?_, fun c3 => ?_⟩
  · refine ⟨?_, ?_⟩
    · (first | omega | (grind (splits := 16) (ematch := 30) (gen := 30) [-Prod, inR, inL]))
    refine ⟨?_, ?_⟩
    · (first | omega | (grind (splits := 16) (ematch := 30) (gen := 30) [-Prod, inR, inL]))
    rintro ⟨f4, f4q⟩
    refine RI_mk ?_ ?_
    · (first | omega | (grind (splits := 16) (ematch := 30) (gen := 30) [-Prod, inR, inL]))
    · (first | exact ⟨by omega, by omega⟩ | (grind (splits := 16) (ematch := 30) (gen := 30) [-Prod, inR, inL]))
  · refine RI_mk ?_ ?_
    · (first | omega | (grind (splits := 16) (ematch := 30) (gen := 30) [-Prod, inR, inL]))
    · (first | exact ⟨by omega, by omega⟩ | (grind (splits := 16) (ematch := 30) (gen := 30) [-Prod, inR, inL]))
theorem DX9_matched_0W : DD cX9_matched 0 1 1 (.iload_n 1) := ⟨by decide +kernel, rfl⟩
theorem DX9_matched_1W : DD cX9_matched 1 3 4 (.ifCond .lt 11) := ⟨by decide +kernel, rfl⟩
theorem DX9_matched_4W : DD cX9_matched 4 1 5 (.iload_n 1) := ⟨by decide +kernel, rfl⟩
theorem DX9_matched_5W : DD cX9_matched 5 1 6 (.aload_n 0) := ⟨by decide +kernel, rfl⟩
theorem DX9_matched_6W : DD cX9_matched 6 3 9 (.getfield 1100) := ⟨by decide +kernel, rfl⟩
theorem DX9_matched_9W : DD cX9_matched 9 3 12 (.if_icmp .lt 7) := ⟨by decide +kernel, rfl⟩
theorem DX9_matched_12W : DD cX9_matched 12 1 13 (.iconst (-1)) := ⟨by decide +kernel, rfl⟩
theorem DX9_matched_13W : DD cX9_matched 13 3 16 (.goto 9) := ⟨by decide +kernel, rfl⟩
theorem DX9_matched_16W : DD cX9_matched 16 1 17 (.aload_n 0) := ⟨by decide +kernel, rfl⟩
theorem DX9_matched_17W : DD cX9_matched 17 3 20 (.getfield 382) := ⟨by decide +kernel, rfl⟩
theorem DX9_matched_20W : DD cX9_matched 20 1 21 (.iload_n 1) := ⟨by decide +kernel, rfl⟩
theorem DX9_matched_21W : DD cX9_matched 21 1 22 (.iaload) := ⟨by decide +kernel, rfl⟩
theorem DX9_matched_22W : DD cX9_matched 22 1 23 (.ireturn) := ⟨by decide +kernel, rfl⟩
theorem ucX9_matched_0W {E : XE} {d : Nat} {σ : Sto} {Q : Res → Sto → Prop} {x1 : Int} (hL : Lay σ)  (h : inR x1 ∧ (x1 < 0 → Q (.inl (some (aI (-1)))) σ) ∧ (0 ≤ x1 → (inR (σ.I 555 160) → (x1 < (σ.I 555 160) → 0 ≤ x1 ∧ x1 < 20 ∧ (inR (σ.I 672 x1) → Q (.inl (some (aI (σ.I 672 x1)))) σ)) ∧ ((σ.I 555 160) ≤ x1 → Q (.inl (some (aI (-1)))) σ)))) : VV E mX9_matched (d + 1) 0 [(0, aO 555), (1, aI (x1))] [] σ Q := by
  refine v_iload_n 1 DX9_matched_0W rfl rfl <| ?_
  obtain ⟨k1, h⟩ := h
  refine v_if_lt (tg := 12) DX9_matched_1W (by decide) k1 (fun c2 => ?_) (fun c2 => ?_)
  · have h := h.1 c2
    refine v_iconst DX9_matched_12W <| v_goto (pc' := 22) DX9_matched_13W.1 (by decide) <| ?_
    exact v_iret DX9_matched_22W rfl rfl h
  · have h := h.2 c2
    refine v_iload_n 1 DX9_matched_4W rfl rfl <| v_aload_n 0 DX9_matched_5W rfl rfl <| ?_
    refine w_getI (ci := 9) (kf := 160) (kz := 160) DX9_matched_6W (s_555 hL) rfl (by decide) rfl (Or.inl q2384) (fun _ _ => rfl) (fun f3 => ?_)
    have h := h f3
    refine v_icmp_lt (tg := 16) DX9_matched_9W (by decide) k1 f3 (fun c4 => ?_) (fun c4 => ?_)
    · have h := h.1 c4
      refine v_aload_n 0 DX9_matched_16W rfl rfl <| w_getR (ci := 9) (kf := 161) (kz := 161) DX9_matched_17W (s_555 hL) rfl (by decide) rfl (Or.inl q2385) (fun _ _ => rfl) (r_555_161 hL) <| v_iload_n 1 DX9_matched_20W rfl rfl <| ?_
      obtain ⟨k5, k6, h⟩ := h
      refine v_iald DX9_matched_21W (s_672 hL) k5 k6 (fun f7 => ?_)
      have h := h f7
      exact v_iret DX9_matched_22W rfl rfl h
    · have h := h.2 c4
      refine v_iconst DX9_matched_12W <| v_goto (pc' := 22) DX9_matched_13W.1 (by decide) <| ?_
      exact v_iret DX9_matched_22W rfl rfl h
theorem sp_X9_matchedW {E : XE} {d : Nat} {σ : Sto} {x1 : Int} (hd : 1 ≤ d) (hL : Lay σ)  (p0 : inR x1) (p1 : 0 ≤ σ.I 555 160 ∧ σ.I 555 160 ≤ 20) : CC E mX9_matched d [aO 555, aI (x1)] σ (RI σ (if (0 ≤ x1 ∧ x1 < σ.I 555 160) then σ.I 672 x1 else -1)) := by
  obtain ⟨d, rfl⟩ : ∃ e, d = e + 1 := ⟨d - 1, by omega⟩
  have p0a := p0.1; have p0b := p0.2
  refine ucX9_matched_0W  hL  ?_
  refine ⟨?_, ?_⟩
  · (first | exact ⟨by omega, by omega⟩ | (grind (splits := 16) (ematch := 30) (gen := 30) [-Prod, inR, inL]))
  refine ⟨fun c1 => ?_, fun c2 => ?_⟩
  · refine RI_mk ?_ ?_
    · (first | omega | (grind (splits := 16) (ematch := 30) (gen := 30) [-Prod, inR, inL]))
    · (first | exact ⟨by omega, by omega⟩ | (grind (splits := 16) (ematch := 30) (gen := 30) [-Prod, inR, inL]))
  · rintro ⟨f3, f3q⟩
    refine ⟨fun c4 => ?_, fun c5 => ?_⟩
    · refine ⟨?_, ?_⟩
      · (first | omega | (grind (splits := 16) (ematch := 30) (gen := 30) [-Prod, inR, inL]))
      refine ⟨?_, ?_⟩
      · (first | omega | (grind (splits := 16) (ematch := 30) (gen := 30) [-Prod, inR, inL]))
      rintro ⟨f6, f6q⟩
      refine RI_mk ?_ ?_
      · (first | omega | (grind (splits := 16) (ematch := 30) (gen := 30) [-Prod, inR, inL]))
      · (first | exact ⟨by omega, by omega⟩ | (grind (splits := 16) (ematch := 30) (gen := 30) [-Prod, inR, inL]))
    · refine RI_mk ?_ ?_
      · (first | omega | (grind (splits := 16) (ematch := 30) (gen := 30) [-Prod, inR, inL]))
      · (first | exact ⟨by omega, by omega⟩ | (grind (splits := 16) (ematch := 30) (gen := 30) [-Prod, inR, inL]))
theorem DX0_term_0W : DD cX0_term 0 1 1 (.iload_n 1) := ⟨by decide +kernel, rfl⟩
theorem DX0_term_1W : DD cX0_term 1 1 2 (.iconst 0) := ⟨by decide +kernel, rfl⟩
theorem DX0_term_2W : DD cX0_term 2 1 3 (.aload_n 0) := ⟨by decide +kernel, rfl⟩
theorem DX0_term_3W : DD cX0_term 3 3 6 (.getfield 668) := ⟨by decide +kernel, rfl⟩
theorem DX0_term_6W : DD cX0_term 6 1 7 (.iconst 1) := ⟨by decide +kernel, rfl⟩
theorem DX0_term_7W : DD cX0_term 7 1 8 (.isub) := ⟨by decide +kernel, rfl⟩
theorem DX0_term_8W : DD cX0_term 8 3 11 (.invokestatic 18) := ⟨by decide +kernel, rfl⟩
theorem DX0_term_11W : DD cX0_term 11 3 14 (.ifCond .ne 5) := ⟨by decide +kernel, rfl⟩
theorem DX0_term_14W : DD cX0_term 14 1 15 (.iconst (-1)) := ⟨by decide +kernel, rfl⟩
theorem DX0_term_15W : DD cX0_term 15 1 16 (.ireturn) := ⟨by decide +kernel, rfl⟩
theorem DX0_term_16W : DD cX0_term 16 1 17 (.iload_n 2) := ⟨by decide +kernel, rfl⟩
theorem DX0_term_17W : DD cX0_term 17 3 20 (.ifCond .ne 12) := ⟨by decide +kernel, rfl⟩
theorem DX0_term_20W : DD cX0_term 20 1 21 (.aload_n 0) := ⟨by decide +kernel, rfl⟩
theorem DX0_term_21W : DD cX0_term 21 3 24 (.getfield 329) := ⟨by decide +kernel, rfl⟩
theorem DX0_term_24W : DD cX0_term 24 1 25 (.iload_n 1) := ⟨by decide +kernel, rfl⟩
theorem DX0_term_25W : DD cX0_term 25 1 26 (.iaload) := ⟨by decide +kernel, rfl⟩
theorem DX0_term_26W : DD cX0_term 26 3 29 (.goto 32) := ⟨by decide +kernel, rfl⟩
theorem DX0_term_29W : DD cX0_term 29 1 30 (.iload_n 2) := ⟨by decide +kernel, rfl⟩
theorem DX0_term_30W : DD cX0_term 30 1 31 (.iconst 1) := ⟨by decide +kernel, rfl⟩
theorem DX0_term_31W : DD cX0_term 31 3 34 (.if_icmp .ne 12) := ⟨by decide +kernel, rfl⟩
theorem DX0_term_34W : DD cX0_term 34 1 35 (.aload_n 0) := ⟨by decide +kernel, rfl⟩
theorem DX0_term_35W : DD cX0_term 35 3 38 (.getfield 320) := ⟨by decide +kernel, rfl⟩
theorem DX0_term_38W : DD cX0_term 38 1 39 (.iload_n 1) := ⟨by decide +kernel, rfl⟩
theorem DX0_term_39W : DD cX0_term 39 1 40 (.iaload) := ⟨by decide +kernel, rfl⟩
theorem DX0_term_40W : DD cX0_term 40 3 43 (.goto 18) := ⟨by decide +kernel, rfl⟩
theorem DX0_term_43W : DD cX0_term 43 1 44 (.iload_n 2) := ⟨by decide +kernel, rfl⟩
theorem DX0_term_44W : DD cX0_term 44 1 45 (.iconst 2) := ⟨by decide +kernel, rfl⟩
theorem DX0_term_45W : DD cX0_term 45 3 48 (.if_icmp .ne 12) := ⟨by decide +kernel, rfl⟩
theorem DX0_term_48W : DD cX0_term 48 1 49 (.aload_n 0) := ⟨by decide +kernel, rfl⟩
theorem DX0_term_49W : DD cX0_term 49 3 52 (.getfield 323) := ⟨by decide +kernel, rfl⟩
theorem DX0_term_52W : DD cX0_term 52 1 53 (.iload_n 1) := ⟨by decide +kernel, rfl⟩
theorem DX0_term_53W : DD cX0_term 53 1 54 (.iaload) := ⟨by decide +kernel, rfl⟩
theorem DX0_term_54W : DD cX0_term 54 3 57 (.goto 4) := ⟨by decide +kernel, rfl⟩
theorem DX0_term_57W : DD cX0_term 57 1 58 (.iconst (-1)) := ⟨by decide +kernel, rfl⟩
theorem DX0_term_58W : DD cX0_term 58 1 59 (.ireturn) := ⟨by decide +kernel, rfl⟩
theorem ucX0_term_0W {E : XE} {d : Nat} {σ : Sto} {Q : Res → Sto → Prop} {x1 : Int} {x2 : Int} (hL : Lay σ)  (h : (inR (σ.I 0 88) → 1 ≤ d ∧ (inR x1) ∧ (inR (0 : Int)) ∧ (inR ((σ.I 0 88) - 1)) ∧ (((0 : Int) ≤ x1 ∧ x1 ≤ ((σ.I 0 88) - 1)) → inR x2 ∧ (x2 ≠ 0 → (x2 ≠ 1 → (x2 ≠ 2 → Q (.inl (some (aI (-1)))) σ) ∧ (x2 = 2 → 0 ≤ x1 ∧ x1 < 11 ∧ (inR (σ.I 203 x1) → Q (.inl (some (aI (σ.I 203 x1)))) σ))) ∧ (x2 = 1 → 0 ≤ x1 ∧ x1 < 11 ∧ (inR (σ.I 202 x1) → Q (.inl (some (aI (σ.I 202 x1)))) σ))) ∧ (x2 = 0 → 0 ≤ x1 ∧ x1 < 10 ∧ (inR (σ.I 205 x1) → Q (.inl (some (aI (σ.I 205 x1)))) σ))) ∧ (¬ ((0 : Int) ≤ x1 ∧ x1 ≤ ((σ.I 0 88) - 1)) → Q (.inl (some (aI (-1)))) σ))) : VV E mX0_term (d + 1) 0 [(0, aO 0), (1, aI (x1)), (2, aI (x2))] [] σ Q := by
  refine v_iload_n 1 DX0_term_0W rfl rfl <| v_iconst DX0_term_1W <| v_aload_n 0 DX0_term_2W rfl rfl <| ?_
  refine w_getI (ci := 0) (kf := 88) (kz := 88) DX0_term_3W (s_0 hL) rfl (by decide) rfl (Or.inl q1134) (fun _ _ => rfl) (fun f1 => ?_)
  have h := h f1
  refine v_iconst DX0_term_6W <| v_isub DX0_term_7W <| ?_
  obtain ⟨k2, h⟩ := h
  obtain ⟨k3, k4, k5, h⟩ := h
  refine v_invS (as := [aI (x1), aI (0), aI ((σ.I 0 88) - 1)]) (st := []) DX0_term_8W rfl okX0_isIn (Or.inl q300) q301 npX0_isIn (sp_X0_isIn (σ := σ) (x0 := x1) (x1 := (0 : Int)) (x2 := (σ.I 0 88) - 1) k2 hL k3 k4 k5) (Nat.le_of_ble_eq_true rfl) (Nat.le_refl _) (Nat.le_of_ble_eq_true rfl) (RZ_ret (fun c6 => ?_) (fun c6 => ?_)) RZ_thr
  · have h := h.1 c6
    refine v_if_ne (tg := 16) DX0_term_11W (by decide) ⟨by decide, by decide⟩ (fun c7 => ?_) (fun c7 => absurd c7 (by decide))
    refine v_iload_n 2 DX0_term_16W rfl rfl <| ?_
    obtain ⟨k8, h⟩ := h
    refine v_if_ne (tg := 29) DX0_term_17W (by decide) k8 (fun c9 => ?_) (fun c9 => ?_)
    · have h := h.1 c9
      refine v_iload_n 2 DX0_term_29W rfl rfl <| v_iconst DX0_term_30W <| ?_
      refine v_icmp_ne (tg := 43) DX0_term_31W (by decide) k8 ⟨by decide, by decide⟩ (fun c10 => ?_) (fun c10 => ?_)
      · have h := h.1 c10
        refine v_iload_n 2 DX0_term_43W rfl rfl <| v_iconst DX0_term_44W <| ?_
        refine v_icmp_ne (tg := 57) DX0_term_45W (by decide) k8 ⟨by decide, by decide⟩ (fun c11 => ?_) (fun c11 => ?_)
        · have h := h.1 c11
          refine v_iconst DX0_term_57W <| ?_
          exact v_iret DX0_term_58W rfl rfl h
        · have h := h.2 c11
          refine v_aload_n 0 DX0_term_48W rfl rfl <| w_getR (ci := 0) (kf := 85) (kz := 85) DX0_term_49W (s_0 hL) rfl (by decide) rfl (Or.inl q1131) (fun _ _ => rfl) (r_0_85 hL) <| v_iload_n 1 DX0_term_52W rfl rfl <| ?_
          obtain ⟨k12, k13, h⟩ := h
          refine v_iald DX0_term_53W (s_203 hL) k12 k13 (fun f14 => ?_)
          have h := h f14
          refine v_goto (pc' := 58) DX0_term_54W.1 (by decide) <| ?_
          exact v_iret DX0_term_58W rfl rfl h
      · have h := h.2 c10
        refine v_aload_n 0 DX0_term_34W rfl rfl <| w_getR (ci := 0) (kf := 84) (kz := 84) DX0_term_35W (s_0 hL) rfl (by decide) rfl (Or.inl q1130) (fun _ _ => rfl) (r_0_84 hL) <| v_iload_n 1 DX0_term_38W rfl rfl <| ?_
        obtain ⟨k15, k16, h⟩ := h
        refine v_iald DX0_term_39W (s_202 hL) k15 k16 (fun f17 => ?_)
        have h := h f17
        refine v_goto (pc' := 58) DX0_term_40W.1 (by decide) <| ?_
        exact v_iret DX0_term_58W rfl rfl h
    · have h := h.2 c9
      refine v_aload_n 0 DX0_term_20W rfl rfl <| w_getR (ci := 0) (kf := 87) (kz := 87) DX0_term_21W (s_0 hL) rfl (by decide) rfl (Or.inl q1133) (fun _ _ => rfl) (r_0_87 hL) <| v_iload_n 1 DX0_term_24W rfl rfl <| ?_
      obtain ⟨k18, k19, h⟩ := h
      refine v_iald DX0_term_25W (s_205 hL) k18 k19 (fun f20 => ?_)
      have h := h f20
      refine v_goto (pc' := 58) DX0_term_26W.1 (by decide) <| ?_
      exact v_iret DX0_term_58W rfl rfl h
  · have h := h.2 c6
    refine v_if_ne (tg := 16) DX0_term_11W (by decide) ⟨by decide, by decide⟩ (fun c21 => absurd c21 (by decide)) (fun c21 => ?_)
    refine v_iconst DX0_term_14W <| ?_
    exact v_iret DX0_term_15W rfl rfl h
theorem sp_X0_termW {E : XE} {d : Nat} {σ : Sto} {x1 : Int} {x2 : Int} (hd : 2 ≤ d) (hL : Lay σ)  (p0 : inR x1) (p1 : inR x2) (p2 : 0 ≤ σ.I 0 88 ∧ σ.I 0 88 ≤ 10) : CC E mX0_term d [aO 0, aI (x1), aI (x2)] σ (RI σ (if ¬ (0 ≤ x1 ∧ x1 < σ.I 0 88) then -1 else if x2 = 0 then σ.I 205 x1 else if x2 = 1 then σ.I 202 x1 else if x2 = 2 then σ.I 203 x1 else -1)) := by
  obtain ⟨d, rfl⟩ : ∃ e, d = e + 1 := ⟨d - 1, by omega⟩
  have p0a := p0.1; have p0b := p0.2
  have p1a := p1.1; have p1b := p1.2
  refine ucX0_term_0W  hL  ?_
  rintro ⟨f1, f1q⟩
  refine ⟨?_, ?_⟩
  · omega
  refine ⟨?_, ?_⟩
  · (first | omega | (grind (splits := 16) (ematch := 30) (gen := 30) [-Prod, inR, inL]))
  refine ⟨?_, ?_⟩
  · (first | omega | (grind (splits := 16) (ematch := 30) (gen := 30) [-Prod, inR, inL]))
  refine ⟨?_, ?_⟩
  · (first | omega | (grind (splits := 16) (ematch := 30) (gen := 30) [-Prod, inR, inL]))
  refine ⟨fun c2 => ?_, fun c3 => ?_⟩
  · refine ⟨?_, ?_⟩
    · (first | exact ⟨by omega, by omega⟩ | (grind (splits := 16) (ematch := 30) (gen := 30) [-Prod, inR, inL]))
    refine ⟨fun c4 => ?_, fun c5 => ?_⟩
    · refine ⟨fun c6 => ?_, fun c7 => ?_⟩
      · refine ⟨fun c8 => ?_, fun c9 => ?_⟩
        · refine RI_mk ?_ ?_
          · (first | omega | (grind (splits := 16) (ematch := 30) (gen := 30) [-Prod, inR, inL]))
          · (first | exact ⟨by omega, by omega⟩ | (grind (splits := 16) (ematch := 30) (gen := 30) [-Prod, inR, inL]))
        · refine ⟨?_, ?_⟩
          · (first | omega | (grind (splits := 16) (ematch := 30) (gen := 30) [-Prod, inR, inL]))
          refine ⟨?_, ?_⟩
          · (first | omega | (grind (splits := 16) (ematch := 30) (gen := 30) [-Prod, inR, inL]))
          rintro ⟨f10, f10q⟩
          refine RI_mk ?_ ?_
          · (first | omega | (grind (splits := 16) (ematch := 30) (gen := 30) [-Prod, inR, inL]))
          · (first | exact ⟨by omega, by omega⟩ | (grind (splits := 16) (ematch := 30) (gen := 30) [-Prod, inR, inL]))
      · refine ⟨?_, ?_⟩
        · (first | omega | (grind (splits := 16) (ematch := 30) (gen := 30) [-Prod, inR, inL]))
        refine ⟨?_, ?_⟩
        · (first | omega | (grind (splits := 16) (ematch := 30) (gen := 30) [-Prod, inR, inL]))
        rintro ⟨f11, f11q⟩
        refine RI_mk ?_ ?_
        · (first | omega | (grind (splits := 16) (ematch := 30) (gen := 30) [-Prod, inR, inL]))
        · (first | exact ⟨by omega, by omega⟩ | (grind (splits := 16) (ematch := 30) (gen := 30) [-Prod, inR, inL]))
    · refine ⟨?_, ?_⟩
      · (first | omega | (grind (splits := 16) (ematch := 30) (gen := 30) [-Prod, inR, inL]))
      refine ⟨?_, ?_⟩
      · (first | omega | (grind (splits := 16) (ematch := 30) (gen := 30) [-Prod, inR, inL]))
      rintro ⟨f12, f12q⟩
      refine RI_mk ?_ ?_
      · (first | omega | (grind (splits := 16) (ematch := 30) (gen := 30) [-Prod, inR, inL]))
      · (first | exact ⟨by omega, by omega⟩ | (grind (splits := 16) (ematch := 30) (gen := 30) [-Prod, inR, inL]))
  · refine RI_mk ?_ ?_
    · (first | omega | (grind (splits := 16) (ematch := 30) (gen := 30) [-Prod, inR, inL]))
    · (first | exact ⟨by omega, by omega⟩ | (grind (splits := 16) (ematch := 30) (gen := 30) [-Prod, inR, inL]))
theorem DX9_term_0W : DD cX9_term 0 1 1 (.iload_n 1) := ⟨by decide +kernel, rfl⟩
theorem DX9_term_1W : DD cX9_term 1 3 4 (.ifCond .lt 20) := ⟨by decide +kernel, rfl⟩
theorem DX9_term_4W : DD cX9_term 4 1 5 (.iload_n 1) := ⟨by decide +kernel, rfl⟩
theorem DX9_term_5W : DD cX9_term 5 1 6 (.aload_n 0) := ⟨by decide +kernel, rfl⟩
theorem DX9_term_6W : DD cX9_term 6 3 9 (.getfield 1066) := ⟨by decide +kernel, rfl⟩
theorem DX9_term_9W : DD cX9_term 9 3 12 (.if_icmp .ge 12) := ⟨by decide +kernel, rfl⟩
theorem DX9_term_12W : DD cX9_term 12 1 13 (.iload_n 2) := ⟨by decide +kernel, rfl⟩
theorem DX9_term_13W : DD cX9_term 13 3 16 (.ifCond .lt 8) := ⟨by decide +kernel, rfl⟩
theorem DX9_term_16W : DD cX9_term 16 1 17 (.iload_n 2) := ⟨by decide +kernel, rfl⟩
theorem DX9_term_17W : DD cX9_term 17 1 18 (.iconst 2) := ⟨by decide +kernel, rfl⟩
theorem DX9_term_18W : DD cX9_term 18 3 21 (.if_icmp .le 7) := ⟨by decide +kernel, rfl⟩
theorem DX9_term_21W : DD cX9_term 21 1 22 (.iconst (-1)) := ⟨by decide +kernel, rfl⟩
theorem DX9_term_22W : DD cX9_term 22 3 25 (.goto 13) := ⟨by decide +kernel, rfl⟩
theorem DX9_term_25W : DD cX9_term 25 1 26 (.aload_n 0) := ⟨by decide +kernel, rfl⟩
theorem DX9_term_26W : DD cX9_term 26 3 29 (.getfield 370) := ⟨by decide +kernel, rfl⟩
theorem DX9_term_29W : DD cX9_term 29 1 30 (.iconst 3) := ⟨by decide +kernel, rfl⟩
theorem DX9_term_30W : DD cX9_term 30 1 31 (.iload_n 1) := ⟨by decide +kernel, rfl⟩
theorem DX9_term_31W : DD cX9_term 31 1 32 (.imul) := ⟨by decide +kernel, rfl⟩
theorem DX9_term_32W : DD cX9_term 32 1 33 (.iload_n 2) := ⟨by decide +kernel, rfl⟩
theorem DX9_term_33W : DD cX9_term 33 1 34 (.iadd) := ⟨by decide +kernel, rfl⟩
theorem DX9_term_34W : DD cX9_term 34 1 35 (.iaload) := ⟨by decide +kernel, rfl⟩
theorem DX9_term_35W : DD cX9_term 35 1 36 (.ireturn) := ⟨by decide +kernel, rfl⟩
theorem ucX9_term_0W {E : XE} {d : Nat} {σ : Sto} {Q : Res → Sto → Prop} {x1 : Int} {x2 : Int} (hL : Lay σ)  (h : inR x1 ∧ (x1 < 0 → Q (.inl (some (aI (-1)))) σ) ∧ (0 ≤ x1 → (inR (σ.I 555 154) → ((σ.I 555 154) ≤ x1 → Q (.inl (some (aI (-1)))) σ) ∧ (x1 < (σ.I 555 154) → inR x2 ∧ (x2 < 0 → Q (.inl (some (aI (-1)))) σ) ∧ (0 ≤ x2 → (x2 ≤ 2 → 0 ≤ ((3 * x1) + x2) ∧ ((3 * x1) + x2) < 30 ∧ (inR (σ.I 668 ((3 * x1) + x2)) → Q (.inl (some (aI (σ.I 668 ((3 * x1) + x2))))) σ)) ∧ (2 < x2 → Q (.inl (some (aI (-1)))) σ)))))) : VV E mX9_term (d + 1) 0 [(0, aO 555), (1, aI (x1)), (2, aI (x2))] [] σ Q := by
  refine v_iload_n 1 DX9_term_0W rfl rfl <| ?_
  obtain ⟨k1, h⟩ := h
  refine v_if_lt (tg := 21) DX9_term_1W (by decide) k1 (fun c2 => ?_) (fun c2 => ?_)
  · have h := h.1 c2
    refine v_iconst DX9_term_21W <| v_goto (pc' := 35) DX9_term_22W.1 (by decide) <| ?_
    exact v_iret DX9_term_35W rfl rfl h
  · have h := h.2 c2
    refine v_iload_n 1 DX9_term_4W rfl rfl <| v_aload_n 0 DX9_term_5W rfl rfl <| ?_
    refine w_getI (ci := 9) (kf := 154) (kz := 154) DX9_term_6W (s_555 hL) rfl (by decide) rfl (Or.inl q2378) (fun _ _ => rfl) (fun f3 => ?_)
    have h := h f3
    refine v_icmp_ge (tg := 21) DX9_term_9W (by decide) k1 f3 (fun c4 => ?_) (fun c4 => ?_)
    · have h := h.1 c4
      refine v_iconst DX9_term_21W <| v_goto (pc' := 35) DX9_term_22W.1 (by decide) <| ?_
      exact v_iret DX9_term_35W rfl rfl h
    · have h := h.2 c4
      refine v_iload_n 2 DX9_term_12W rfl rfl <| ?_
      obtain ⟨k5, h⟩ := h
      refine v_if_lt (tg := 21) DX9_term_13W (by decide) k5 (fun c6 => ?_) (fun c6 => ?_)
      · have h := h.1 c6
        refine v_iconst DX9_term_21W <| v_goto (pc' := 35) DX9_term_22W.1 (by decide) <| ?_
        exact v_iret DX9_term_35W rfl rfl h
      · have h := h.2 c6
        refine v_iload_n 2 DX9_term_16W rfl rfl <| v_iconst DX9_term_17W <| ?_
        refine v_icmp_le (tg := 25) DX9_term_18W (by decide) k5 ⟨by decide, by decide⟩ (fun c7 => ?_) (fun c7 => ?_)
        · have h := h.1 c7
          refine v_aload_n 0 DX9_term_25W rfl rfl <| w_getR (ci := 9) (kf := 156) (kz := 156) DX9_term_26W (s_555 hL) rfl (by decide) rfl (Or.inl q2380) (fun _ _ => rfl) (r_555_156 hL) <| v_iconst DX9_term_29W <| v_iload_n 1 DX9_term_30W rfl rfl <| v_imul DX9_term_31W <| v_iload_n 2 DX9_term_32W rfl rfl <| v_iadd DX9_term_33W <| ?_
          obtain ⟨k8, k9, h⟩ := h
          refine v_iald DX9_term_34W (s_668 hL) k8 k9 (fun f10 => ?_)
          have h := h f10
          exact v_iret DX9_term_35W rfl rfl h
        · have h := h.2 c7
          refine v_iconst DX9_term_21W <| v_goto (pc' := 35) DX9_term_22W.1 (by decide) <| ?_
          exact v_iret DX9_term_35W rfl rfl h
theorem sp_X9_termW {E : XE} {d : Nat} {σ : Sto} {x1 : Int} {x2 : Int} (hd : 1 ≤ d) (hL : Lay σ)  (p0 : inR x1) (p1 : inR x2) (p2 : 0 ≤ σ.I 555 154 ∧ σ.I 555 154 ≤ 10) : CC E mX9_term d [aO 555, aI (x1), aI (x2)] σ (RI σ (if ¬ (0 ≤ x1 ∧ x1 < σ.I 555 154) ∨ x2 < 0 ∨ 2 < x2 then -1 else σ.I 668 (3 * x1 + x2))) := by
  obtain ⟨d, rfl⟩ : ∃ e, d = e + 1 := ⟨d - 1, by omega⟩
  have p0a := p0.1; have p0b := p0.2
  have p1a := p1.1; have p1b := p1.2
  refine ucX9_term_0W  hL  ?_
  refine ⟨?_, ?_⟩
  · (first | exact ⟨by omega, by omega⟩ | (grind (splits := 16) (ematch := 30) (gen := 30) [-Prod, inR, inL]))
  refine ⟨fun c1 => ?_, fun c2 => ?_⟩
  · refine RI_mk ?_ ?_
    · (first | omega | (grind (splits := 16) (ematch := 30) (gen := 30) [-Prod, inR, inL]))
    · (first | exact ⟨by omega, by omega⟩ | (grind (splits := 16) (ematch := 30) (gen := 30) [-Prod, inR, inL]))
  · rintro ⟨f3, f3q⟩
    refine ⟨fun c4 => ?_, fun c5 => ?_⟩
    · refine RI_mk ?_ ?_
      · (first | omega | (grind (splits := 16) (ematch := 30) (gen := 30) [-Prod, inR, inL]))
      · (first | exact ⟨by omega, by omega⟩ | (grind (splits := 16) (ematch := 30) (gen := 30) [-Prod, inR, inL]))
    · refine ⟨?_, ?_⟩
      · (first | exact ⟨by omega, by omega⟩ | (grind (splits := 16) (ematch := 30) (gen := 30) [-Prod, inR, inL]))
      refine ⟨fun c6 => ?_, fun c7 => ?_⟩
      · refine RI_mk ?_ ?_
        · (first | omega | (grind (splits := 16) (ematch := 30) (gen := 30) [-Prod, inR, inL]))
        · (first | exact ⟨by omega, by omega⟩ | (grind (splits := 16) (ematch := 30) (gen := 30) [-Prod, inR, inL]))
      · refine ⟨fun c8 => ?_, fun c9 => ?_⟩
        · refine ⟨?_, ?_⟩
          · (first | omega | (grind (splits := 16) (ematch := 30) (gen := 30) [-Prod, inR, inL]))
          refine ⟨?_, ?_⟩
          · (first | omega | (grind (splits := 16) (ematch := 30) (gen := 30) [-Prod, inR, inL]))
          rintro ⟨f10, f10q⟩
          refine RI_mk ?_ ?_
          · (first | omega | (grind (splits := 16) (ematch := 30) (gen := 30) [-Prod, inR, inL]))
          · (first | exact ⟨by omega, by omega⟩ | (grind (splits := 16) (ematch := 30) (gen := 30) [-Prod, inR, inL]))
        · refine RI_mk ?_ ?_
          · (first | omega | (grind (splits := 16) (ematch := 30) (gen := 30) [-Prod, inR, inL]))
          · (first | exact ⟨by omega, by omega⟩ | (grind (splits := 16) (ematch := 30) (gen := 30) [-Prod, inR, inL]))
theorem DX0_termByte_0W : DD cX0_termByte 0 1 1 (.iload_n 1) := ⟨by decide +kernel, rfl⟩
theorem DX0_termByte_1W : DD cX0_termByte 1 1 2 (.iconst 0) := ⟨by decide +kernel, rfl⟩
theorem DX0_termByte_2W : DD cX0_termByte 2 1 3 (.aload_n 0) := ⟨by decide +kernel, rfl⟩
theorem DX0_termByte_3W : DD cX0_termByte 3 3 6 (.getfield 668) := ⟨by decide +kernel, rfl⟩
theorem DX0_termByte_6W : DD cX0_termByte 6 1 7 (.iconst 1) := ⟨by decide +kernel, rfl⟩
theorem DX0_termByte_7W : DD cX0_termByte 7 1 8 (.isub) := ⟨by decide +kernel, rfl⟩
theorem DX0_termByte_8W : DD cX0_termByte 8 3 11 (.invokestatic 18) := ⟨by decide +kernel, rfl⟩
theorem DX0_termByte_11W : DD cX0_termByte 11 3 14 (.ifCond .eq 37) := ⟨by decide +kernel, rfl⟩
theorem DX0_termByte_14W : DD cX0_termByte 14 1 15 (.iload_n 2) := ⟨by decide +kernel, rfl⟩
theorem DX0_termByte_15W : DD cX0_termByte 15 1 16 (.iconst 0) := ⟨by decide +kernel, rfl⟩
theorem DX0_termByte_16W : DD cX0_termByte 16 1 17 (.aload_n 0) := ⟨by decide +kernel, rfl⟩
theorem DX0_termByte_17W : DD cX0_termByte 17 3 20 (.getfield 329) := ⟨by decide +kernel, rfl⟩
theorem DX0_termByte_20W : DD cX0_termByte 20 1 21 (.iload_n 1) := ⟨by decide +kernel, rfl⟩
theorem DX0_termByte_21W : DD cX0_termByte 21 1 22 (.iaload) := ⟨by decide +kernel, rfl⟩
theorem DX0_termByte_22W : DD cX0_termByte 22 1 23 (.iconst 1) := ⟨by decide +kernel, rfl⟩
theorem DX0_termByte_23W : DD cX0_termByte 23 1 24 (.isub) := ⟨by decide +kernel, rfl⟩
theorem DX0_termByte_24W : DD cX0_termByte 24 3 27 (.invokestatic 18) := ⟨by decide +kernel, rfl⟩
theorem DX0_termByte_27W : DD cX0_termByte 27 3 30 (.ifCond .eq 21) := ⟨by decide +kernel, rfl⟩
theorem DX0_termByte_30W : DD cX0_termByte 30 1 31 (.aload_n 0) := ⟨by decide +kernel, rfl⟩
theorem DX0_termByte_31W : DD cX0_termByte 31 3 34 (.getfield 326) := ⟨by decide +kernel, rfl⟩
theorem DX0_termByte_34W : DD cX0_termByte 34 2 36 (.bipush 20) := ⟨by decide +kernel, rfl⟩
theorem DX0_termByte_36W : DD cX0_termByte 36 1 37 (.iload_n 1) := ⟨by decide +kernel, rfl⟩
theorem DX0_termByte_37W : DD cX0_termByte 37 1 38 (.imul) := ⟨by decide +kernel, rfl⟩
theorem DX0_termByte_38W : DD cX0_termByte 38 1 39 (.iload_n 2) := ⟨by decide +kernel, rfl⟩
theorem DX0_termByte_39W : DD cX0_termByte 39 1 40 (.iadd) := ⟨by decide +kernel, rfl⟩
theorem DX0_termByte_40W : DD cX0_termByte 40 1 41 (.baload) := ⟨by decide +kernel, rfl⟩
theorem DX0_termByte_41W : DD cX0_termByte 41 3 44 (.sipush 255) := ⟨by decide +kernel, rfl⟩
theorem DX0_termByte_44W : DD cX0_termByte 44 1 45 (.iand) := ⟨by decide +kernel, rfl⟩
theorem DX0_termByte_45W : DD cX0_termByte 45 3 48 (.goto 4) := ⟨by decide +kernel, rfl⟩
theorem DX0_termByte_48W : DD cX0_termByte 48 1 49 (.iconst (-1)) := ⟨by decide +kernel, rfl⟩
theorem DX0_termByte_49W : DD cX0_termByte 49 1 50 (.ireturn) := ⟨by decide +kernel, rfl⟩
theorem ucX0_termByte_0W {E : XE} {d : Nat} {σ : Sto} {Q : Res → Sto → Prop} {x1 : Int} {x2 : Int} (hL : Lay σ)  (h : (inR (σ.I 0 88) → 1 ≤ d ∧ (inR x1) ∧ (inR (0 : Int)) ∧ (inR ((σ.I 0 88) - 1)) ∧ (((0 : Int) ≤ x1 ∧ x1 ≤ ((σ.I 0 88) - 1)) → 0 ≤ x1 ∧ x1 < 10 ∧ (inR (σ.I 205 x1) → 1 ≤ d ∧ (inR x2) ∧ (inR (0 : Int)) ∧ (inR ((σ.I 205 x1) - 1)) ∧ (((0 : Int) ≤ x2 ∧ x2 ≤ ((σ.I 205 x1) - 1)) → 0 ≤ ((20 * x1) + x2) ∧ ((20 * x1) + x2) < 200 ∧ (-128 ≤ σ.I 204 ((20 * x1) + x2) ∧ σ.I 204 ((20 * x1) + x2) ≤ 127 → Q (.inl (some (aI (b32and (σ.I 204 ((20 * x1) + x2)) 255)))) σ)) ∧ (¬ ((0 : Int) ≤ x2 ∧ x2 ≤ ((σ.I 205 x1) - 1)) → Q (.inl (some (aI (-1)))) σ))) ∧ (¬ ((0 : Int) ≤ x1 ∧ x1 ≤ ((σ.I 0 88) - 1)) → Q (.inl (some (aI (-1)))) σ))) : VV E mX0_termByte (d + 1) 0 [(0, aO 0), (1, aI (x1)), (2, aI (x2))] [] σ Q := by
  refine v_iload_n 1 DX0_termByte_0W rfl rfl <| v_iconst DX0_termByte_1W <| v_aload_n 0 DX0_termByte_2W rfl rfl <| ?_
  refine w_getI (ci := 0) (kf := 88) (kz := 88) DX0_termByte_3W (s_0 hL) rfl (by decide) rfl (Or.inl q1134) (fun _ _ => rfl) (fun f1 => ?_)
  have h := h f1
  refine v_iconst DX0_termByte_6W <| v_isub DX0_termByte_7W <| ?_
  obtain ⟨k2, h⟩ := h
  obtain ⟨k3, k4, k5, h⟩ := h
  refine v_invS (as := [aI (x1), aI (0), aI ((σ.I 0 88) - 1)]) (st := []) DX0_termByte_8W rfl okX0_isIn (Or.inl q300) q301 npX0_isIn (sp_X0_isIn (σ := σ) (x0 := x1) (x1 := (0 : Int)) (x2 := (σ.I 0 88) - 1) k2 hL k3 k4 k5) (Nat.le_of_ble_eq_true rfl) (Nat.le_refl _) (Nat.le_of_ble_eq_true rfl) (RZ_ret (fun c6 => ?_) (fun c6 => ?_)) RZ_thr
  · have h := h.1 c6
    refine v_if_eq (tg := 48) DX0_termByte_11W (by decide) ⟨by decide, by decide⟩ (fun c7 => absurd c7 (by decide)) (fun c7 => ?_)
    refine v_iload_n 2 DX0_termByte_14W rfl rfl <| v_iconst DX0_termByte_15W <| v_aload_n 0 DX0_termByte_16W rfl rfl <| w_getR (ci := 0) (kf := 87) (kz := 87) DX0_termByte_17W (s_0 hL) rfl (by decide) rfl (Or.inl q1133) (fun _ _ => rfl) (r_0_87 hL) <| v_iload_n 1 DX0_termByte_20W rfl rfl <| ?_
    obtain ⟨k8, k9, h⟩ := h
    refine v_iald DX0_termByte_21W (s_205 hL) k8 k9 (fun f10 => ?_)
    have h := h f10
    refine v_iconst DX0_termByte_22W <| v_isub DX0_termByte_23W <| ?_
    obtain ⟨k11, h⟩ := h
    obtain ⟨k12, k13, k14, h⟩ := h
    refine v_invS (as := [aI (x2), aI (0), aI ((σ.I 205 x1) - 1)]) (st := []) DX0_termByte_24W rfl okX0_isIn (Or.inl q300) q301 npX0_isIn (sp_X0_isIn (σ := σ) (x0 := x2) (x1 := (0 : Int)) (x2 := (σ.I 205 x1) - 1) k11 hL k12 k13 k14) (Nat.le_of_ble_eq_true rfl) (Nat.le_refl _) (Nat.le_of_ble_eq_true rfl) (RZ_ret (fun c15 => ?_) (fun c15 => ?_)) RZ_thr
    · have h := h.1 c15
      refine v_if_eq (tg := 48) DX0_termByte_27W (by decide) ⟨by decide, by decide⟩ (fun c16 => absurd c16 (by decide)) (fun c16 => ?_)
      refine v_aload_n 0 DX0_termByte_30W rfl rfl <| w_getR (ci := 0) (kf := 86) (kz := 86) DX0_termByte_31W (s_0 hL) rfl (by decide) rfl (Or.inl q1132) (fun _ _ => rfl) (r_0_86 hL) <| v_bipush DX0_termByte_34W ⟨by decide, by decide⟩ <| v_iload_n 1 DX0_termByte_36W rfl rfl <| v_imul DX0_termByte_37W <| v_iload_n 2 DX0_termByte_38W rfl rfl <| v_iadd DX0_termByte_39W <| ?_
      obtain ⟨k17, k18, h⟩ := h
      refine v_bald DX0_termByte_40W (s_204 hL) k17 k18 (fun f19 => ?_)
      have h := h f19
      refine v_sipush DX0_termByte_41W ⟨by decide, by decide⟩ <| v_iand DX0_termByte_44W <| v_goto (pc' := 49) DX0_termByte_45W.1 (by decide) <| ?_
      exact v_iret DX0_termByte_49W rfl rfl h
    · have h := h.2 c15
      refine v_if_eq (tg := 48) DX0_termByte_27W (by decide) ⟨by decide, by decide⟩ (fun c20 => ?_) (fun c20 => absurd c20 (by decide))
      refine v_iconst DX0_termByte_48W <| ?_
      exact v_iret DX0_termByte_49W rfl rfl h
  · have h := h.2 c6
    refine v_if_eq (tg := 48) DX0_termByte_11W (by decide) ⟨by decide, by decide⟩ (fun c21 => ?_) (fun c21 => absurd c21 (by decide))
    refine v_iconst DX0_termByte_48W <| ?_
    exact v_iret DX0_termByte_49W rfl rfl h
theorem sp_X0_termByteW {E : XE} {d : Nat} {σ : Sto} {x1 : Int} {x2 : Int} (hd : 2 ≤ d) (hL : Lay σ)  (p0 : inR x1) (p1 : inR x2) (p2 : 0 ≤ σ.I 0 88 ∧ σ.I 0 88 ≤ 10) (p3 : bd_0_20 σ 205 10) : CC E mX0_termByte d [aO 0, aI (x1), aI (x2)] σ (RI σ (if (0 ≤ x1 ∧ x1 < σ.I 0 88) ∧ (0 ≤ x2 ∧ x2 < σ.I 205 x1) then σ.I 204 (20 * x1 + x2) % 256 else -1)) := by
  obtain ⟨d, rfl⟩ : ∃ e, d = e + 1 := ⟨d - 1, by omega⟩
  have p0a := p0.1; have p0b := p0.2
  have p1a := p1.1; have p1b := p1.2
  refine ucX0_termByte_0W  hL  ?_
  rintro ⟨f1, f1q⟩
  refine ⟨?_, ?_⟩
  · omega
  refine ⟨?_, ?_⟩
  · (first | omega | (grind (splits := 16) (ematch := 30) (gen := 30) [-Prod, inR, inL, bd_0_20_at, = and255]))
  refine ⟨?_, ?_⟩
  · (first | omega | (grind (splits := 16) (ematch := 30) (gen := 30) [-Prod, inR, inL, bd_0_20_at, = and255]))
  refine ⟨?_, ?_⟩
  · (first | omega | (grind (splits := 16) (ematch := 30) (gen := 30) [-Prod, inR, inL, bd_0_20_at, = and255]))
  refine ⟨fun c2 => ?_, fun c3 => ?_⟩
  · refine ⟨?_, ?_⟩
    · (first | omega | (grind (splits := 16) (ematch := 30) (gen := 30) [-Prod, inR, inL, bd_0_20_at, = and255]))
    refine ⟨?_, ?_⟩
    · (first | omega | (grind (splits := 16) (ematch := 30) (gen := 30) [-Prod, inR, inL, bd_0_20_at, = and255]))
    rintro ⟨f4, f4q⟩
    refine ⟨?_, ?_⟩
    · omega
    refine ⟨?_, ?_⟩
    · (first | omega | (grind (splits := 16) (ematch := 30) (gen := 30) [-Prod, inR, inL, bd_0_20_at, = and255]))
    refine ⟨?_, ?_⟩
    · (first | omega | (grind (splits := 16) (ematch := 30) (gen := 30) [-Prod, inR, inL, bd_0_20_at, = and255]))
    refine ⟨?_, ?_⟩
    · (first | omega | (grind (splits := 16) (ematch := 30) (gen := 30) [-Prod, inR, inL, bd_0_20_at, = and255]))
    refine ⟨fun c5 => ?_, fun c6 => ?_⟩
    · refine ⟨?_, ?_⟩
      · (first | omega | (grind (splits := 16) (ematch := 30) (gen := 30) [-Prod, inR, inL, bd_0_20_at, = and255]))
      refine ⟨?_, ?_⟩
      · (first | omega | (grind (splits := 16) (ematch := 30) (gen := 30) [-Prod, inR, inL, bd_0_20_at, = and255]))
      rintro ⟨f7, f7q⟩
      refine RI_mk ?_ ?_
      · (first | omega | (grind (splits := 16) (ematch := 30) (gen := 30) [-Prod, inR, inL, bd_0_20_at, = and255]))
      · (first | exact ⟨by omega, by omega⟩ | (grind (splits := 16) (ematch := 30) (gen := 30) [-Prod, inR, inL, bd_0_20_at, = and255]))
    · refine RI_mk ?_ ?_
      · (first | omega | (grind (splits := 16) (ematch := 30) (gen := 30) [-Prod, inR, inL, bd_0_20_at, = and255]))
      · (first | exact ⟨by omega, by omega⟩ | (grind (splits := 16) (ematch := 30) (gen := 30) [-Prod, inR, inL, bd_0_20_at, = and255]))
  · refine RI_mk ?_ ?_
    · (first | omega | (grind (splits := 16) (ematch := 30) (gen := 30) [-Prod, inR, inL, bd_0_20_at, = and255]))
    · (first | exact ⟨by omega, by omega⟩ | (grind (splits := 16) (ematch := 30) (gen := 30) [-Prod, inR, inL, bd_0_20_at, = and255]))
theorem DX9_termByte_0W : DD cX9_termByte 0 1 1 (.iload_n 1) := ⟨by decide +kernel, rfl⟩
theorem DX9_termByte_1W : DD cX9_termByte 1 3 4 (.ifCond .lt 27) := ⟨by decide +kernel, rfl⟩
theorem DX9_termByte_4W : DD cX9_termByte 4 1 5 (.iload_n 1) := ⟨by decide +kernel, rfl⟩
theorem DX9_termByte_5W : DD cX9_termByte 5 1 6 (.aload_n 0) := ⟨by decide +kernel, rfl⟩
theorem DX9_termByte_6W : DD cX9_termByte 6 3 9 (.getfield 1066) := ⟨by decide +kernel, rfl⟩
theorem DX9_termByte_9W : DD cX9_termByte 9 3 12 (.if_icmp .ge 19) := ⟨by decide +kernel, rfl⟩
theorem DX9_termByte_12W : DD cX9_termByte 12 1 13 (.iload_n 2) := ⟨by decide +kernel, rfl⟩
theorem DX9_termByte_13W : DD cX9_termByte 13 3 16 (.ifCond .lt 15) := ⟨by decide +kernel, rfl⟩
theorem DX9_termByte_16W : DD cX9_termByte 16 1 17 (.iload_n 2) := ⟨by decide +kernel, rfl⟩
theorem DX9_termByte_17W : DD cX9_termByte 17 1 18 (.aload_n 0) := ⟨by decide +kernel, rfl⟩
theorem DX9_termByte_18W : DD cX9_termByte 18 3 21 (.getfield 370) := ⟨by decide +kernel, rfl⟩
theorem DX9_termByte_21W : DD cX9_termByte 21 1 22 (.iconst 3) := ⟨by decide +kernel, rfl⟩
theorem DX9_termByte_22W : DD cX9_termByte 22 1 23 (.iload_n 1) := ⟨by decide +kernel, rfl⟩
theorem DX9_termByte_23W : DD cX9_termByte 23 1 24 (.imul) := ⟨by decide +kernel, rfl⟩
theorem DX9_termByte_24W : DD cX9_termByte 24 1 25 (.iaload) := ⟨by decide +kernel, rfl⟩
theorem DX9_termByte_25W : DD cX9_termByte 25 3 28 (.if_icmp .lt 7) := ⟨by decide +kernel, rfl⟩
theorem DX9_termByte_28W : DD cX9_termByte 28 1 29 (.iconst (-1)) := ⟨by decide +kernel, rfl⟩
theorem DX9_termByte_29W : DD cX9_termByte 29 3 32 (.goto 18) := ⟨by decide +kernel, rfl⟩
theorem DX9_termByte_32W : DD cX9_termByte 32 1 33 (.aload_n 0) := ⟨by decide +kernel, rfl⟩
theorem DX9_termByte_33W : DD cX9_termByte 33 3 36 (.getfield 367) := ⟨by decide +kernel, rfl⟩
theorem DX9_termByte_36W : DD cX9_termByte 36 2 38 (.bipush 20) := ⟨by decide +kernel, rfl⟩
theorem DX9_termByte_38W : DD cX9_termByte 38 1 39 (.iload_n 1) := ⟨by decide +kernel, rfl⟩
theorem DX9_termByte_39W : DD cX9_termByte 39 1 40 (.imul) := ⟨by decide +kernel, rfl⟩
theorem DX9_termByte_40W : DD cX9_termByte 40 1 41 (.iload_n 2) := ⟨by decide +kernel, rfl⟩
theorem DX9_termByte_41W : DD cX9_termByte 41 1 42 (.iadd) := ⟨by decide +kernel, rfl⟩
theorem DX9_termByte_42W : DD cX9_termByte 42 1 43 (.baload) := ⟨by decide +kernel, rfl⟩
theorem DX9_termByte_43W : DD cX9_termByte 43 3 46 (.sipush 255) := ⟨by decide +kernel, rfl⟩
theorem DX9_termByte_46W : DD cX9_termByte 46 1 47 (.iand) := ⟨by decide +kernel, rfl⟩
theorem DX9_termByte_47W : DD cX9_termByte 47 1 48 (.ireturn) := ⟨by decide +kernel, rfl⟩
theorem ucX9_termByte_0W {E : XE} {d : Nat} {σ : Sto} {Q : Res → Sto → Prop} {x1 : Int} {x2 : Int} (hL : Lay σ)  (h : inR x1 ∧ (x1 < 0 → Q (.inl (some (aI (-1)))) σ) ∧ (0 ≤ x1 → (inR (σ.I 555 154) → ((σ.I 555 154) ≤ x1 → Q (.inl (some (aI (-1)))) σ) ∧ (x1 < (σ.I 555 154) → inR x2 ∧ (x2 < 0 → Q (.inl (some (aI (-1)))) σ) ∧ (0 ≤ x2 → 0 ≤ (3 * x1) ∧ (3 * x1) < 30 ∧ (inR (σ.I 668 (3 * x1)) → (x2 < (σ.I 668 (3 * x1)) → 0 ≤ ((20 * x1) + x2) ∧ ((20 * x1) + x2) < 200 ∧ (-128 ≤ σ.I 667 ((20 * x1) + x2) ∧ σ.I 667 ((20 * x1) + x2) ≤ 127 → Q (.inl (some (aI (b32and (σ.I 667 ((20 * x1) + x2)) 255)))) σ)) ∧ ((σ.I 668 (3 * x1)) ≤ x2 → Q (.inl (some (aI (-1)))) σ))))))) : VV E mX9_termByte (d + 1) 0 [(0, aO 555), (1, aI (x1)), (2, aI (x2))] [] σ Q := by
  refine v_iload_n 1 DX9_termByte_0W rfl rfl <| ?_
  obtain ⟨k1, h⟩ := h
  refine v_if_lt (tg := 28) DX9_termByte_1W (by decide) k1 (fun c2 => ?_) (fun c2 => ?_)
  · have h := h.1 c2
    refine v_iconst DX9_termByte_28W <| v_goto (pc' := 47) DX9_termByte_29W.1 (by decide) <| ?_
    exact v_iret DX9_termByte_47W rfl rfl h
  · have h := h.2 c2
    refine v_iload_n 1 DX9_termByte_4W rfl rfl <| v_aload_n 0 DX9_termByte_5W rfl rfl <| ?_
    refine w_getI (ci := 9) (kf := 154) (kz := 154) DX9_termByte_6W (s_555 hL) rfl (by decide) rfl (Or.inl q2378) (fun _ _ => rfl) (fun f3 => ?_)
    have h := h f3
    refine v_icmp_ge (tg := 28) DX9_termByte_9W (by decide) k1 f3 (fun c4 => ?_) (fun c4 => ?_)
    · have h := h.1 c4
      refine v_iconst DX9_termByte_28W <| v_goto (pc' := 47) DX9_termByte_29W.1 (by decide) <| ?_
      exact v_iret DX9_termByte_47W rfl rfl h
    · have h := h.2 c4
      refine v_iload_n 2 DX9_termByte_12W rfl rfl <| ?_
      obtain ⟨k5, h⟩ := h
      refine v_if_lt (tg := 28) DX9_termByte_13W (by decide) k5 (fun c6 => ?_) (fun c6 => ?_)
      · have h := h.1 c6
        refine v_iconst DX9_termByte_28W <| v_goto (pc' := 47) DX9_termByte_29W.1 (by decide) <| ?_
        exact v_iret DX9_termByte_47W rfl rfl h
      · have h := h.2 c6
        refine v_iload_n 2 DX9_termByte_16W rfl rfl <| v_aload_n 0 DX9_termByte_17W rfl rfl <| w_getR (ci := 9) (kf := 156) (kz := 156) DX9_termByte_18W (s_555 hL) rfl (by decide) rfl (Or.inl q2380) (fun _ _ => rfl) (r_555_156 hL) <| v_iconst DX9_termByte_21W <| v_iload_n 1 DX9_termByte_22W rfl rfl <| v_imul DX9_termByte_23W <| ?_
        obtain ⟨k7, k8, h⟩ := h
        refine v_iald DX9_termByte_24W (s_668 hL) k7 k8 (fun f9 => ?_)
        have h := h f9
        refine v_icmp_lt (tg := 32) DX9_termByte_25W (by decide) k5 f9 (fun c10 => ?_) (fun c10 => ?_)
        · have h := h.1 c10
          refine v_aload_n 0 DX9_termByte_32W rfl rfl <| w_getR (ci := 9) (kf := 155) (kz := 155) DX9_termByte_33W (s_555 hL) rfl (by decide) rfl (Or.inl q2379) (fun _ _ => rfl) (r_555_155 hL) <| v_bipush DX9_termByte_36W ⟨by decide, by decide⟩ <| v_iload_n 1 DX9_termByte_38W rfl rfl <| v_imul DX9_termByte_39W <| v_iload_n 2 DX9_termByte_40W rfl rfl <| v_iadd DX9_termByte_41W <| ?_
          obtain ⟨k11, k12, h⟩ := h
          refine v_bald DX9_termByte_42W (s_667 hL) k11 k12 (fun f13 => ?_)
          have h := h f13
          refine v_sipush DX9_termByte_43W ⟨by decide, by decide⟩ <| v_iand DX9_termByte_46W <| ?_
          exact v_iret DX9_termByte_47W rfl rfl h
        · have h := h.2 c10
          refine v_iconst DX9_termByte_28W <| v_goto (pc' := 47) DX9_termByte_29W.1 (by decide) <| ?_
          exact v_iret DX9_termByte_47W rfl rfl h
theorem sp_X9_termByteW {E : XE} {d : Nat} {σ : Sto} {x1 : Int} {x2 : Int} (hd : 1 ≤ d) (hL : Lay σ)  (p0 : inR x1) (p1 : inR x2) (p2 : 0 ≤ σ.I 555 154 ∧ σ.I 555 154 ≤ 10) (p3 : bd_0_1000 σ 668 30) (p4 : ∀ i, 0 ≤ i → i < 10 → σ.I 668 (3 * i) ≤ 20) : CC E mX9_termByte d [aO 555, aI (x1), aI (x2)] σ (RI σ (if (0 ≤ x1 ∧ x1 < σ.I 555 154) ∧ (0 ≤ x2 ∧ x2 < σ.I 668 (3 * x1)) then σ.I 667 (20 * x1 + x2) % 256 else -1)) := by
  obtain ⟨d, rfl⟩ : ∃ e, d = e + 1 := ⟨d - 1, by omega⟩
  have p0a := p0.1; have p0b := p0.2
  have p1a := p1.1; have p1b := p1.2
  refine ucX9_termByte_0W  hL  ?_
  refine ⟨?_, ?_⟩
  · (first | exact ⟨by omega, by omega⟩ | (grind (splits := 16) (ematch := 30) (gen := 30) [-Prod, inR, inL, bd_0_1000_at, = and255]))
  refine ⟨fun c1 => ?_, fun c2 => ?_⟩
  · refine RI_mk ?_ ?_
    · (first | omega | (grind (splits := 16) (ematch := 30) (gen := 30) [-Prod, inR, inL, bd_0_1000_at, = and255]))
    · (first | exact ⟨by omega, by omega⟩ | (grind (splits := 16) (ematch := 30) (gen := 30) [-Prod, inR, inL, bd_0_1000_at, = and255]))
  · rintro ⟨f3, f3q⟩
    refine ⟨fun c4 => ?_, fun c5 => ?_⟩
    · refine RI_mk ?_ ?_
      · (first | omega | (grind (splits := 16) (ematch := 30) (gen := 30) [-Prod, inR, inL, bd_0_1000_at, = and255]))
      · (first | exact ⟨by omega, by omega⟩ | (grind (splits := 16) (ematch := 30) (gen := 30) [-Prod, inR, inL, bd_0_1000_at, = and255]))
    · refine ⟨?_, ?_⟩
      · (first | exact ⟨by omega, by omega⟩ | (grind (splits := 16) (ematch := 30) (gen := 30) [-Prod, inR, inL, bd_0_1000_at, = and255]))
      refine ⟨fun c6 => ?_, fun c7 => ?_⟩
      · refine RI_mk ?_ ?_
        · (first | omega | (grind (splits := 16) (ematch := 30) (gen := 30) [-Prod, inR, inL, bd_0_1000_at, = and255]))
        · (first | exact ⟨by omega, by omega⟩ | (grind (splits := 16) (ematch := 30) (gen := 30) [-Prod, inR, inL, bd_0_1000_at, = and255]))
      · refine ⟨?_, ?_⟩
        · (first | omega | (grind (splits := 16) (ematch := 30) (gen := 30) [-Prod, inR, inL, bd_0_1000_at, = and255]))
        refine ⟨?_, ?_⟩
        · (first | omega | (grind (splits := 16) (ematch := 30) (gen := 30) [-Prod, inR, inL, bd_0_1000_at, = and255]))
        rintro ⟨f8, f8q⟩
        refine ⟨fun c9 => ?_, fun c10 => ?_⟩
        · refine ⟨?_, ?_⟩
          · (first | omega | (grind (splits := 16) (ematch := 30) (gen := 30) [-Prod, inR, inL, bd_0_1000_at, = and255]))
          refine ⟨?_, ?_⟩
          · (first | omega | (grind (splits := 16) (ematch := 30) (gen := 30) [-Prod, inR, inL, bd_0_1000_at, = and255]))
          rintro ⟨f11, f11q⟩
          refine RI_mk ?_ ?_
          · (first | omega | (grind (splits := 16) (ematch := 30) (gen := 30) [-Prod, inR, inL, bd_0_1000_at, = and255]))
          · (first | exact ⟨by omega, by omega⟩ | (grind (splits := 16) (ematch := 30) (gen := 30) [-Prod, inR, inL, bd_0_1000_at, = and255]))
        · refine RI_mk ?_ ?_
          · (first | omega | (grind (splits := 16) (ematch := 30) (gen := 30) [-Prod, inR, inL, bd_0_1000_at, = and255]))
          · (first | exact ⟨by omega, by omega⟩ | (grind (splits := 16) (ematch := 30) (gen := 30) [-Prod, inR, inL, bd_0_1000_at, = and255]))
theorem DX0_token_0W : DD cX0_token 0 1 1 (.iload_n 1) := ⟨by decide +kernel, rfl⟩
theorem DX0_token_1W : DD cX0_token 1 1 2 (.iconst 0) := ⟨by decide +kernel, rfl⟩
theorem DX0_token_2W : DD cX0_token 2 1 3 (.aload_n 0) := ⟨by decide +kernel, rfl⟩
theorem DX0_token_3W : DD cX0_token 3 3 6 (.getfield 86) := ⟨by decide +kernel, rfl⟩
theorem DX0_token_6W : DD cX0_token 6 3 9 (.getfield 94) := ⟨by decide +kernel, rfl⟩
theorem DX0_token_9W : DD cX0_token 9 1 10 (.iconst 1) := ⟨by decide +kernel, rfl⟩
theorem DX0_token_10W : DD cX0_token 10 1 11 (.isub) := ⟨by decide +kernel, rfl⟩
theorem DX0_token_11W : DD cX0_token 11 3 14 (.invokestatic 18) := ⟨by decide +kernel, rfl⟩
theorem DX0_token_14W : DD cX0_token 14 3 17 (.ifCond .ne 5) := ⟨by decide +kernel, rfl⟩
theorem DX0_token_17W : DD cX0_token 17 1 18 (.iconst (-1)) := ⟨by decide +kernel, rfl⟩
theorem DX0_token_18W : DD cX0_token 18 1 19 (.ireturn) := ⟨by decide +kernel, rfl⟩
theorem DX0_token_19W : DD cX0_token 19 1 20 (.iload_n 2) := ⟨by decide +kernel, rfl⟩
theorem DX0_token_20W : DD cX0_token 20 32 52 (.tableswitch 72 0 3 #[32, 42, 52, 62]) := ⟨by decide +kernel, rfl⟩
theorem DX0_token_52W : DD cX0_token 52 1 53 (.aload_n 0) := ⟨by decide +kernel, rfl⟩
theorem DX0_token_53W : DD cX0_token 53 3 56 (.getfield 86) := ⟨by decide +kernel, rfl⟩
theorem DX0_token_56W : DD cX0_token 56 3 59 (.getfield 97) := ⟨by decide +kernel, rfl⟩
theorem DX0_token_59W : DD cX0_token 59 1 60 (.iload_n 1) := ⟨by decide +kernel, rfl⟩
theorem DX0_token_60W : DD cX0_token 60 1 61 (.iaload) := ⟨by decide +kernel, rfl⟩
theorem DX0_token_61W : DD cX0_token 61 1 62 (.ireturn) := ⟨by decide +kernel, rfl⟩
theorem DX0_token_62W : DD cX0_token 62 1 63 (.aload_n 0) := ⟨by decide +kernel, rfl⟩
theorem DX0_token_63W : DD cX0_token 63 3 66 (.getfield 86) := ⟨by decide +kernel, rfl⟩
theorem DX0_token_66W : DD cX0_token 66 3 69 (.getfield 101) := ⟨by decide +kernel, rfl⟩
theorem DX0_token_69W : DD cX0_token 69 1 70 (.iload_n 1) := ⟨by decide +kernel, rfl⟩
theorem DX0_token_70W : DD cX0_token 70 1 71 (.iaload) := ⟨by decide +kernel, rfl⟩
theorem DX0_token_71W : DD cX0_token 71 1 72 (.ireturn) := ⟨by decide +kernel, rfl⟩
theorem DX0_token_72W : DD cX0_token 72 1 73 (.aload_n 0) := ⟨by decide +kernel, rfl⟩
theorem DX0_token_73W : DD cX0_token 73 3 76 (.getfield 86) := ⟨by decide +kernel, rfl⟩
theorem DX0_token_76W : DD cX0_token 76 3 79 (.getfield 104) := ⟨by decide +kernel, rfl⟩
theorem DX0_token_79W : DD cX0_token 79 1 80 (.iload_n 1) := ⟨by decide +kernel, rfl⟩
theorem DX0_token_80W : DD cX0_token 80 1 81 (.iaload) := ⟨by decide +kernel, rfl⟩
theorem DX0_token_81W : DD cX0_token 81 1 82 (.ireturn) := ⟨by decide +kernel, rfl⟩
theorem DX0_token_82W : DD cX0_token 82 1 83 (.aload_n 0) := ⟨by decide +kernel, rfl⟩
theorem DX0_token_83W : DD cX0_token 83 3 86 (.getfield 86) := ⟨by decide +kernel, rfl⟩
theorem DX0_token_86W : DD cX0_token 86 3 89 (.getfield 107) := ⟨by decide +kernel, rfl⟩
theorem DX0_token_89W : DD cX0_token 89 1 90 (.iload_n 1) := ⟨by decide +kernel, rfl⟩
theorem DX0_token_90W : DD cX0_token 90 1 91 (.iaload) := ⟨by decide +kernel, rfl⟩
theorem DX0_token_91W : DD cX0_token 91 1 92 (.ireturn) := ⟨by decide +kernel, rfl⟩
theorem DX0_token_92W : DD cX0_token 92 1 93 (.iconst (-1)) := ⟨by decide +kernel, rfl⟩
theorem DX0_token_93W : DD cX0_token 93 1 94 (.ireturn) := ⟨by decide +kernel, rfl⟩
theorem ucX0_token_0W {E : XE} {d : Nat} {σ : Sto} {Q : Res → Sto → Prop} {x1 : Int} {x2 : Int} (hL : Lay σ)  (h : (inR (σ.I 4 5) → 1 ≤ d ∧ (inR x1) ∧ (inR (0 : Int)) ∧ (inR ((σ.I 4 5) - 1)) ∧ (((0 : Int) ≤ x1 ∧ x1 ≤ ((σ.I 4 5) - 1)) → inR x2 ∧ (x2 = 0 → 0 ≤ x1 ∧ x1 < 250 ∧ (inR (σ.I 7 x1) → Q (.inl (some (aI (σ.I 7 x1)))) σ)) ∧ (x2 = 1 → 0 ≤ x1 ∧ x1 < 250 ∧ (inR (σ.I 8 x1) → Q (.inl (some (aI (σ.I 8 x1)))) σ)) ∧ (x2 = 2 → 0 ≤ x1 ∧ x1 < 250 ∧ (inR (σ.I 9 x1) → Q (.inl (some (aI (σ.I 9 x1)))) σ)) ∧ (x2 = 3 → 0 ≤ x1 ∧ x1 < 250 ∧ (inR (σ.I 6 x1) → Q (.inl (some (aI (σ.I 6 x1)))) σ)) ∧ ((x2 < 0 ∨ 3 < x2) → Q (.inl (some (aI (-1)))) σ)) ∧ (¬ ((0 : Int) ≤ x1 ∧ x1 ≤ ((σ.I 4 5) - 1)) → Q (.inl (some (aI (-1)))) σ))) : VV E mX0_token (d + 1) 0 [(0, aO 0), (1, aI (x1)), (2, aI (x2))] [] σ Q := by
  refine v_iload_n 1 DX0_token_0W rfl rfl <| v_iconst DX0_token_1W <| v_aload_n 0 DX0_token_2W rfl rfl <| w_getR (ci := 0) (kf := 5) (kz := 5) DX0_token_3W (s_0 hL) rfl (by decide) rfl (Or.inl q999) (fun _ _ => rfl) (r_0_5 hL) <| ?_
  refine w_getI (ci := 1) (kf := 5) (kz := 5) DX0_token_6W (s_4 hL) rfl (by decide) rfl (Or.inr ⟨_, q643⟩) (fun _ _ => rfl) (fun f1 => ?_)
  have h := h f1
  refine v_iconst DX0_token_9W <| v_isub DX0_token_10W <| ?_
  obtain ⟨k2, h⟩ := h
  obtain ⟨k3, k4, k5, h⟩ := h
  refine v_invS (as := [aI (x1), aI (0), aI ((σ.I 4 5) - 1)]) (st := []) DX0_token_11W rfl okX0_isIn (Or.inl q300) q301 npX0_isIn (sp_X0_isIn (σ := σ) (x0 := x1) (x1 := (0 : Int)) (x2 := (σ.I 4 5) - 1) k2 hL k3 k4 k5) (Nat.le_of_ble_eq_true rfl) (Nat.le_refl _) (Nat.le_of_ble_eq_true rfl) (RZ_ret (fun c6 => ?_) (fun c6 => ?_)) RZ_thr
  · have h := h.1 c6
    refine v_if_ne (tg := 19) DX0_token_14W (by decide) ⟨by decide, by decide⟩ (fun c7 => ?_) (fun c7 => absurd c7 (by decide))
    refine v_iload_n 2 DX0_token_19W rfl rfl <| ?_
    obtain ⟨k8, h⟩ := h
    have hsw : x2 = 0 ∨ x2 = 1 ∨ x2 = 2 ∨ x2 = 3 ∨ (x2 < 0 ∨ 3 < x2) := by omega
    rcases hsw with hsw | hsw | hsw | hsw | hsw
    · have h := h.1 hsw
      refine v_tsw (tg := 52) DX0_token_20W.1 (v := 0) ⟨by decide, by decide⟩ hsw ⟨by decide, by decide⟩ rfl (by decide) ?_
      refine v_aload_n 0 DX0_token_52W rfl rfl <| w_getR (ci := 0) (kf := 5) (kz := 5) DX0_token_53W (s_0 hL) rfl (by decide) rfl (Or.inl q999) (fun _ _ => rfl) (r_0_5 hL) <| w_getR (ci := 1) (kf := 2) (kz := 2) DX0_token_56W (s_4 hL) rfl (by decide) rfl (Or.inr ⟨_, q635⟩) (fun _ _ => rfl) (r_4_2 hL) <| v_iload_n 1 DX0_token_59W rfl rfl <| ?_
      obtain ⟨k9, k10, h⟩ := h
      refine v_iald DX0_token_60W (s_7 hL) k9 k10 (fun f11 => ?_)
      have h := h f11
      exact v_iret DX0_token_61W rfl rfl h
    · have h := h.2.1 hsw
      refine v_tsw (tg := 62) DX0_token_20W.1 (v := 1) ⟨by decide, by decide⟩ hsw ⟨by decide, by decide⟩ rfl (by decide) ?_
      refine v_aload_n 0 DX0_token_62W rfl rfl <| w_getR (ci := 0) (kf := 5) (kz := 5) DX0_token_63W (s_0 hL) rfl (by decide) rfl (Or.inl q999) (fun _ _ => rfl) (r_0_5 hL) <| w_getR (ci := 1) (kf := 3) (kz := 3) DX0_token_66W (s_4 hL) rfl (by decide) rfl (Or.inr ⟨_, q637⟩) (fun _ _ => rfl) (r_4_3 hL) <| v_iload_n 1 DX0_token_69W rfl rfl <| ?_
      obtain ⟨k12, k13, h⟩ := h
      refine v_iald DX0_token_70W (s_8 hL) k12 k13 (fun f14 => ?_)
      have h := h f14
      exact v_iret DX0_token_71W rfl rfl h
    · have h := h.2.2.1 hsw
      refine v_tsw (tg := 72) DX0_token_20W.1 (v := 2) ⟨by decide, by decide⟩ hsw ⟨by decide, by decide⟩ rfl (by decide) ?_
      refine v_aload_n 0 DX0_token_72W rfl rfl <| w_getR (ci := 0) (kf := 5) (kz := 5) DX0_token_73W (s_0 hL) rfl (by decide) rfl (Or.inl q999) (fun _ _ => rfl) (r_0_5 hL) <| w_getR (ci := 1) (kf := 4) (kz := 4) DX0_token_76W (s_4 hL) rfl (by decide) rfl (Or.inr ⟨_, q640⟩) (fun _ _ => rfl) (r_4_4 hL) <| v_iload_n 1 DX0_token_79W rfl rfl <| ?_
      obtain ⟨k15, k16, h⟩ := h
      refine v_iald DX0_token_80W (s_9 hL) k15 k16 (fun f17 => ?_)
      have h := h f17
      exact v_iret DX0_token_81W rfl rfl h
    · have h := h.2.2.2.1 hsw
      refine v_tsw (tg := 82) DX0_token_20W.1 (v := 3) ⟨by decide, by decide⟩ hsw ⟨by decide, by decide⟩ rfl (by decide) ?_
      refine v_aload_n 0 DX0_token_82W rfl rfl <| w_getR (ci := 0) (kf := 5) (kz := 5) DX0_token_83W (s_0 hL) rfl (by decide) rfl (Or.inl q999) (fun _ _ => rfl) (r_0_5 hL) <| w_getR (ci := 1) (kf := 1) (kz := 1) DX0_token_86W (s_4 hL) rfl (by decide) rfl (Or.inr ⟨_, q633⟩) (fun _ _ => rfl) (r_4_1 hL) <| v_iload_n 1 DX0_token_89W rfl rfl <| ?_
      obtain ⟨k18, k19, h⟩ := h
      refine v_iald DX0_token_90W (s_6 hL) k18 k19 (fun f20 => ?_)
      have h := h f20
      exact v_iret DX0_token_91W rfl rfl h
    · have h := h.2.2.2.2 hsw
      refine v_tswO (tg := 92) DX0_token_20W.1 k8 hsw (by decide) ?_
      refine v_iconst DX0_token_92W <| ?_
      exact v_iret DX0_token_93W rfl rfl h
  · have h := h.2 c6
    refine v_if_ne (tg := 19) DX0_token_14W (by decide) ⟨by decide, by decide⟩ (fun c21 => absurd c21 (by decide)) (fun c21 => ?_)
    refine v_iconst DX0_token_17W <| ?_
    exact v_iret DX0_token_18W rfl rfl h
theorem sp_X0_tokenW {E : XE} {d : Nat} {σ : Sto} {x1 : Int} {x2 : Int} (hd : 2 ≤ d) (hL : Lay σ)  (p0 : inR x1) (p1 : inR x2) (p2 : 0 ≤ σ.I 4 5 ∧ σ.I 4 5 ≤ 250) : CC E mX0_token d [aO 0, aI (x1), aI (x2)] σ (RI σ (if ¬ (0 ≤ x1 ∧ x1 < σ.I 4 5) then -1 else if x2 = 0 then σ.I 7 x1 else if x2 = 1 then σ.I 8 x1 else if x2 = 2 then σ.I 9 x1 else if x2 = 3 then σ.I 6 x1 else -1)) := by
  obtain ⟨d, rfl⟩ : ∃ e, d = e + 1 := ⟨d - 1, by omega⟩
  have p0a := p0.1; have p0b := p0.2
  have p1a := p1.1; have p1b := p1.2
  refine ucX0_token_0W  hL  ?_
  rintro ⟨f1, f1q⟩
  refine ⟨?_, ?_⟩
  · omega
  refine ⟨?_, ?_⟩
  · (first | omega | (grind (splits := 16) (ematch := 30) (gen := 30) [-Prod, inR, inL]))
  refine ⟨?_, ?_⟩
  · (first | omega | (grind (splits := 16) (ematch := 30) (gen := 30) [-Prod, inR, inL]))
  refine ⟨?_, ?_⟩
  · (first | omega | (grind (splits := 16) (ematch := 30) (gen := 30) [-Prod, inR, inL]))
  refine ⟨fun c2 => ?_, fun c3 => ?_⟩
  · refine ⟨?_, ?_⟩
    · (first | exact ⟨by omega, by omega⟩ | (grind (splits := 16) (ematch := 30) (gen := 30) [-Prod, inR, inL]))
    refine ⟨fun c4 => ?_, fun c5 => ?_, fun c6 => ?_, fun c7 => ?_, fun c8 => ?_⟩
    · refine ⟨?_, ?_⟩
      · (first | omega | (grind (splits := 16) (ematch := 30) (gen := 30) [-Prod, inR, inL]))
      refine ⟨?_, ?_⟩
      · (first | omega | (grind (splits := 16) (ematch := 30) (gen := 30) [-Prod, inR, inL]))
      rintro ⟨f9, f9q⟩
      refine RI_mk ?_ ?_
      · (first | omega | (grind (splits := 16) (ematch := 30) (gen := 30) [-Prod, inR, inL]))
      · (first | exact ⟨by omega, by omega⟩ | (grind (splits := 16) (ematch := 30) (gen := 30) [-Prod, inR, inL]))
    · refine ⟨?_, ?_⟩
      · (first | omega | (grind (splits := 16) (ematch := 30) (gen := 30) [-Prod, inR, inL]))
      refine ⟨?_, ?_⟩
      · (first | omega | (grind (splits := 16) (ematch := 30) (gen := 30) [-Prod, inR, inL]))
      rintro ⟨f10, f10q⟩
      refine RI_mk ?_ ?_
      · (first | omega | (grind (splits := 16) (ematch := 30) (gen := 30) [-Prod, inR, inL]))
      · (first | exact ⟨by omega, by omega⟩ | (grind (splits := 16) (ematch := 30) (gen := 30) [-Prod, inR, inL]))
    · refine ⟨?_, ?_⟩
      · (first | omega | (grind (splits := 16) (ematch := 30) (gen := 30) [-Prod, inR, inL]))
      refine ⟨?_, ?_⟩
      · (first | omega | (grind (splits := 16) (ematch := 30) (gen := 30) [-Prod, inR, inL]))
      rintro ⟨f11, f11q⟩
      refine RI_mk ?_ ?_
      · (first | omega | (grind (splits := 16) (ematch := 30) (gen := 30) [-Prod, inR, inL]))
      · (first | exact ⟨by omega, by omega⟩ | (grind (splits := 16) (ematch := 30) (gen := 30) [-Prod, inR, inL]))
    · refine ⟨?_, ?_⟩
      · (first | omega | (grind (splits := 16) (ematch := 30) (gen := 30) [-Prod, inR, inL]))
      refine ⟨?_, ?_⟩
      · (first | omega | (grind (splits := 16) (ematch := 30) (gen := 30) [-Prod, inR, inL]))
      rintro ⟨f12, f12q⟩
      refine RI_mk ?_ ?_
      · (first | omega | (grind (splits := 16) (ematch := 30) (gen := 30) [-Prod, inR, inL]))
      · (first | exact ⟨by omega, by omega⟩ | (grind (splits := 16) (ematch := 30) (gen := 30) [-Prod, inR, inL]))
    · refine RI_mk ?_ ?_
      · (first | omega | (grind (splits := 16) (ematch := 30) (gen := 30) [-Prod, inR, inL]))
      · (first | exact ⟨by omega, by omega⟩ | (grind (splits := 16) (ematch := 30) (gen := 30) [-Prod, inR, inL]))
  · refine RI_mk ?_ ?_
    · (first | omega | (grind (splits := 16) (ematch := 30) (gen := 30) [-Prod, inR, inL]))
    · (first | exact ⟨by omega, by omega⟩ | (grind (splits := 16) (ematch := 30) (gen := 30) [-Prod, inR, inL]))
theorem DX9_token_0W : DD cX9_token 0 1 1 (.iload_n 1) := ⟨by decide +kernel, rfl⟩
theorem DX9_token_1W : DD cX9_token 1 3 4 (.ifCond .lt 20) := ⟨by decide +kernel, rfl⟩
theorem DX9_token_4W : DD cX9_token 4 1 5 (.iload_n 1) := ⟨by decide +kernel, rfl⟩
theorem DX9_token_5W : DD cX9_token 5 1 6 (.aload_n 0) := ⟨by decide +kernel, rfl⟩
theorem DX9_token_6W : DD cX9_token 6 3 9 (.getfield 562) := ⟨by decide +kernel, rfl⟩
theorem DX9_token_9W : DD cX9_token 9 3 12 (.if_icmp .ge 12) := ⟨by decide +kernel, rfl⟩
theorem DX9_token_12W : DD cX9_token 12 1 13 (.iload_n 2) := ⟨by decide +kernel, rfl⟩
theorem DX9_token_13W : DD cX9_token 13 3 16 (.ifCond .lt 8) := ⟨by decide +kernel, rfl⟩
theorem DX9_token_16W : DD cX9_token 16 1 17 (.iload_n 2) := ⟨by decide +kernel, rfl⟩
theorem DX9_token_17W : DD cX9_token 17 1 18 (.iconst 3) := ⟨by decide +kernel, rfl⟩
theorem DX9_token_18W : DD cX9_token 18 3 21 (.if_icmp .le 7) := ⟨by decide +kernel, rfl⟩
theorem DX9_token_21W : DD cX9_token 21 1 22 (.iconst (-1)) := ⟨by decide +kernel, rfl⟩
theorem DX9_token_22W : DD cX9_token 22 3 25 (.goto 13) := ⟨by decide +kernel, rfl⟩
theorem DX9_token_25W : DD cX9_token 25 1 26 (.aload_n 0) := ⟨by decide +kernel, rfl⟩
theorem DX9_token_26W : DD cX9_token 26 3 29 (.getfield 78) := ⟨by decide +kernel, rfl⟩
theorem DX9_token_29W : DD cX9_token 29 1 30 (.iconst 4) := ⟨by decide +kernel, rfl⟩
theorem DX9_token_30W : DD cX9_token 30 1 31 (.iload_n 1) := ⟨by decide +kernel, rfl⟩
theorem DX9_token_31W : DD cX9_token 31 1 32 (.imul) := ⟨by decide +kernel, rfl⟩
theorem DX9_token_32W : DD cX9_token 32 1 33 (.iload_n 2) := ⟨by decide +kernel, rfl⟩
theorem DX9_token_33W : DD cX9_token 33 1 34 (.iadd) := ⟨by decide +kernel, rfl⟩
theorem DX9_token_34W : DD cX9_token 34 1 35 (.iaload) := ⟨by decide +kernel, rfl⟩
theorem DX9_token_35W : DD cX9_token 35 1 36 (.ireturn) := ⟨by decide +kernel, rfl⟩
theorem ucX9_token_0W {E : XE} {d : Nat} {σ : Sto} {Q : Res → Sto → Prop} {x1 : Int} {x2 : Int} (hL : Lay σ)  (h : inR x1 ∧ (x1 < 0 → Q (.inl (some (aI (-1)))) σ) ∧ (0 ≤ x1 → (inR (σ.I 555 24) → ((σ.I 555 24) ≤ x1 → Q (.inl (some (aI (-1)))) σ) ∧ (x1 < (σ.I 555 24) → inR x2 ∧ (x2 < 0 → Q (.inl (some (aI (-1)))) σ) ∧ (0 ≤ x2 → (x2 ≤ 3 → 0 ≤ ((4 * x1) + x2) ∧ ((4 * x1) + x2) < 1200 ∧ (inR (σ.I 575 ((4 * x1) + x2)) → Q (.inl (some (aI (σ.I 575 ((4 * x1) + x2))))) σ)) ∧ (3 < x2 → Q (.inl (some (aI (-1)))) σ)))))) : VV E mX9_token (d + 1) 0 [(0, aO 555), (1, aI (x1)), (2, aI (x2))] [] σ Q := by
  refine v_iload_n 1 DX9_token_0W rfl rfl <| ?_
  obtain ⟨k1, h⟩ := h
  refine v_if_lt (tg := 21) DX9_token_1W (by decide) k1 (fun c2 => ?_) (fun c2 => ?_)
  · have h := h.1 c2
    refine v_iconst DX9_token_21W <| v_goto (pc' := 35) DX9_token_22W.1 (by decide) <| ?_
    exact v_iret DX9_token_35W rfl rfl h
  · have h := h.2 c2
    refine v_iload_n 1 DX9_token_4W rfl rfl <| v_aload_n 0 DX9_token_5W rfl rfl <| ?_
    refine w_getI (ci := 9) (kf := 24) (kz := 24) DX9_token_6W (s_555 hL) rfl (by decide) rfl (Or.inl q2248) (fun _ _ => rfl) (fun f3 => ?_)
    have h := h f3
    refine v_icmp_ge (tg := 21) DX9_token_9W (by decide) k1 f3 (fun c4 => ?_) (fun c4 => ?_)
    · have h := h.1 c4
      refine v_iconst DX9_token_21W <| v_goto (pc' := 35) DX9_token_22W.1 (by decide) <| ?_
      exact v_iret DX9_token_35W rfl rfl h
    · have h := h.2 c4
      refine v_iload_n 2 DX9_token_12W rfl rfl <| ?_
      obtain ⟨k5, h⟩ := h
      refine v_if_lt (tg := 21) DX9_token_13W (by decide) k5 (fun c6 => ?_) (fun c6 => ?_)
      · have h := h.1 c6
        refine v_iconst DX9_token_21W <| v_goto (pc' := 35) DX9_token_22W.1 (by decide) <| ?_
        exact v_iret DX9_token_35W rfl rfl h
      · have h := h.2 c6
        refine v_iload_n 2 DX9_token_16W rfl rfl <| v_iconst DX9_token_17W <| ?_
        refine v_icmp_le (tg := 25) DX9_token_18W (by decide) k5 ⟨by decide, by decide⟩ (fun c7 => ?_) (fun c7 => ?_)
        · have h := h.1 c7
          refine v_aload_n 0 DX9_token_25W rfl rfl <| w_getR (ci := 9) (kf := 25) (kz := 25) DX9_token_26W (s_555 hL) rfl (by decide) rfl (Or.inl q2249) (fun _ _ => rfl) (r_555_25 hL) <| v_iconst DX9_token_29W <| v_iload_n 1 DX9_token_30W rfl rfl <| v_imul DX9_token_31W <| v_iload_n 2 DX9_token_32W rfl rfl <| v_iadd DX9_token_33W <| ?_
          obtain ⟨k8, k9, h⟩ := h
          refine v_iald DX9_token_34W (s_575 hL) k8 k9 (fun f10 => ?_)
          have h := h f10
          exact v_iret DX9_token_35W rfl rfl h
        · have h := h.2 c7
          refine v_iconst DX9_token_21W <| v_goto (pc' := 35) DX9_token_22W.1 (by decide) <| ?_
          exact v_iret DX9_token_35W rfl rfl h
theorem sp_X9_tokenW {E : XE} {d : Nat} {σ : Sto} {x1 : Int} {x2 : Int} (hd : 1 ≤ d) (hL : Lay σ)  (p0 : inR x1) (p1 : inR x2) (p2 : 0 ≤ σ.I 555 24 ∧ σ.I 555 24 ≤ 250) : CC E mX9_token d [aO 555, aI (x1), aI (x2)] σ (RI σ (if ¬ (0 ≤ x1 ∧ x1 < σ.I 555 24) ∨ x2 < 0 ∨ 3 < x2 then -1 else σ.I 575 (4 * x1 + x2))) := by
  obtain ⟨d, rfl⟩ : ∃ e, d = e + 1 := ⟨d - 1, by omega⟩
  have p0a := p0.1; have p0b := p0.2
  have p1a := p1.1; have p1b := p1.2
  refine ucX9_token_0W  hL  ?_
  refine ⟨?_, ?_⟩
  · (first | exact ⟨by omega, by omega⟩ | (grind (splits := 16) (ematch := 30) (gen := 30) [-Prod, inR, inL]))
  refine ⟨fun c1 => ?_, fun c2 => ?_⟩
  · refine RI_mk ?_ ?_
    · (first | omega | (grind (splits := 16) (ematch := 30) (gen := 30) [-Prod, inR, inL]))
    · (first | exact ⟨by omega, by omega⟩ | (grind (splits := 16) (ematch := 30) (gen := 30) [-Prod, inR, inL]))
  · rintro ⟨f3, f3q⟩
    refine ⟨fun c4 => ?_, fun c5 => ?_⟩
    · refine RI_mk ?_ ?_
      · (first | omega | (grind (splits := 16) (ematch := 30) (gen := 30) [-Prod, inR, inL]))
      · (first | exact ⟨by omega, by omega⟩ | (grind (splits := 16) (ematch := 30) (gen := 30) [-Prod, inR, inL]))
    · refine ⟨?_, ?_⟩
      · (first | exact ⟨by omega, by omega⟩ | (grind (splits := 16) (ematch := 30) (gen := 30) [-Prod, inR, inL]))
      refine ⟨fun c6 => ?_, fun c7 => ?_⟩
      · refine RI_mk ?_ ?_
        · (first | omega | (grind (splits := 16) (ematch := 30) (gen := 30) [-Prod, inR, inL]))
        · (first | exact ⟨by omega, by omega⟩ | (grind (splits := 16) (ematch := 30) (gen := 30) [-Prod, inR, inL]))
      · refine ⟨fun c8 => ?_, fun c9 => ?_⟩
        · refine ⟨?_, ?_⟩
          · (first | omega | (grind (splits := 16) (ematch := 30) (gen := 30) [-Prod, inR, inL]))
          refine ⟨?_, ?_⟩
          · (first | omega | (grind (splits := 16) (ematch := 30) (gen := 30) [-Prod, inR, inL]))
          rintro ⟨f10, f10q⟩
          refine RI_mk ?_ ?_
          · (first | omega | (grind (splits := 16) (ematch := 30) (gen := 30) [-Prod, inR, inL]))
          · (first | exact ⟨by omega, by omega⟩ | (grind (splits := 16) (ematch := 30) (gen := 30) [-Prod, inR, inL]))
        · refine RI_mk ?_ ?_
          · (first | omega | (grind (splits := 16) (ematch := 30) (gen := 30) [-Prod, inR, inL]))
          · (first | exact ⟨by omega, by omega⟩ | (grind (splits := 16) (ematch := 30) (gen := 30) [-Prod, inR, inL]))
theorem DX0_letter_0W : DD cX0_letter 0 1 1 (.iload_n 1) := ⟨by decide +kernel, rfl⟩
theorem DX0_letter_1W : DD cX0_letter 1 1 2 (.iconst 0) := ⟨by decide +kernel, rfl⟩
theorem DX0_letter_2W : DD cX0_letter 2 1 3 (.aload_n 0) := ⟨by decide +kernel, rfl⟩
theorem DX0_letter_3W : DD cX0_letter 3 3 6 (.getfield 86) := ⟨by decide +kernel, rfl⟩
theorem DX0_letter_6W : DD cX0_letter 6 3 9 (.getfield 94) := ⟨by decide +kernel, rfl⟩
theorem DX0_letter_9W : DD cX0_letter 9 1 10 (.iconst 1) := ⟨by decide +kernel, rfl⟩
theorem DX0_letter_10W : DD cX0_letter 10 1 11 (.isub) := ⟨by decide +kernel, rfl⟩
theorem DX0_letter_11W : DD cX0_letter 11 3 14 (.invokestatic 18) := ⟨by decide +kernel, rfl⟩
theorem DX0_letter_14W : DD cX0_letter 14 3 17 (.ifCond .eq 43) := ⟨by decide +kernel, rfl⟩
theorem DX0_letter_17W : DD cX0_letter 17 1 18 (.iload_n 2) := ⟨by decide +kernel, rfl⟩
theorem DX0_letter_18W : DD cX0_letter 18 1 19 (.iconst 0) := ⟨by decide +kernel, rfl⟩
theorem DX0_letter_19W : DD cX0_letter 19 1 20 (.aload_n 0) := ⟨by decide +kernel, rfl⟩
theorem DX0_letter_20W : DD cX0_letter 20 3 23 (.getfield 86) := ⟨by decide +kernel, rfl⟩
theorem DX0_letter_23W : DD cX0_letter 23 3 26 (.getfield 107) := ⟨by decide +kernel, rfl⟩
theorem DX0_letter_26W : DD cX0_letter 26 1 27 (.iload_n 1) := ⟨by decide +kernel, rfl⟩
theorem DX0_letter_27W : DD cX0_letter 27 1 28 (.iaload) := ⟨by decide +kernel, rfl⟩
theorem DX0_letter_28W : DD cX0_letter 28 1 29 (.iconst 1) := ⟨by decide +kernel, rfl⟩
theorem DX0_letter_29W : DD cX0_letter 29 1 30 (.isub) := ⟨by decide +kernel, rfl⟩
theorem DX0_letter_30W : DD cX0_letter 30 3 33 (.invokestatic 18) := ⟨by decide +kernel, rfl⟩
theorem DX0_letter_33W : DD cX0_letter 33 3 36 (.ifCond .eq 24) := ⟨by decide +kernel, rfl⟩
theorem DX0_letter_36W : DD cX0_letter 36 1 37 (.aload_n 0) := ⟨by decide +kernel, rfl⟩
theorem DX0_letter_37W : DD cX0_letter 37 3 40 (.getfield 86) := ⟨by decide +kernel, rfl⟩
theorem DX0_letter_40W : DD cX0_letter 40 3 43 (.getfield 110) := ⟨by decide +kernel, rfl⟩
theorem DX0_letter_43W : DD cX0_letter 43 2 45 (.bipush 20) := ⟨by decide +kernel, rfl⟩
theorem DX0_letter_45W : DD cX0_letter 45 1 46 (.iload_n 1) := ⟨by decide +kernel, rfl⟩
theorem DX0_letter_46W : DD cX0_letter 46 1 47 (.imul) := ⟨by decide +kernel, rfl⟩
theorem DX0_letter_47W : DD cX0_letter 47 1 48 (.iload_n 2) := ⟨by decide +kernel, rfl⟩
theorem DX0_letter_48W : DD cX0_letter 48 1 49 (.iadd) := ⟨by decide +kernel, rfl⟩
theorem DX0_letter_49W : DD cX0_letter 49 1 50 (.baload) := ⟨by decide +kernel, rfl⟩
theorem DX0_letter_50W : DD cX0_letter 50 3 53 (.sipush 255) := ⟨by decide +kernel, rfl⟩
theorem DX0_letter_53W : DD cX0_letter 53 1 54 (.iand) := ⟨by decide +kernel, rfl⟩
theorem DX0_letter_54W : DD cX0_letter 54 3 57 (.goto 4) := ⟨by decide +kernel, rfl⟩
theorem DX0_letter_57W : DD cX0_letter 57 1 58 (.iconst (-1)) := ⟨by decide +kernel, rfl⟩
theorem DX0_letter_58W : DD cX0_letter 58 1 59 (.ireturn) := ⟨by decide +kernel, rfl⟩
theorem ucX0_letter_0W {E : XE} {d : Nat} {σ : Sto} {Q : Res → Sto → Prop} {x1 : Int} {x2 : Int} (hL : Lay σ)  (h : (inR (σ.I 4 5) → 1 ≤ d ∧ (inR x1) ∧ (inR (0 : Int)) ∧ (inR ((σ.I 4 5) - 1)) ∧ (((0 : Int) ≤ x1 ∧ x1 ≤ ((σ.I 4 5) - 1)) → 0 ≤ x1 ∧ x1 < 250 ∧ (inR (σ.I 6 x1) → 1 ≤ d ∧ (inR x2) ∧ (inR (0 : Int)) ∧ (inR ((σ.I 6 x1) - 1)) ∧ (((0 : Int) ≤ x2 ∧ x2 ≤ ((σ.I 6 x1) - 1)) → 0 ≤ ((20 * x1) + x2) ∧ ((20 * x1) + x2) < 5000 ∧ (-128 ≤ σ.I 5 ((20 * x1) + x2) ∧ σ.I 5 ((20 * x1) + x2) ≤ 127 → Q (.inl (some (aI (b32and (σ.I 5 ((20 * x1) + x2)) 255)))) σ)) ∧ (¬ ((0 : Int) ≤ x2 ∧ x2 ≤ ((σ.I 6 x1) - 1)) → Q (.inl (some (aI (-1)))) σ))) ∧ (¬ ((0 : Int) ≤ x1 ∧ x1 ≤ ((σ.I 4 5) - 1)) → Q (.inl (some (aI (-1)))) σ))) : VV E mX0_letter (d + 1) 0 [(0, aO 0), (1, aI (x1)), (2, aI (x2))] [] σ Q := by
  refine v_iload_n 1 DX0_letter_0W rfl rfl <| v_iconst DX0_letter_1W <| v_aload_n 0 DX0_letter_2W rfl rfl <| w_getR (ci := 0) (kf := 5) (kz := 5) DX0_letter_3W (s_0 hL) rfl (by decide) rfl (Or.inl q999) (fun _ _ => rfl) (r_0_5 hL) <| ?_
  refine w_getI (ci := 1) (kf := 5) (kz := 5) DX0_letter_6W (s_4 hL) rfl (by decide) rfl (Or.inr ⟨_, q643⟩) (fun _ _ => rfl) (fun f1 => ?_)
  have h := h f1
  refine v_iconst DX0_letter_9W <| v_isub DX0_letter_10W <| ?_
  obtain ⟨k2, h⟩ := h
  obtain ⟨k3, k4, k5, h⟩ := h
  refine v_invS (as := [aI (x1), aI (0), aI ((σ.I 4 5) - 1)]) (st := []) DX0_letter_11W rfl okX0_isIn (Or.inl q300) q301 npX0_isIn (sp_X0_isIn (σ := σ) (x0 := x1) (x1 := (0 : Int)) (x2 := (σ.I 4 5) - 1) k2 hL k3 k4 k5) (Nat.le_of_ble_eq_true rfl) (Nat.le_refl _) (Nat.le_of_ble_eq_true rfl) (RZ_ret (fun c6 => ?_) (fun c6 => ?_)) RZ_thr
  · have h := h.1 c6
    refine v_if_eq (tg := 57) DX0_letter_14W (by decide) ⟨by decide, by decide⟩ (fun c7 => absurd c7 (by decide)) (fun c7 => ?_)
    refine v_iload_n 2 DX0_letter_17W rfl rfl <| v_iconst DX0_letter_18W <| v_aload_n 0 DX0_letter_19W rfl rfl <| w_getR (ci := 0) (kf := 5) (kz := 5) DX0_letter_20W (s_0 hL) rfl (by decide) rfl (Or.inl q999) (fun _ _ => rfl) (r_0_5 hL) <| w_getR (ci := 1) (kf := 1) (kz := 1) DX0_letter_23W (s_4 hL) rfl (by decide) rfl (Or.inr ⟨_, q633⟩) (fun _ _ => rfl) (r_4_1 hL) <| v_iload_n 1 DX0_letter_26W rfl rfl <| ?_
    obtain ⟨k8, k9, h⟩ := h
    refine v_iald DX0_letter_27W (s_6 hL) k8 k9 (fun f10 => ?_)
    have h := h f10
    refine v_iconst DX0_letter_28W <| v_isub DX0_letter_29W <| ?_
    obtain ⟨k11, h⟩ := h
    obtain ⟨k12, k13, k14, h⟩ := h
    refine v_invS (as := [aI (x2), aI (0), aI ((σ.I 6 x1) - 1)]) (st := []) DX0_letter_30W rfl okX0_isIn (Or.inl q300) q301 npX0_isIn (sp_X0_isIn (σ := σ) (x0 := x2) (x1 := (0 : Int)) (x2 := (σ.I 6 x1) - 1) k11 hL k12 k13 k14) (Nat.le_of_ble_eq_true rfl) (Nat.le_refl _) (Nat.le_of_ble_eq_true rfl) (RZ_ret (fun c15 => ?_) (fun c15 => ?_)) RZ_thr
    · have h := h.1 c15
      refine v_if_eq (tg := 57) DX0_letter_33W (by decide) ⟨by decide, by decide⟩ (fun c16 => absurd c16 (by decide)) (fun c16 => ?_)
      refine v_aload_n 0 DX0_letter_36W rfl rfl <| w_getR (ci := 0) (kf := 5) (kz := 5) DX0_letter_37W (s_0 hL) rfl (by decide) rfl (Or.inl q999) (fun _ _ => rfl) (r_0_5 hL) <| w_getR (ci := 1) (kf := 0) (kz := 0) DX0_letter_40W (s_4 hL) rfl (by decide) rfl (Or.inr ⟨_, q630⟩) (fun _ _ => rfl) (r_4_0 hL) <| v_bipush DX0_letter_43W ⟨by decide, by decide⟩ <| v_iload_n 1 DX0_letter_45W rfl rfl <| v_imul DX0_letter_46W <| v_iload_n 2 DX0_letter_47W rfl rfl <| v_iadd DX0_letter_48W <| ?_
      obtain ⟨k17, k18, h⟩ := h
      refine v_bald DX0_letter_49W (s_5 hL) k17 k18 (fun f19 => ?_)
      have h := h f19
      refine v_sipush DX0_letter_50W ⟨by decide, by decide⟩ <| v_iand DX0_letter_53W <| v_goto (pc' := 58) DX0_letter_54W.1 (by decide) <| ?_
      exact v_iret DX0_letter_58W rfl rfl h
    · have h := h.2 c15
      refine v_if_eq (tg := 57) DX0_letter_33W (by decide) ⟨by decide, by decide⟩ (fun c20 => ?_) (fun c20 => absurd c20 (by decide))
      refine v_iconst DX0_letter_57W <| ?_
      exact v_iret DX0_letter_58W rfl rfl h
  · have h := h.2 c6
    refine v_if_eq (tg := 57) DX0_letter_14W (by decide) ⟨by decide, by decide⟩ (fun c21 => ?_) (fun c21 => absurd c21 (by decide))
    refine v_iconst DX0_letter_57W <| ?_
    exact v_iret DX0_letter_58W rfl rfl h
theorem sp_X0_letterW {E : XE} {d : Nat} {σ : Sto} {x1 : Int} {x2 : Int} (hd : 2 ≤ d) (hL : Lay σ)  (p0 : inR x1) (p1 : inR x2) (p2 : 0 ≤ σ.I 4 5 ∧ σ.I 4 5 ≤ 250) (p3 : bd_0_20 σ 6 250) : CC E mX0_letter d [aO 0, aI (x1), aI (x2)] σ (RI σ (if (0 ≤ x1 ∧ x1 < σ.I 4 5) ∧ (0 ≤ x2 ∧ x2 < σ.I 6 x1) then σ.I 5 (20 * x1 + x2) % 256 else -1)) := by
  obtain ⟨d, rfl⟩ : ∃ e, d = e + 1 := ⟨d - 1, by omega⟩
  have p0a := p0.1; have p0b := p0.2
  have p1a := p1.1; have p1b := p1.2
  refine ucX0_letter_0W  hL  ?_
  rintro ⟨f1, f1q⟩
  refine ⟨?_, ?_⟩
  · omega
  refine ⟨?_, ?_⟩
  · (first | omega | (grind (splits := 16) (ematch := 30) (gen := 30) [-Prod, inR, inL, bd_0_20_at, = and255]))
  refine ⟨?_, ?_⟩
  · (first | omega | (grind (splits := 16) (ematch := 30) (gen := 30) [-Prod, inR, inL, bd_0_20_at, = and255]))
  refine ⟨?_, ?_⟩
  · (first | omega | (grind (splits := 16) (ematch := 30) (gen := 30) [-Prod, inR, inL, bd_0_20_at, = and255]))
  refine ⟨fun c2 => ?_, fun c3 => ?_⟩
  · refine ⟨?_, ?_⟩
    · (first | omega | (grind (splits := 16) (ematch := 30) (gen := 30) [-Prod, inR, inL, bd_0_20_at, = and255]))
    refine ⟨?_, ?_⟩
    · (first | omega | (grind (splits := 16) (ematch := 30) (gen := 30) [-Prod, inR, inL, bd_0_20_at, = and255]))
    rintro ⟨f4, f4q⟩
    refine ⟨?_, ?_⟩
    · omega
    refine ⟨?_, ?_⟩
    · (first | omega | (grind (splits := 16) (ematch := 30) (gen := 30) [-Prod, inR, inL, bd_0_20_at, = and255]))
    refine ⟨?_, ?_⟩
    · (first | omega | (grind (splits := 16) (ematch := 30) (gen := 30) [-Prod, inR, inL, bd_0_20_at, = and255]))
    refine ⟨?_, ?_⟩
    · (first | omega | (grind (splits := 16) (ematch := 30) (gen := 30) [-Prod, inR, inL, bd_0_20_at, = and255]))
    refine ⟨fun c5 => ?_, fun c6 => ?_⟩
    · refine ⟨?_, ?_⟩
      · (first | omega | (grind (splits := 16) (ematch := 30) (gen := 30) [-Prod, inR, inL, bd_0_20_at, = and255]))
      refine ⟨?_, ?_⟩
      · (first | omega | (grind (splits := 16) (ematch := 30) (gen := 30) [-Prod, inR, inL, bd_0_20_at, = and255]))
      rintro ⟨f7, f7q⟩
      refine RI_mk ?_ ?_
      · (first | omega | (grind (splits := 16) (ematch := 30) (gen := 30) [-Prod, inR, inL, bd_0_20_at, = and255]))
      · (first | exact ⟨by omega, by omega⟩ | (grind (splits := 16) (ematch := 30) (gen := 30) [-Prod, inR, inL, bd_0_20_at, = and255]))
    · refine RI_mk ?_ ?_
      · (first | omega | (grind (splits := 16) (ematch := 30) (gen := 30) [-Prod, inR, inL, bd_0_20_at, = and255]))
      · (first | exact ⟨by omega, by omega⟩ | (grind (splits := 16) (ematch := 30) (gen := 30) [-Prod, inR, inL, bd_0_20_at, = and255]))
  · refine RI_mk ?_ ?_
    · (first | omega | (grind (splits := 16) (ematch := 30) (gen := 30) [-Prod, inR, inL, bd_0_20_at, = and255]))
    · (first | exact ⟨by omega, by omega⟩ | (grind (splits := 16) (ematch := 30) (gen := 30) [-Prod, inR, inL, bd_0_20_at, = and255]))
theorem DX9_letter_0W : DD cX9_letter 0 1 1 (.iload_n 1) := ⟨by decide +kernel, rfl⟩
theorem DX9_letter_1W : DD cX9_letter 1 3 4 (.ifCond .lt 29) := ⟨by decide +kernel, rfl⟩
theorem DX9_letter_4W : DD cX9_letter 4 1 5 (.iload_n 1) := ⟨by decide +kernel, rfl⟩
theorem DX9_letter_5W : DD cX9_letter 5 1 6 (.aload_n 0) := ⟨by decide +kernel, rfl⟩
theorem DX9_letter_6W : DD cX9_letter 6 3 9 (.getfield 562) := ⟨by decide +kernel, rfl⟩
theorem DX9_letter_9W : DD cX9_letter 9 3 12 (.if_icmp .ge 21) := ⟨by decide +kernel, rfl⟩
theorem DX9_letter_12W : DD cX9_letter 12 1 13 (.iload_n 2) := ⟨by decide +kernel, rfl⟩
theorem DX9_letter_13W : DD cX9_letter 13 3 16 (.ifCond .lt 17) := ⟨by decide +kernel, rfl⟩
theorem DX9_letter_16W : DD cX9_letter 16 1 17 (.iload_n 2) := ⟨by decide +kernel, rfl⟩
theorem DX9_letter_17W : DD cX9_letter 17 1 18 (.aload_n 0) := ⟨by decide +kernel, rfl⟩
theorem DX9_letter_18W : DD cX9_letter 18 3 21 (.getfield 78) := ⟨by decide +kernel, rfl⟩
theorem DX9_letter_21W : DD cX9_letter 21 1 22 (.iconst 4) := ⟨by decide +kernel, rfl⟩
theorem DX9_letter_22W : DD cX9_letter 22 1 23 (.iload_n 1) := ⟨by decide +kernel, rfl⟩
theorem DX9_letter_23W : DD cX9_letter 23 1 24 (.imul) := ⟨by decide +kernel, rfl⟩
theorem DX9_letter_24W : DD cX9_letter 24 1 25 (.iconst 3) := ⟨by decide +kernel, rfl⟩
theorem DX9_letter_25W : DD cX9_letter 25 1 26 (.iadd) := ⟨by decide +kernel, rfl⟩
theorem DX9_letter_26W : DD cX9_letter 26 1 27 (.iaload) := ⟨by decide +kernel, rfl⟩
theorem DX9_letter_27W : DD cX9_letter 27 3 30 (.if_icmp .lt 7) := ⟨by decide +kernel, rfl⟩
theorem DX9_letter_30W : DD cX9_letter 30 1 31 (.iconst (-1)) := ⟨by decide +kernel, rfl⟩
theorem DX9_letter_31W : DD cX9_letter 31 3 34 (.goto 18) := ⟨by decide +kernel, rfl⟩
theorem DX9_letter_34W : DD cX9_letter 34 1 35 (.aload_n 0) := ⟨by decide +kernel, rfl⟩
theorem DX9_letter_35W : DD cX9_letter 35 3 38 (.getfield 81) := ⟨by decide +kernel, rfl⟩
theorem DX9_letter_38W : DD cX9_letter 38 2 40 (.bipush 20) := ⟨by decide +kernel, rfl⟩
theorem DX9_letter_40W : DD cX9_letter 40 1 41 (.iload_n 1) := ⟨by decide +kernel, rfl⟩
theorem DX9_letter_41W : DD cX9_letter 41 1 42 (.imul) := ⟨by decide +kernel, rfl⟩
theorem DX9_letter_42W : DD cX9_letter 42 1 43 (.iload_n 2) := ⟨by decide +kernel, rfl⟩
theorem DX9_letter_43W : DD cX9_letter 43 1 44 (.iadd) := ⟨by decide +kernel, rfl⟩
theorem DX9_letter_44W : DD cX9_letter 44 1 45 (.baload) := ⟨by decide +kernel, rfl⟩
theorem DX9_letter_45W : DD cX9_letter 45 3 48 (.sipush 255) := ⟨by decide +kernel, rfl⟩
theorem DX9_letter_48W : DD cX9_letter 48 1 49 (.iand) := ⟨by decide +kernel, rfl⟩
theorem DX9_letter_49W : DD cX9_letter 49 1 50 (.ireturn) := ⟨by decide +kernel, rfl⟩
theorem ucX9_letter_0W {E : XE} {d : Nat} {σ : Sto} {Q : Res → Sto → Prop} {x1 : Int} {x2 : Int} (hL : Lay σ)  (h : inR x1 ∧ (x1 < 0 → Q (.inl (some (aI (-1)))) σ) ∧ (0 ≤ x1 → (inR (σ.I 555 24) → ((σ.I 555 24) ≤ x1 → Q (.inl (some (aI (-1)))) σ) ∧ (x1 < (σ.I 555 24) → inR x2 ∧ (x2 < 0 → Q (.inl (some (aI (-1)))) σ) ∧ (0 ≤ x2 → 0 ≤ ((4 * x1) + 3) ∧ ((4 * x1) + 3) < 1200 ∧ (inR (σ.I 575 ((4 * x1) + 3)) → (x2 < (σ.I 575 ((4 * x1) + 3)) → 0 ≤ ((20 * x1) + x2) ∧ ((20 * x1) + x2) < 6000 ∧ (-128 ≤ σ.I 576 ((20 * x1) + x2) ∧ σ.I 576 ((20 * x1) + x2) ≤ 127 → Q (.inl (some (aI (b32and (σ.I 576 ((20 * x1) + x2)) 255)))) σ)) ∧ ((σ.I 575 ((4 * x1) + 3)) ≤ x2 → Q (.inl (some (aI (-1)))) σ))))))) : VV E mX9_letter (d + 1) 0 [(0, aO 555), (1, aI (x1)), (2, aI (x2))] [] σ Q := by
  refine v_iload_n 1 DX9_letter_0W rfl rfl <| ?_
  obtain ⟨k1, h⟩ := h
  refine v_if_lt (tg := 30) DX9_letter_1W (by decide) k1 (fun c2 => ?_) (fun c2 => ?_)
  · have h := h.1 c2
    refine v_iconst DX9_letter_30W <| v_goto (pc' := 49) DX9_letter_31W.1 (by decide) <| ?_
    exact v_iret DX9_letter_49W rfl rfl h
  · have h := h.2 c2
    refine v_iload_n 1 DX9_letter_4W rfl rfl <| v_aload_n 0 DX9_letter_5W rfl rfl <| ?_
    refine w_getI (ci := 9) (kf := 24) (kz := 24) DX9_letter_6W (s_555 hL) rfl (by decide) rfl (Or.inl q2248) (fun _ _ => rfl) (fun f3 => ?_)
    have h := h f3
    refine v_icmp_ge (tg := 30) DX9_letter_9W (by decide) k1 f3 (fun c4 => ?_) (fun c4 => ?_)
    · have h := h.1 c4
      refine v_iconst DX9_letter_30W <| v_goto (pc' := 49) DX9_letter_31W.1 (by decide) <| ?_
      exact v_iret DX9_letter_49W rfl rfl h
    · have h := h.2 c4
      refine v_iload_n 2 DX9_letter_12W rfl rfl <| ?_
      obtain ⟨k5, h⟩ := h
      refine v_if_lt (tg := 30) DX9_letter_13W (by decide) k5 (fun c6 => ?_) (fun c6 => ?_)
      · have h := h.1 c6
        refine v_iconst DX9_letter_30W <| v_goto (pc' := 49) DX9_letter_31W.1 (by decide) <| ?_
        exact v_iret DX9_letter_49W rfl rfl h
      · have h := h.2 c6
        refine v_iload_n 2 DX9_letter_16W rfl rfl <| v_aload_n 0 DX9_letter_17W rfl rfl <| w_getR (ci := 9) (kf := 25) (kz := 25) DX9_letter_18W (s_555 hL) rfl (by decide) rfl (Or.inl q2249) (fun _ _ => rfl) (r_555_25 hL) <| v_iconst DX9_letter_21W <| v_iload_n 1 DX9_letter_22W rfl rfl <| v_imul DX9_letter_23W <| v_iconst DX9_letter_24W <| v_iadd DX9_letter_25W <| ?_
        obtain ⟨k7, k8, h⟩ := h
        refine v_iald DX9_letter_26W (s_575 hL) k7 k8 (fun f9 => ?_)
        have h := h f9
        refine v_icmp_lt (tg := 34) DX9_letter_27W (by decide) k5 f9 (fun c10 => ?_) (fun c10 => ?_)
        · have h := h.1 c10
          refine v_aload_n 0 DX9_letter_34W rfl rfl <| w_getR (ci := 9) (kf := 26) (kz := 26) DX9_letter_35W (s_555 hL) rfl (by decide) rfl (Or.inl q2250) (fun _ _ => rfl) (r_555_26 hL) <| v_bipush DX9_letter_38W ⟨by decide, by decide⟩ <| v_iload_n 1 DX9_letter_40W rfl rfl <| v_imul DX9_letter_41W <| v_iload_n 2 DX9_letter_42W rfl rfl <| v_iadd DX9_letter_43W <| ?_
          obtain ⟨k11, k12, h⟩ := h
          refine v_bald DX9_letter_44W (s_576 hL) k11 k12 (fun f13 => ?_)
          have h := h f13
          refine v_sipush DX9_letter_45W ⟨by decide, by decide⟩ <| v_iand DX9_letter_48W <| ?_
          exact v_iret DX9_letter_49W rfl rfl h
        · have h := h.2 c10
          refine v_iconst DX9_letter_30W <| v_goto (pc' := 49) DX9_letter_31W.1 (by decide) <| ?_
          exact v_iret DX9_letter_49W rfl rfl h
theorem sp_X9_letterW {E : XE} {d : Nat} {σ : Sto} {x1 : Int} {x2 : Int} (hd : 1 ≤ d) (hL : Lay σ)  (p0 : inR x1) (p1 : inR x2) (p2 : 0 ≤ σ.I 555 24 ∧ σ.I 555 24 ≤ 250) (p3 : 0 ≤ x1 ∧ x1 < σ.I 555 24 → σ.I 575 (4 * x1 + 3) ≤ 20) : CC E mX9_letter d [aO 555, aI (x1), aI (x2)] σ (RI σ (if (0 ≤ x1 ∧ x1 < σ.I 555 24) ∧ (0 ≤ x2 ∧ x2 < σ.I 575 (4 * x1 + 3)) then σ.I 576 (20 * x1 + x2) % 256 else -1)) := by
  obtain ⟨d, rfl⟩ : ∃ e, d = e + 1 := ⟨d - 1, by omega⟩
  have p0a := p0.1; have p0b := p0.2
  have p1a := p1.1; have p1b := p1.2
  refine ucX9_letter_0W  hL  ?_
  refine ⟨?_, ?_⟩
  · (first | exact ⟨by omega, by omega⟩ | (grind (splits := 16) (ematch := 30) (gen := 30) [-Prod, inR, inL, = and255]))
  refine ⟨fun c1 => ?_, fun c2 => ?_⟩
  · refine RI_mk ?_ ?_
    · (first | omega | (grind (splits := 16) (ematch := 30) (gen := 30) [-Prod, inR, inL, = and255]))
    · (first | exact ⟨by omega, by omega⟩ | (grind (splits := 16) (ematch := 30) (gen := 30) [-Prod, inR, inL, = and255]))
  · rintro ⟨f3, f3q⟩
    refine ⟨fun c4 => ?_, fun c5 => ?_⟩
    · refine RI_mk ?_ ?_
      · (first | omega | (grind (splits := 16) (ematch := 30) (gen := 30) [-Prod, inR, inL, = and255]))
      · (first | exact ⟨by omega, by omega⟩ | (grind (splits := 16) (ematch := 30) (gen := 30) [-Prod, inR, inL, = and255]))
    · refine ⟨?_, ?_⟩
      · (first | exact ⟨by omega, by omega⟩ | (grind (splits := 16) (ematch := 30) (gen := 30) [-Prod, inR, inL, = and255]))
      refine ⟨fun c6 => ?_, fun c7 => ?_⟩
      · refine RI_mk ?_ ?_
        · (first | omega | (grind (splits := 16) (ematch := 30) (gen := 30) [-Prod, inR, inL, = and255]))
        · (first | exact ⟨by omega, by omega⟩ | (grind (splits := 16) (ematch := 30) (gen := 30) [-Prod, inR, inL, = and255]))
      · refine ⟨?_, ?_⟩
        · (first | omega | (grind (splits := 16) (ematch := 30) (gen := 30) [-Prod, inR, inL, = and255]))
        refine ⟨?_, ?_⟩
        · (first | omega | (grind (splits := 16) (ematch := 30) (gen := 30) [-Prod, inR, inL, = and255]))
        rintro ⟨f8, f8q⟩
        refine ⟨fun c9 => ?_, fun c10 => ?_⟩
        · refine ⟨?_, ?_⟩
          · (first | omega | (grind (splits := 16) (ematch := 30) (gen := 30) [-Prod, inR, inL, = and255]))
          refine ⟨?_, ?_⟩
          · (first | omega | (grind (splits := 16) (ematch := 30) (gen := 30) [-Prod, inR, inL, = and255]))
          rintro ⟨f11, f11q⟩
          refine RI_mk ?_ ?_
          · (first | omega | (grind (splits := 16) (ematch := 30) (gen := 30) [-Prod, inR, inL, = and255]))
          · (first | exact ⟨by omega, by omega⟩ | (grind (splits := 16) (ematch := 30) (gen := 30) [-Prod, inR, inL, = and255]))
        · refine RI_mk ?_ ?_
          · (first | omega | (grind (splits := 16) (ematch := 30) (gen := 30) [-Prod, inR, inL, = and255]))
          · (first | exact ⟨by omega, by omega⟩ | (grind (splits := 16) (ematch := 30) (gen := 30) [-Prod, inR, inL, = and255]))
theorem DX0_group_0W : DD cX0_group 0 1 1 (.iload_n 1) := ⟨by decide +kernel, rfl⟩
theorem DX0_group_1W : DD cX0_group 1 1 2 (.iconst 0) := ⟨by decide +kernel, rfl⟩
theorem DX0_group_2W : DD cX0_group 2 1 3 (.aload_n 0) := ⟨by decide +kernel, rfl⟩
theorem DX0_group_3W : DD cX0_group 3 3 6 (.getfield 559) := ⟨by decide +kernel, rfl⟩
theorem DX0_group_6W : DD cX0_group 6 1 7 (.iconst 1) := ⟨by decide +kernel, rfl⟩
theorem DX0_group_7W : DD cX0_group 7 1 8 (.isub) := ⟨by decide +kernel, rfl⟩
theorem DX0_group_8W : DD cX0_group 8 3 11 (.invokestatic 18) := ⟨by decide +kernel, rfl⟩
theorem DX0_group_11W : DD cX0_group 11 3 14 (.ifCond .ne 5) := ⟨by decide +kernel, rfl⟩
theorem DX0_group_14W : DD cX0_group 14 1 15 (.iconst (-1)) := ⟨by decide +kernel, rfl⟩
theorem DX0_group_15W : DD cX0_group 15 1 16 (.ireturn) := ⟨by decide +kernel, rfl⟩
theorem DX0_group_16W : DD cX0_group 16 1 17 (.iload_n 2) := ⟨by decide +kernel, rfl⟩
theorem DX0_group_17W : DD cX0_group 17 27 44 (.tableswitch 68 0 2 #[27, 34, 41]) := ⟨by decide +kernel, rfl⟩
theorem DX0_group_44W : DD cX0_group 44 1 45 (.aload_n 0) := ⟨by decide +kernel, rfl⟩
theorem DX0_group_45W : DD cX0_group 45 3 48 (.getfield 305) := ⟨by decide +kernel, rfl⟩
theorem DX0_group_48W : DD cX0_group 48 1 49 (.iload_n 1) := ⟨by decide +kernel, rfl⟩
theorem DX0_group_49W : DD cX0_group 49 1 50 (.iaload) := ⟨by decide +kernel, rfl⟩
theorem DX0_group_50W : DD cX0_group 50 1 51 (.ireturn) := ⟨by decide +kernel, rfl⟩
theorem DX0_group_51W : DD cX0_group 51 1 52 (.aload_n 0) := ⟨by decide +kernel, rfl⟩
theorem DX0_group_52W : DD cX0_group 52 3 55 (.getfield 308) := ⟨by decide +kernel, rfl⟩
theorem DX0_group_55W : DD cX0_group 55 1 56 (.iload_n 1) := ⟨by decide +kernel, rfl⟩
theorem DX0_group_56W : DD cX0_group 56 1 57 (.iaload) := ⟨by decide +kernel, rfl⟩
theorem DX0_group_57W : DD cX0_group 57 1 58 (.ireturn) := ⟨by decide +kernel, rfl⟩
theorem DX0_group_58W : DD cX0_group 58 1 59 (.aload_n 0) := ⟨by decide +kernel, rfl⟩
theorem DX0_group_59W : DD cX0_group 59 3 62 (.getfield 642) := ⟨by decide +kernel, rfl⟩
theorem DX0_group_62W : DD cX0_group 62 3 65 (.ifCond .eq 21) := ⟨by decide +kernel, rfl⟩
theorem DX0_group_65W : DD cX0_group 65 1 66 (.aload_n 0) := ⟨by decide +kernel, rfl⟩
theorem DX0_group_66W : DD cX0_group 66 3 69 (.getfield 139) := ⟨by decide +kernel, rfl⟩
theorem DX0_group_69W : DD cX0_group 69 3 72 (.getfield 495) := ⟨by decide +kernel, rfl⟩
theorem DX0_group_72W : DD cX0_group 72 1 73 (.aload_n 0) := ⟨by decide +kernel, rfl⟩
theorem DX0_group_73W : DD cX0_group 73 3 76 (.getfield 302) := ⟨by decide +kernel, rfl⟩
theorem DX0_group_76W : DD cX0_group 76 1 77 (.iload_n 1) := ⟨by decide +kernel, rfl⟩
theorem DX0_group_77W : DD cX0_group 77 1 78 (.laload) := ⟨by decide +kernel, rfl⟩
theorem DX0_group_78W : DD cX0_group 78 1 79 (.l2i) := ⟨by decide +kernel, rfl⟩
theorem DX0_group_79W : DD cX0_group 79 1 80 (.baload) := ⟨by decide +kernel, rfl⟩
theorem DX0_group_80W : DD cX0_group 80 3 83 (.goto 4) := ⟨by decide +kernel, rfl⟩
theorem DX0_group_83W : DD cX0_group 83 1 84 (.iconst 0) := ⟨by decide +kernel, rfl⟩
theorem DX0_group_84W : DD cX0_group 84 1 85 (.ireturn) := ⟨by decide +kernel, rfl⟩
theorem DX0_group_85W : DD cX0_group 85 1 86 (.iconst (-1)) := ⟨by decide +kernel, rfl⟩
theorem DX0_group_86W : DD cX0_group 86 1 87 (.ireturn) := ⟨by decide +kernel, rfl⟩
theorem ucX0_group_0W {E : XE} {d : Nat} {σ : Sto} {Q : Res → Sto → Prop} {x1 : Int} {x2 : Int} (hL : Lay σ)  (h : (inR (σ.I 0 79) → 1 ≤ d ∧ (inR x1) ∧ (inR (0 : Int)) ∧ (inR ((σ.I 0 79) - 1)) ∧ (((0 : Int) ≤ x1 ∧ x1 ≤ ((σ.I 0 79) - 1)) → inR x2 ∧ (x2 = 0 → 0 ≤ x1 ∧ x1 < 6000 ∧ (inR (σ.I 197 x1) → Q (.inl (some (aI (σ.I 197 x1)))) σ)) ∧ (x2 = 1 → 0 ≤ x1 ∧ x1 < 6000 ∧ (inR (σ.I 198 x1) → Q (.inl (some (aI (σ.I 198 x1)))) σ)) ∧ (x2 = 2 → (0 ≤ σ.I 0 80 ∧ σ.I 0 80 ≤ 1 → ((σ.I 0 80) = 0 → Q (.inl (some (aI 0))) σ) ∧ ((σ.I 0 80) ≠ 0 → 0 ≤ x1 ∧ x1 < 6000 ∧ (inL (σ.I 196 x1) → 0 ≤ (w32 (σ.I 196 x1)) ∧ (w32 (σ.I 196 x1)) < 36500 ∧ (-128 ≤ σ.I 21 (w32 (σ.I 196 x1)) ∧ σ.I 21 (w32 (σ.I 196 x1)) ≤ 127 → Q (.inl (some (aI (σ.I 21 (w32 (σ.I 196 x1)))))) σ))))) ∧ ((x2 < 0 ∨ 2 < x2) → Q (.inl (some (aI (-1)))) σ)) ∧ (¬ ((0 : Int) ≤ x1 ∧ x1 ≤ ((σ.I 0 79) - 1)) → Q (.inl (some (aI (-1)))) σ))) : VV E mX0_group (d + 1) 0 [(0, aO 0), (1, aI (x1)), (2, aI (x2))] [] σ Q := by
  refine v_iload_n 1 DX0_group_0W rfl rfl <| v_iconst DX0_group_1W <| v_aload_n 0 DX0_group_2W rfl rfl <| ?_
  refine w_getI (ci := 0) (kf := 79) (kz := 79) DX0_group_3W (s_0 hL) rfl (by decide) rfl (Or.inl q1125) (fun _ _ => rfl) (fun f1 => ?_)
  have h := h f1
  refine v_iconst DX0_group_6W <| v_isub DX0_group_7W <| ?_
  obtain ⟨k2, h⟩ := h
  obtain ⟨k3, k4, k5, h⟩ := h
  refine v_invS (as := [aI (x1), aI (0), aI ((σ.I 0 79) - 1)]) (st := []) DX0_group_8W rfl okX0_isIn (Or.inl q300) q301 npX0_isIn (sp_X0_isIn (σ := σ) (x0 := x1) (x1 := (0 : Int)) (x2 := (σ.I 0 79) - 1) k2 hL k3 k4 k5) (Nat.le_of_ble_eq_true rfl) (Nat.le_refl _) (Nat.le_of_ble_eq_true rfl) (RZ_ret (fun c6 => ?_) (fun c6 => ?_)) RZ_thr
  · have h := h.1 c6
    refine v_if_ne (tg := 16) DX0_group_11W (by decide) ⟨by decide, by decide⟩ (fun c7 => ?_) (fun c7 => absurd c7 (by decide))
    refine v_iload_n 2 DX0_group_16W rfl rfl <| ?_
    obtain ⟨k8, h⟩ := h
    have hsw : x2 = 0 ∨ x2 = 1 ∨ x2 = 2 ∨ (x2 < 0 ∨ 2 < x2) := by omega
    rcases hsw with hsw | hsw | hsw | hsw
    · have h := h.1 hsw
      refine v_tsw (tg := 44) DX0_group_17W.1 (v := 0) ⟨by decide, by decide⟩ hsw ⟨by decide, by decide⟩ rfl (by decide) ?_
      refine v_aload_n 0 DX0_group_44W rfl rfl <| w_getR (ci := 0) (kf := 77) (kz := 77) DX0_group_45W (s_0 hL) rfl (by decide) rfl (Or.inl q1123) (fun _ _ => rfl) (r_0_77 hL) <| v_iload_n 1 DX0_group_48W rfl rfl <| ?_
      obtain ⟨k9, k10, h⟩ := h
      refine v_iald DX0_group_49W (s_197 hL) k9 k10 (fun f11 => ?_)
      have h := h f11
      exact v_iret DX0_group_50W rfl rfl h
    · have h := h.2.1 hsw
      refine v_tsw (tg := 51) DX0_group_17W.1 (v := 1) ⟨by decide, by decide⟩ hsw ⟨by decide, by decide⟩ rfl (by decide) ?_
      refine v_aload_n 0 DX0_group_51W rfl rfl <| w_getR (ci := 0) (kf := 78) (kz := 78) DX0_group_52W (s_0 hL) rfl (by decide) rfl (Or.inl q1124) (fun _ _ => rfl) (r_0_78 hL) <| v_iload_n 1 DX0_group_55W rfl rfl <| ?_
      obtain ⟨k12, k13, h⟩ := h
      refine v_iald DX0_group_56W (s_198 hL) k12 k13 (fun f14 => ?_)
      have h := h f14
      exact v_iret DX0_group_57W rfl rfl h
    · have h := h.2.2.1 hsw
      refine v_tsw (tg := 58) DX0_group_17W.1 (v := 2) ⟨by decide, by decide⟩ hsw ⟨by decide, by decide⟩ rfl (by decide) ?_
      refine v_aload_n 0 DX0_group_58W rfl rfl <| ?_
      refine w_getI (ci := 0) (kf := 80) (kz := 80) DX0_group_59W (s_0 hL) rfl (by decide) rfl (Or.inl q1126) (fun _ _ => rfl) (fun f15 => ?_)
      have h := h f15
      refine v_if_eq (tg := 83) DX0_group_62W (by decide) (inR_z f15) (fun c16 => ?_) (fun c16 => ?_)
      · have h := h.1 c16
        refine v_iconst DX0_group_83W <| ?_
        exact v_iret DX0_group_84W rfl rfl h
      · have h := h.2 c16
        refine v_aload_n 0 DX0_group_65W rfl rfl <| w_getR (ci := 0) (kf := 10) (kz := 10) DX0_group_66W (s_0 hL) rfl (by decide) rfl (Or.inl q1013) (fun _ _ => rfl) (r_0_10 hL) <| w_getR (ci := 2) (kf := 2) (kz := 2) DX0_group_69W (s_18 hL) rfl (by decide) rfl (Or.inr ⟨_, q675⟩) (fun _ _ => rfl) (r_18_2 hL) <| v_aload_n 0 DX0_group_72W rfl rfl <| w_getR (ci := 0) (kf := 76) (kz := 76) DX0_group_73W (s_0 hL) rfl (by decide) rfl (Or.inl q1122) (fun _ _ => rfl) (r_0_76 hL) <| v_iload_n 1 DX0_group_76W rfl rfl <| ?_
        obtain ⟨k17, k18, h⟩ := h
        refine v_lald DX0_group_77W (s_196 hL) k17 k18 (fun f19 => ?_)
        have h := h f19
        refine v_l2i DX0_group_78W <| v_w32 <| ?_
        obtain ⟨k20, k21, h⟩ := h
        refine v_bald DX0_group_79W (s_21 hL) k20 k21 (fun f22 => ?_)
        have h := h f22
        refine v_goto (pc' := 84) DX0_group_80W.1 (by decide) <| ?_
        exact v_iret DX0_group_84W rfl rfl h
    · have h := h.2.2.2 hsw
      refine v_tswO (tg := 85) DX0_group_17W.1 k8 hsw (by decide) ?_
      refine v_iconst DX0_group_85W <| ?_
      exact v_iret DX0_group_86W rfl rfl h
  · have h := h.2 c6
    refine v_if_ne (tg := 16) DX0_group_11W (by decide) ⟨by decide, by decide⟩ (fun c23 => absurd c23 (by decide)) (fun c23 => ?_)
    refine v_iconst DX0_group_14W <| ?_
    exact v_iret DX0_group_15W rfl rfl h
theorem sp_X0_groupW {E : XE} {d : Nat} {σ : Sto} {x1 : Int} {x2 : Int} (hd : 2 ≤ d) (hL : Lay σ)  (p0 : inR x1) (p1 : inR x2) (p2 : 0 ≤ σ.I 0 79 ∧ σ.I 0 79 ≤ 6000) (p3 : bd_0_36499 σ 196 (σ.I 0 79) ∨ σ.I 0 80 = 0) (p4 : bd_0_20 σ 21 36500) : CC E mX0_group d [aO 0, aI (x1), aI (x2)] σ (RI σ (if ¬ (0 ≤ x1 ∧ x1 < σ.I 0 79) then -1 else if x2 = 0 then σ.I 197 x1 else if x2 = 1 then σ.I 198 x1 else if x2 = 2 then (if σ.I 0 80 = 1 then σ.I 21 (σ.I 196 x1) else 0) else -1)) := by
  obtain ⟨d, rfl⟩ : ∃ e, d = e + 1 := ⟨d - 1, by omega⟩
  have p0a := p0.1; have p0b := p0.2
  have p1a := p1.1; have p1b := p1.2
  refine ucX0_group_0W  hL  ?_
  rintro ⟨f1, f1q⟩
  refine ⟨?_, ?_⟩
  · omega
  refine ⟨?_, ?_⟩
  · (first | omega | (grind (splits := 16) (ematch := 30) (gen := 30) [-Prod, inR, inL, bd_0_20_at, bd_0_36499_at, = w32_i]))
  refine ⟨?_, ?_⟩
  · (first | omega | (grind (splits := 16) (ematch := 30) (gen := 30) [-Prod, inR, inL, bd_0_20_at, bd_0_36499_at, = w32_i]))
  refine ⟨?_, ?_⟩
  · (first | omega | (grind (splits := 16) (ematch := 30) (gen := 30) [-Prod, inR, inL, bd_0_20_at, bd_0_36499_at, = w32_i]))
  refine ⟨fun c2 => ?_, fun c3 => ?_⟩
  · refine ⟨?_, ?_⟩
    · (first | exact ⟨by omega, by omega⟩ | (grind (splits := 16) (ematch := 30) (gen := 30) [-Prod, inR, inL, bd_0_20_at, bd_0_36499_at, = w32_i]))
    refine ⟨fun c4 => ?_, fun c5 => ?_, fun c6 => ?_, fun c7 => ?_⟩
    · refine ⟨?_, ?_⟩
      · (first | omega | (grind (splits := 16) (ematch := 30) (gen := 30) [-Prod, inR, inL, bd_0_20_at, bd_0_36499_at, = w32_i]))
      refine ⟨?_, ?_⟩
      · (first | omega | (grind (splits := 16) (ematch := 30) (gen := 30) [-Prod, inR, inL, bd_0_20_at, bd_0_36499_at, = w32_i]))
      rintro ⟨f8, f8q⟩
      refine RI_mk ?_ ?_
      · (first | omega | (grind (splits := 16) (ematch := 30) (gen := 30) [-Prod, inR, inL, bd_0_20_at, bd_0_36499_at, = w32_i]))
      · (first | exact ⟨by omega, by omega⟩ | (grind (splits := 16) (ematch := 30) (gen := 30) [-Prod, inR, inL, bd_0_20_at, bd_0_36499_at, = w32_i]))
    · refine ⟨?_, ?_⟩
      · (first | omega | (grind (splits := 16) (ematch := 30) (gen := 30) [-Prod, inR, inL, bd_0_20_at, bd_0_36499_at, = w32_i]))
      refine ⟨?_, ?_⟩
      · (first | omega | (grind (splits := 16) (ematch := 30) (gen := 30) [-Prod, inR, inL, bd_0_20_at, bd_0_36499_at, = w32_i]))
      rintro ⟨f9, f9q⟩
      refine RI_mk ?_ ?_
      · (first | omega | (grind (splits := 16) (ematch := 30) (gen := 30) [-Prod, inR, inL, bd_0_20_at, bd_0_36499_at, = w32_i]))
      · (first | exact ⟨by omega, by omega⟩ | (grind (splits := 16) (ematch := 30) (gen := 30) [-Prod, inR, inL, bd_0_20_at, bd_0_36499_at, = w32_i]))
    · rintro ⟨f10, f10q⟩
      refine ⟨fun c11 => ?_, fun c12 => ?_⟩
      · refine RI_mk ?_ ?_
        · (first | omega | (grind (splits := 16) (ematch := 30) (gen := 30) [-Prod, inR, inL, bd_0_20_at, bd_0_36499_at, = w32_i]))
        · (first | exact ⟨by omega, by omega⟩ | (grind (splits := 16) (ematch := 30) (gen := 30) [-Prod, inR, inL, bd_0_20_at, bd_0_36499_at, = w32_i]))
      · refine ⟨?_, ?_⟩
        · (first | omega | (grind (splits := 16) (ematch := 30) (gen := 30) [-Prod, inR, inL, bd_0_20_at, bd_0_36499_at, = w32_i]))
        refine ⟨?_, ?_⟩
        · (first | omega | (grind (splits := 16) (ematch := 30) (gen := 30) [-Prod, inR, inL, bd_0_20_at, bd_0_36499_at, = w32_i]))
        rintro ⟨f13, f13q⟩
        refine ⟨?_, ?_⟩
        · (first | omega | (grind (splits := 16) (ematch := 30) (gen := 30) [-Prod, inR, inL, bd_0_20_at, bd_0_36499_at, = w32_i]))
        refine ⟨?_, ?_⟩
        · (first | omega | (grind (splits := 16) (ematch := 30) (gen := 30) [-Prod, inR, inL, bd_0_20_at, bd_0_36499_at, = w32_i]))
        rintro ⟨f14, f14q⟩
        refine RI_mk ?_ ?_
        · (first | omega | (grind (splits := 16) (ematch := 30) (gen := 30) [-Prod, inR, inL, bd_0_20_at, bd_0_36499_at, = w32_i]))
        · (first | exact ⟨by omega, by omega⟩ | (grind (splits := 16) (ematch := 30) (gen := 30) [-Prod, inR, inL, bd_0_20_at, bd_0_36499_at, = w32_i]))
    · refine RI_mk ?_ ?_
      · (first | omega | (grind (splits := 16) (ematch := 30) (gen := 30) [-Prod, inR, inL, bd_0_20_at, bd_0_36499_at, = w32_i]))
      · (first | exact ⟨by omega, by omega⟩ | (grind (splits := 16) (ematch := 30) (gen := 30) [-Prod, inR, inL, bd_0_20_at, bd_0_36499_at, = w32_i]))
  · refine RI_mk ?_ ?_
    · (first | omega | (grind (splits := 16) (ematch := 30) (gen := 30) [-Prod, inR, inL, bd_0_20_at, bd_0_36499_at, = w32_i]))
    · (first | exact ⟨by omega, by omega⟩ | (grind (splits := 16) (ematch := 30) (gen := 30) [-Prod, inR, inL, bd_0_20_at, bd_0_36499_at, = w32_i]))
theorem DX0_groupOf_0W : DD cX0_groupOf 0 1 1 (.iload_n 1) := ⟨by decide +kernel, rfl⟩
theorem DX0_groupOf_1W : DD cX0_groupOf 1 1 2 (.iconst 0) := ⟨by decide +kernel, rfl⟩
theorem DX0_groupOf_2W : DD cX0_groupOf 2 1 3 (.aload_n 0) := ⟨by decide +kernel, rfl⟩
theorem DX0_groupOf_3W : DD cX0_groupOf 3 3 6 (.getfield 559) := ⟨by decide +kernel, rfl⟩
theorem DX0_groupOf_6W : DD cX0_groupOf 6 1 7 (.iconst 1) := ⟨by decide +kernel, rfl⟩
theorem DX0_groupOf_7W : DD cX0_groupOf 7 1 8 (.isub) := ⟨by decide +kernel, rfl⟩
theorem DX0_groupOf_8W : DD cX0_groupOf 8 3 11 (.invokestatic 18) := ⟨by decide +kernel, rfl⟩
theorem DX0_groupOf_11W : DD cX0_groupOf 11 3 14 (.ifCond .eq 7) := ⟨by decide +kernel, rfl⟩
theorem DX0_groupOf_14W : DD cX0_groupOf 14 1 15 (.iload_n 2) := ⟨by decide +kernel, rfl⟩
theorem DX0_groupOf_15W : DD cX0_groupOf 15 3 18 (.ifCond .ge 7) := ⟨by decide +kernel, rfl⟩
theorem DX0_groupOf_18W : DD cX0_groupOf 18 3 21 (.ldc2_w 609) := ⟨by decide +kernel, rfl⟩
theorem DX0_groupOf_21W : DD cX0_groupOf 21 1 22 (.lreturn) := ⟨by decide +kernel, rfl⟩
theorem DX0_groupOf_22W : DD cX0_groupOf 22 1 23 (.aload_n 0) := ⟨by decide +kernel, rfl⟩
theorem DX0_groupOf_23W : DD cX0_groupOf 23 3 26 (.getfield 642) := ⟨by decide +kernel, rfl⟩
theorem DX0_groupOf_26W : DD cX0_groupOf 26 3 29 (.ifCond .ne 20) := ⟨by decide +kernel, rfl⟩
theorem DX0_groupOf_29W : DD cX0_groupOf 29 1 30 (.iload_n 2) := ⟨by decide +kernel, rfl⟩
theorem DX0_groupOf_30W : DD cX0_groupOf 30 3 33 (.ifCond .ne 12) := ⟨by decide +kernel, rfl⟩
theorem DX0_groupOf_33W : DD cX0_groupOf 33 1 34 (.aload_n 0) := ⟨by decide +kernel, rfl⟩
theorem DX0_groupOf_34W : DD cX0_groupOf 34 3 37 (.getfield 302) := ⟨by decide +kernel, rfl⟩
theorem DX0_groupOf_37W : DD cX0_groupOf 37 1 38 (.iload_n 1) := ⟨by decide +kernel, rfl⟩
theorem DX0_groupOf_38W : DD cX0_groupOf 38 1 39 (.laload) := ⟨by decide +kernel, rfl⟩
theorem DX0_groupOf_39W : DD cX0_groupOf 39 3 42 (.goto 6) := ⟨by decide +kernel, rfl⟩
theorem DX0_groupOf_42W : DD cX0_groupOf 42 3 45 (.ldc2_w 609) := ⟨by decide +kernel, rfl⟩
theorem DX0_groupOf_45W : DD cX0_groupOf 45 1 46 (.lreturn) := ⟨by decide +kernel, rfl⟩
theorem DX0_groupOf_46W : DD cX0_groupOf 46 1 47 (.iload_n 2) := ⟨by decide +kernel, rfl⟩
theorem DX0_groupOf_47W : DD cX0_groupOf 47 1 48 (.aload_n 0) := ⟨by decide +kernel, rfl⟩
theorem DX0_groupOf_48W : DD cX0_groupOf 48 3 51 (.getfield 139) := ⟨by decide +kernel, rfl⟩
theorem DX0_groupOf_51W : DD cX0_groupOf 51 3 54 (.getfield 495) := ⟨by decide +kernel, rfl⟩
theorem DX0_groupOf_54W : DD cX0_groupOf 54 1 55 (.aload_n 0) := ⟨by decide +kernel, rfl⟩
theorem DX0_groupOf_55W : DD cX0_groupOf 55 3 58 (.getfield 302) := ⟨by decide +kernel, rfl⟩
theorem DX0_groupOf_58W : DD cX0_groupOf 58 1 59 (.iload_n 1) := ⟨by decide +kernel, rfl⟩
theorem DX0_groupOf_59W : DD cX0_groupOf 59 1 60 (.laload) := ⟨by decide +kernel, rfl⟩
theorem DX0_groupOf_60W : DD cX0_groupOf 60 1 61 (.l2i) := ⟨by decide +kernel, rfl⟩
theorem DX0_groupOf_61W : DD cX0_groupOf 61 1 62 (.baload) := ⟨by decide +kernel, rfl⟩
theorem DX0_groupOf_62W : DD cX0_groupOf 62 3 65 (.if_icmp .ge 31) := ⟨by decide +kernel, rfl⟩
theorem DX0_groupOf_65W : DD cX0_groupOf 65 1 66 (.aload_n 0) := ⟨by decide +kernel, rfl⟩
theorem DX0_groupOf_66W : DD cX0_groupOf 66 3 69 (.getfield 139) := ⟨by decide +kernel, rfl⟩
theorem DX0_groupOf_69W : DD cX0_groupOf 69 3 72 (.getfield 494) := ⟨by decide +kernel, rfl⟩
theorem DX0_groupOf_72W : DD cX0_groupOf 72 2 74 (.bipush 20) := ⟨by decide +kernel, rfl⟩
theorem DX0_groupOf_74W : DD cX0_groupOf 74 1 75 (.aload_n 0) := ⟨by decide +kernel, rfl⟩
theorem DX0_groupOf_75W : DD cX0_groupOf 75 3 78 (.getfield 302) := ⟨by decide +kernel, rfl⟩
theorem DX0_groupOf_78W : DD cX0_groupOf 78 1 79 (.iload_n 1) := ⟨by decide +kernel, rfl⟩
theorem DX0_groupOf_79W : DD cX0_groupOf 79 1 80 (.laload) := ⟨by decide +kernel, rfl⟩
theorem DX0_groupOf_80W : DD cX0_groupOf 80 1 81 (.l2i) := ⟨by decide +kernel, rfl⟩
theorem DX0_groupOf_81W : DD cX0_groupOf 81 1 82 (.imul) := ⟨by decide +kernel, rfl⟩
theorem DX0_groupOf_82W : DD cX0_groupOf 82 1 83 (.iload_n 2) := ⟨by decide +kernel, rfl⟩
theorem DX0_groupOf_83W : DD cX0_groupOf 83 1 84 (.iadd) := ⟨by decide +kernel, rfl⟩
theorem DX0_groupOf_84W : DD cX0_groupOf 84 1 85 (.baload) := ⟨by decide +kernel, rfl⟩
theorem DX0_groupOf_85W : DD cX0_groupOf 85 3 88 (.sipush 255) := ⟨by decide +kernel, rfl⟩
theorem DX0_groupOf_88W : DD cX0_groupOf 88 1 89 (.iand) := ⟨by decide +kernel, rfl⟩
theorem DX0_groupOf_89W : DD cX0_groupOf 89 1 90 (.i2l) := ⟨by decide +kernel, rfl⟩
theorem DX0_groupOf_90W : DD cX0_groupOf 90 3 93 (.goto 6) := ⟨by decide +kernel, rfl⟩
theorem DX0_groupOf_93W : DD cX0_groupOf 93 3 96 (.ldc2_w 609) := ⟨by decide +kernel, rfl⟩
theorem DX0_groupOf_96W : DD cX0_groupOf 96 1 97 (.lreturn) := ⟨by decide +kernel, rfl⟩
theorem ucX0_groupOf_0W {E : XE} {d : Nat} {σ : Sto} {Q : Res → Sto → Prop} {x1 : Int} {x2 : Int} (hL : Lay σ)  (h : (inR (σ.I 0 79) → 1 ≤ d ∧ (inR x1) ∧ (inR (0 : Int)) ∧ (inR ((σ.I 0 79) - 1)) ∧ (((0 : Int) ≤ x1 ∧ x1 ≤ ((σ.I 0 79) - 1)) → inR x2 ∧ (0 ≤ x2 → (0 ≤ σ.I 0 80 ∧ σ.I 0 80 ≤ 1 → ((σ.I 0 80) ≠ 0 → 0 ≤ x1 ∧ x1 < 6000 ∧ (inL (σ.I 196 x1) → 0 ≤ (w32 (σ.I 196 x1)) ∧ (w32 (σ.I 196 x1)) < 36500 ∧ (-128 ≤ σ.I 21 (w32 (σ.I 196 x1)) ∧ σ.I 21 (w32 (σ.I 196 x1)) ≤ 127 → ((σ.I 21 (w32 (σ.I 196 x1))) ≤ x2 → Q (.inl (some (aL (-1)))) σ) ∧ (x2 < (σ.I 21 (w32 (σ.I 196 x1))) → 0 ≤ x1 ∧ x1 < 6000 ∧ 0 ≤ ((20 * (w32 (σ.I 196 x1))) + x2) ∧ ((20 * (w32 (σ.I 196 x1))) + x2) < 730000 ∧ (-128 ≤ σ.I 19 ((20 * (w32 (σ.I 196 x1))) + x2) ∧ σ.I 19 ((20 * (w32 (σ.I 196 x1))) + x2) ≤ 127 → Q (.inl (some (aL (b32and (σ.I 19 ((20 * (w32 (σ.I 196 x1))) + x2)) 255)))) σ))))) ∧ ((σ.I 0 80) = 0 → (x2 ≠ 0 → Q (.inl (some (aL (-1)))) σ) ∧ (x2 = 0 → 0 ≤ x1 ∧ x1 < 6000 ∧ (inL (σ.I 196 x1) → Q (.inl (some (aL (σ.I 196 x1)))) σ))))) ∧ (x2 < 0 → Q (.inl (some (aL (-1)))) σ)) ∧ (¬ ((0 : Int) ≤ x1 ∧ x1 ≤ ((σ.I 0 79) - 1)) → Q (.inl (some (aL (-1)))) σ))) : VV E mX0_groupOf (d + 1) 0 [(0, aO 0), (1, aI (x1)), (2, aI (x2))] [] σ Q := by
  refine v_iload_n 1 DX0_groupOf_0W rfl rfl <| v_iconst DX0_groupOf_1W <| v_aload_n 0 DX0_groupOf_2W rfl rfl <| ?_
  refine w_getI (ci := 0) (kf := 79) (kz := 79) DX0_groupOf_3W (s_0 hL) rfl (by decide) rfl (Or.inl q1125) (fun _ _ => rfl) (fun f1 => ?_)
  have h := h f1
  refine v_iconst DX0_groupOf_6W <| v_isub DX0_groupOf_7W <| ?_
  obtain ⟨k2, h⟩ := h
  obtain ⟨k3, k4, k5, h⟩ := h
  refine v_invS (as := [aI (x1), aI (0), aI ((σ.I 0 79) - 1)]) (st := []) DX0_groupOf_8W rfl okX0_isIn (Or.inl q300) q301 npX0_isIn (sp_X0_isIn (σ := σ) (x0 := x1) (x1 := (0 : Int)) (x2 := (σ.I 0 79) - 1) k2 hL k3 k4 k5) (Nat.le_of_ble_eq_true rfl) (Nat.le_refl _) (Nat.le_of_ble_eq_true rfl) (RZ_ret (fun c6 => ?_) (fun c6 => ?_)) RZ_thr
  · have h := h.1 c6
    refine v_if_eq (tg := 18) DX0_groupOf_11W (by decide) ⟨by decide, by decide⟩ (fun c7 => absurd c7 (by decide)) (fun c7 => ?_)
    refine v_iload_n 2 DX0_groupOf_14W rfl rfl <| ?_
    obtain ⟨k8, h⟩ := h
    refine v_if_ge (tg := 22) DX0_groupOf_15W (by decide) k8 (fun c9 => ?_) (fun c9 => ?_)
    · have h := h.1 c9
      refine v_aload_n 0 DX0_groupOf_22W rfl rfl <| ?_
      refine w_getI (ci := 0) (kf := 80) (kz := 80) DX0_groupOf_23W (s_0 hL) rfl (by decide) rfl (Or.inl q1126) (fun _ _ => rfl) (fun f10 => ?_)
      have h := h f10
      refine v_if_ne (tg := 46) DX0_groupOf_26W (by decide) (inR_z f10) (fun c11 => ?_) (fun c11 => ?_)
      · have h := h.1 c11
        refine v_iload_n 2 DX0_groupOf_46W rfl rfl <| v_aload_n 0 DX0_groupOf_47W rfl rfl <| w_getR (ci := 0) (kf := 10) (kz := 10) DX0_groupOf_48W (s_0 hL) rfl (by decide) rfl (Or.inl q1013) (fun _ _ => rfl) (r_0_10 hL) <| w_getR (ci := 2) (kf := 2) (kz := 2) DX0_groupOf_51W (s_18 hL) rfl (by decide) rfl (Or.inr ⟨_, q675⟩) (fun _ _ => rfl) (r_18_2 hL) <| v_aload_n 0 DX0_groupOf_54W rfl rfl <| w_getR (ci := 0) (kf := 76) (kz := 76) DX0_groupOf_55W (s_0 hL) rfl (by decide) rfl (Or.inl q1122) (fun _ _ => rfl) (r_0_76 hL) <| v_iload_n 1 DX0_groupOf_58W rfl rfl <| ?_
        obtain ⟨k12, k13, h⟩ := h
        refine v_lald DX0_groupOf_59W (s_196 hL) k12 k13 (fun f14 => ?_)
        have h := h f14
        refine v_l2i DX0_groupOf_60W <| v_w32 <| ?_
        obtain ⟨k15, k16, h⟩ := h
        refine v_bald DX0_groupOf_61W (s_21 hL) k15 k16 (fun f17 => ?_)
        have h := h f17
        refine v_icmp_ge (tg := 93) DX0_groupOf_62W (by decide) k8 (inR_b f17) (fun c18 => ?_) (fun c18 => ?_)
        · have h := h.1 c18
          refine v_ldc2 (x := (-1)) DX0_groupOf_93W q1898 rfl <| ?_
          exact v_lret DX0_groupOf_96W rfl h
        · have h := h.2 c18
          refine v_aload_n 0 DX0_groupOf_65W rfl rfl <| w_getR (ci := 0) (kf := 10) (kz := 10) DX0_groupOf_66W (s_0 hL) rfl (by decide) rfl (Or.inl q1013) (fun _ _ => rfl) (r_0_10 hL) <| w_getR (ci := 2) (kf := 0) (kz := 0) DX0_groupOf_69W (s_18 hL) rfl (by decide) rfl (Or.inr ⟨_, q668⟩) (fun _ _ => rfl) (r_18_0 hL) <| v_bipush DX0_groupOf_72W ⟨by decide, by decide⟩ <| v_aload_n 0 DX0_groupOf_74W rfl rfl <| w_getR (ci := 0) (kf := 76) (kz := 76) DX0_groupOf_75W (s_0 hL) rfl (by decide) rfl (Or.inl q1122) (fun _ _ => rfl) (r_0_76 hL) <| v_iload_n 1 DX0_groupOf_78W rfl rfl <| ?_
          obtain ⟨k19, k20, h⟩ := h
          refine v_lald DX0_groupOf_79W (s_196 hL) k19 k20 (fun _ => ?_)
          refine v_l2i DX0_groupOf_80W <| v_w32 <| v_imul DX0_groupOf_81W <| v_iload_n 2 DX0_groupOf_82W rfl rfl <| v_iadd DX0_groupOf_83W <| ?_
          obtain ⟨k22, k23, h⟩ := h
          refine v_bald DX0_groupOf_84W (s_19 hL) k22 k23 (fun f24 => ?_)
          have h := h f24
          refine v_sipush DX0_groupOf_85W ⟨by decide, by decide⟩ <| v_iand DX0_groupOf_88W <| v_i2l DX0_groupOf_89W b32_in <| v_goto (pc' := 96) DX0_groupOf_90W.1 (by decide) <| ?_
          exact v_lret DX0_groupOf_96W rfl h
      · have h := h.2 c11
        refine v_iload_n 2 DX0_groupOf_29W rfl rfl <| ?_
        refine v_if_ne (tg := 42) DX0_groupOf_30W (by decide) k8 (fun c25 => ?_) (fun c25 => ?_)
        · have h := h.1 c25
          refine v_ldc2 (x := (-1)) DX0_groupOf_42W q1898 rfl <| ?_
          exact v_lret DX0_groupOf_45W rfl h
        · have h := h.2 c25
          refine v_aload_n 0 DX0_groupOf_33W rfl rfl <| w_getR (ci := 0) (kf := 76) (kz := 76) DX0_groupOf_34W (s_0 hL) rfl (by decide) rfl (Or.inl q1122) (fun _ _ => rfl) (r_0_76 hL) <| v_iload_n 1 DX0_groupOf_37W rfl rfl <| ?_
          obtain ⟨k26, k27, h⟩ := h
          refine v_lald DX0_groupOf_38W (s_196 hL) k26 k27 (fun f28 => ?_)
          have h := h f28
          refine v_goto (pc' := 45) DX0_groupOf_39W.1 (by decide) <| ?_
          exact v_lret DX0_groupOf_45W rfl h
    · have h := h.2 c9
      refine v_ldc2 (x := (-1)) DX0_groupOf_18W q1898 rfl <| ?_
      exact v_lret DX0_groupOf_21W rfl h
  · have h := h.2 c6
    refine v_if_eq (tg := 18) DX0_groupOf_11W (by decide) ⟨by decide, by decide⟩ (fun c29 => ?_) (fun c29 => absurd c29 (by decide))
    refine v_ldc2 (x := (-1)) DX0_groupOf_18W q1898 rfl <| ?_
    exact v_lret DX0_groupOf_21W rfl h
theorem sp_X0_groupOfW {E : XE} {d : Nat} {σ : Sto} {x1 : Int} {x2 : Int} (hd : 2 ≤ d) (hL : Lay σ)  (p0 : inR x1) (p1 : inR x2) (p2 : 0 ≤ σ.I 0 79 ∧ σ.I 0 79 ≤ 6000) (p3 : bd_0_36499 σ 196 (σ.I 0 79) ∨ σ.I 0 80 = 0) (p4 : bd_0_20 σ 21 36500) : CC E mX0_groupOf d [aO 0, aI (x1), aI (x2)] σ (RL σ (if ¬ (0 ≤ x1 ∧ x1 < σ.I 0 79) ∨ x2 < 0 then -1 else if σ.I 0 80 = 0 then (if x2 = 0 then σ.I 196 x1 else -1) else if x2 < σ.I 21 (σ.I 196 x1) then σ.I 19 (20 * σ.I 196 x1 + x2) % 256 else -1)) := by
  obtain ⟨d, rfl⟩ : ∃ e, d = e + 1 := ⟨d - 1, by omega⟩
  have p0a := p0.1; have p0b := p0.2
  have p1a := p1.1; have p1b := p1.2
  refine ucX0_groupOf_0W  hL  ?_
  rintro ⟨f1, f1q⟩
  refine ⟨?_, ?_⟩
  · omega
  refine ⟨?_, ?_⟩
  · (first | omega | (grind (splits := 16) (ematch := 30) (gen := 30) [-Prod, inR, inL, bd_0_20_at, bd_0_36499_at, = w32_i, = and255]))
  refine ⟨?_, ?_⟩
  · (first | omega | (grind (splits := 16) (ematch := 30) (gen := 30) [-Prod, inR, inL, bd_0_20_at, bd_0_36499_at, = w32_i, = and255]))
  refine ⟨?_, ?_⟩
  · (first | omega | (grind (splits := 16) (ematch := 30) (gen := 30) [-Prod, inR, inL, bd_0_20_at, bd_0_36499_at, = w32_i, = and255]))
  refine ⟨fun c2 => ?_, fun c3 => ?_⟩
  · refine ⟨?_, ?_⟩
    · (first | exact ⟨by omega, by omega⟩ | (grind (splits := 16) (ematch := 30) (gen := 30) [-Prod, inR, inL, bd_0_20_at, bd_0_36499_at, = w32_i, = and255]))
    refine ⟨fun c4 => ?_, fun c5 => ?_⟩
    · rintro ⟨f6, f6q⟩
      refine ⟨fun c7 => ?_, fun c8 => ?_⟩
      · refine ⟨?_, ?_⟩
        · (first | omega | (grind (splits := 16) (ematch := 30) (gen := 30) [-Prod, inR, inL, bd_0_20_at, bd_0_36499_at, = w32_i, = and255]))
        refine ⟨?_, ?_⟩
        · (first | omega | (grind (splits := 16) (ematch := 30) (gen := 30) [-Prod, inR, inL, bd_0_20_at, bd_0_36499_at, = w32_i, = and255]))
        rintro ⟨f9, f9q⟩
        refine ⟨?_, ?_⟩
        · (first | omega | (grind (splits := 16) (ematch := 30) (gen := 30) [-Prod, inR, inL, bd_0_20_at, bd_0_36499_at, = w32_i, = and255]))
        refine ⟨?_, ?_⟩
        · (first | omega | (grind (splits := 16) (ematch := 30) (gen := 30) [-Prod, inR, inL, bd_0_20_at, bd_0_36499_at, = w32_i, = and255]))
        rintro ⟨f10, f10q⟩
        refine ⟨fun c11 => ?_, fun c12 => ?_⟩
        · refine RL_mk ?_ ?_
          · (first | omega | (grind (splits := 16) (ematch := 30) (gen := 30) [-Prod, inR, inL, bd_0_20_at, bd_0_36499_at, = w32_i, = and255]))
          · (first | exact ⟨by omega, by omega⟩ | (grind (splits := 16) (ematch := 30) (gen := 30) [-Prod, inR, inL, bd_0_20_at, bd_0_36499_at, = w32_i, = and255]))
        · refine ⟨?_, ?_⟩
          · (first | omega | (grind (splits := 16) (ematch := 30) (gen := 30) [-Prod, inR, inL, bd_0_20_at, bd_0_36499_at, = w32_i, = and255]))
          refine ⟨?_, ?_⟩
          · (first | omega | (grind (splits := 16) (ematch := 30) (gen := 30) [-Prod, inR, inL, bd_0_20_at, bd_0_36499_at, = w32_i, = and255]))
          refine ⟨?_, ?_⟩
          · (first | omega | (grind (splits := 16) (ematch := 30) (gen := 30) [-Prod, inR, inL, bd_0_20_at, bd_0_36499_at, = w32_i, = and255]))
          refine ⟨?_, ?_⟩
          · (first | omega | (grind (splits := 16) (ematch := 30) (gen := 30) [-Prod, inR, inL, bd_0_20_at, bd_0_36499_at, = w32_i, = and255]))
          rintro ⟨f13, f13q⟩
          refine RL_mk ?_ ?_
          · (first | omega | (grind (splits := 16) (ematch := 30) (gen := 30) [-Prod, inR, inL, bd_0_20_at, bd_0_36499_at, = w32_i, = and255]))
          · (first | exact ⟨by omega, by omega⟩ | (grind (splits := 16) (ematch := 30) (gen := 30) [-Prod, inR, inL, bd_0_20_at, bd_0_36499_at, = w32_i, = and255]))
      · refine ⟨fun c14 => ?_, fun c15 => ?_⟩
        · refine RL_mk ?_ ?_
          · (first | omega | (grind (splits := 16) (ematch := 30) (gen := 30) [-Prod, inR, inL, bd_0_20_at, bd_0_36499_at, = w32_i, = and255]))
          · (first | exact ⟨by omega, by omega⟩ | (grind (splits := 16) (ematch := 30) (gen := 30) [-Prod, inR, inL, bd_0_20_at, bd_0_36499_at, = w32_i, = and255]))
        · refine ⟨?_, ?_⟩
          · (first | omega | (grind (splits := 16) (ematch := 30) (gen := 30) [-Prod, inR, inL, bd_0_20_at, bd_0_36499_at, = w32_i, = and255]))
          refine ⟨?_, ?_⟩
          · (first | omega | (grind (splits := 16) (ematch := 30) (gen := 30) [-Prod, inR, inL, bd_0_20_at, bd_0_36499_at, = w32_i, = and255]))
          rintro ⟨f16, f16q⟩
          refine RL_mk ?_ ?_
          · (first | omega | (grind (splits := 16) (ematch := 30) (gen := 30) [-Prod, inR, inL, bd_0_20_at, bd_0_36499_at, = w32_i, = and255]))
          · (first | exact ⟨by omega, by omega⟩ | (grind (splits := 16) (ematch := 30) (gen := 30) [-Prod, inR, inL, bd_0_20_at, bd_0_36499_at, = w32_i, = and255]))
    · refine RL_mk ?_ ?_
      · (first | omega | (grind (splits := 16) (ematch := 30) (gen := 30) [-Prod, inR, inL, bd_0_20_at, bd_0_36499_at, = w32_i, = and255]))
      · (first | exact ⟨by omega, by omega⟩ | (grind (splits := 16) (ematch := 30) (gen := 30) [-Prod, inR, inL, bd_0_20_at, bd_0_36499_at, = w32_i, = and255]))
  · refine RL_mk ?_ ?_
    · (first | omega | (grind (splits := 16) (ematch := 30) (gen := 30) [-Prod, inR, inL, bd_0_20_at, bd_0_36499_at, = w32_i, = and255]))
    · (first | exact ⟨by omega, by omega⟩ | (grind (splits := 16) (ematch := 30) (gen := 30) [-Prod, inR, inL, bd_0_20_at, bd_0_36499_at, = w32_i, = and255]))
theorem DX9_group_0W : DD cX9_group 0 1 1 (.aload_n 0) := ⟨by decide +kernel, rfl⟩
theorem DX9_group_1W : DD cX9_group 1 1 2 (.iload_n 1) := ⟨by decide +kernel, rfl⟩
theorem DX9_group_2W : DD cX9_group 2 3 5 (.invokevirtual 1052) := ⟨by decide +kernel, rfl⟩
theorem DX9_group_5W : DD cX9_group 5 3 8 (.ifCond .eq 12) := ⟨by decide +kernel, rfl⟩
theorem DX9_group_8W : DD cX9_group 8 1 9 (.iload_n 2) := ⟨by decide +kernel, rfl⟩
theorem DX9_group_9W : DD cX9_group 9 3 12 (.ifCond .lt 8) := ⟨by decide +kernel, rfl⟩
theorem DX9_group_12W : DD cX9_group 12 1 13 (.iload_n 2) := ⟨by decide +kernel, rfl⟩
theorem DX9_group_13W : DD cX9_group 13 1 14 (.iconst 2) := ⟨by decide +kernel, rfl⟩
theorem DX9_group_14W : DD cX9_group 14 3 17 (.if_icmp .le 5) := ⟨by decide +kernel, rfl⟩
theorem DX9_group_17W : DD cX9_group 17 1 18 (.iconst (-1)) := ⟨by decide +kernel, rfl⟩
theorem DX9_group_18W : DD cX9_group 18 1 19 (.ireturn) := ⟨by decide +kernel, rfl⟩
theorem DX9_group_19W : DD cX9_group 19 1 20 (.iload_n 2) := ⟨by decide +kernel, rfl⟩
theorem DX9_group_20W : DD cX9_group 20 3 23 (.ifCond .ne 12) := ⟨by decide +kernel, rfl⟩
theorem DX9_group_23W : DD cX9_group 23 1 24 (.aload_n 0) := ⟨by decide +kernel, rfl⟩
theorem DX9_group_24W : DD cX9_group 24 3 27 (.getfield 333) := ⟨by decide +kernel, rfl⟩
theorem DX9_group_27W : DD cX9_group 27 1 28 (.iload_n 1) := ⟨by decide +kernel, rfl⟩
theorem DX9_group_28W : DD cX9_group 28 1 29 (.iaload) := ⟨by decide +kernel, rfl⟩
theorem DX9_group_29W : DD cX9_group 29 3 32 (.goto 39) := ⟨by decide +kernel, rfl⟩
theorem DX9_group_32W : DD cX9_group 32 1 33 (.iload_n 2) := ⟨by decide +kernel, rfl⟩
theorem DX9_group_33W : DD cX9_group 33 1 34 (.iconst 1) := ⟨by decide +kernel, rfl⟩
theorem DX9_group_34W : DD cX9_group 34 3 37 (.if_icmp .ne 12) := ⟨by decide +kernel, rfl⟩
theorem DX9_group_37W : DD cX9_group 37 1 38 (.aload_n 0) := ⟨by decide +kernel, rfl⟩
theorem DX9_group_38W : DD cX9_group 38 3 41 (.getfield 336) := ⟨by decide +kernel, rfl⟩
theorem DX9_group_41W : DD cX9_group 41 1 42 (.iload_n 1) := ⟨by decide +kernel, rfl⟩
theorem DX9_group_42W : DD cX9_group 42 1 43 (.iaload) := ⟨by decide +kernel, rfl⟩
theorem DX9_group_43W : DD cX9_group 43 3 46 (.goto 25) := ⟨by decide +kernel, rfl⟩
theorem DX9_group_46W : DD cX9_group 46 1 47 (.aload_n 0) := ⟨by decide +kernel, rfl⟩
theorem DX9_group_47W : DD cX9_group 47 3 50 (.getfield 1025) := ⟨by decide +kernel, rfl⟩
theorem DX9_group_50W : DD cX9_group 50 3 53 (.ifCond .eq 17) := ⟨by decide +kernel, rfl⟩
theorem DX9_group_53W : DD cX9_group 53 1 54 (.aload_n 0) := ⟨by decide +kernel, rfl⟩
theorem DX9_group_54W : DD cX9_group 54 3 57 (.getfield 117) := ⟨by decide +kernel, rfl⟩
theorem DX9_group_57W : DD cX9_group 57 1 58 (.aload_n 0) := ⟨by decide +kernel, rfl⟩
theorem DX9_group_58W : DD cX9_group 58 3 61 (.getfield 339) := ⟨by decide +kernel, rfl⟩
theorem DX9_group_61W : DD cX9_group 61 1 62 (.iload_n 1) := ⟨by decide +kernel, rfl⟩
theorem DX9_group_62W : DD cX9_group 62 1 63 (.iaload) := ⟨by decide +kernel, rfl⟩
theorem DX9_group_63W : DD cX9_group 63 1 64 (.iaload) := ⟨by decide +kernel, rfl⟩
theorem DX9_group_64W : DD cX9_group 64 3 67 (.goto 4) := ⟨by decide +kernel, rfl⟩
theorem DX9_group_67W : DD cX9_group 67 1 68 (.iconst 0) := ⟨by decide +kernel, rfl⟩
theorem DX9_group_68W : DD cX9_group 68 1 69 (.ireturn) := ⟨by decide +kernel, rfl⟩
theorem ucX9_group_0W {E : XE} {d : Nat} {σ : Sto} {Q : Res → Sto → Prop} {x1 : Int} {x2 : Int} (hL : Lay σ)  (h : 1 ≤ d ∧ (inR x1) ∧ ((0 ≤ x1 ∧ x1 < σ.I 555 135) → inR x2 ∧ (x2 < 0 → Q (.inl (some (aI (-1)))) σ) ∧ (0 ≤ x2 → (x2 ≤ 2 → (x2 ≠ 0 → (x2 ≠ 1 → (0 ≤ σ.I 555 141 ∧ σ.I 555 141 ≤ 1 → ((σ.I 555 141) = 0 → Q (.inl (some (aI 0))) σ) ∧ ((σ.I 555 141) ≠ 0 → 0 ≤ x1 ∧ x1 < 6000 ∧ (inR (σ.I 658 x1) → 0 ≤ (σ.I 658 x1) ∧ (σ.I 658 x1) < 24000 ∧ (inR (σ.I 587 (σ.I 658 x1)) → Q (.inl (some (aI (σ.I 587 (σ.I 658 x1))))) σ))))) ∧ (x2 = 1 → 0 ≤ x1 ∧ x1 < 6000 ∧ (inR (σ.I 657 x1) → Q (.inl (some (aI (σ.I 657 x1)))) σ))) ∧ (x2 = 0 → 0 ≤ x1 ∧ x1 < 6000 ∧ (inR (σ.I 656 x1) → Q (.inl (some (aI (σ.I 656 x1)))) σ))) ∧ (2 < x2 → Q (.inl (some (aI (-1)))) σ))) ∧ (¬ (0 ≤ x1 ∧ x1 < σ.I 555 135) → Q (.inl (some (aI (-1)))) σ)) : VV E mX9_group (d + 1) 0 [(0, aO 555), (1, aI (x1)), (2, aI (x2))] [] σ Q := by
  refine v_aload_n 0 DX9_group_0W rfl rfl <| v_iload_n 1 DX9_group_1W rfl rfl <| ?_
  obtain ⟨k1, h⟩ := h
  obtain ⟨k2, h⟩ := h
  refine v_invV (ci := 9) (as := [aI (x1)]) (st := []) DX9_group_2W rfl okX9_isGroup (Or.inl q3496) q3498 (s_555 hL) rfl qs227 npX9_isGroup (sp_X9_isGroup (σ := σ) (x1 := x1) k1 hL k2) (Nat.le_of_ble_eq_true rfl) (Nat.le_refl _) (Nat.le_of_ble_eq_true rfl) (RZ_ret (fun c3 => ?_) (fun c3 => ?_)) RZ_thr
  · have h := h.1 c3
    refine v_if_eq (tg := 17) DX9_group_5W (by decide) ⟨by decide, by decide⟩ (fun c4 => absurd c4 (by decide)) (fun c4 => ?_)
    refine v_iload_n 2 DX9_group_8W rfl rfl <| ?_
    obtain ⟨k5, h⟩ := h
    refine v_if_lt (tg := 17) DX9_group_9W (by decide) k5 (fun c6 => ?_) (fun c6 => ?_)
    · have h := h.1 c6
      refine v_iconst DX9_group_17W <| ?_
      exact v_iret DX9_group_18W rfl rfl h
    · have h := h.2 c6
      refine v_iload_n 2 DX9_group_12W rfl rfl <| v_iconst DX9_group_13W <| ?_
      refine v_icmp_le (tg := 19) DX9_group_14W (by decide) k5 ⟨by decide, by decide⟩ (fun c7 => ?_) (fun c7 => ?_)
      · have h := h.1 c7
        refine v_iload_n 2 DX9_group_19W rfl rfl <| ?_
        refine v_if_ne (tg := 32) DX9_group_20W (by decide) k5 (fun c8 => ?_) (fun c8 => ?_)
        · have h := h.1 c8
          refine v_iload_n 2 DX9_group_32W rfl rfl <| v_iconst DX9_group_33W <| ?_
          refine v_icmp_ne (tg := 46) DX9_group_34W (by decide) k5 ⟨by decide, by decide⟩ (fun c9 => ?_) (fun c9 => ?_)
          · have h := h.1 c9
            refine v_aload_n 0 DX9_group_46W rfl rfl <| ?_
            refine w_getI (ci := 9) (kf := 141) (kz := 141) DX9_group_47W (s_555 hL) rfl (by decide) rfl (Or.inl q2365) (fun _ _ => rfl) (fun f10 => ?_)
            have h := h f10
            refine v_if_eq (tg := 67) DX9_group_50W (by decide) (inR_z f10) (fun c11 => ?_) (fun c11 => ?_)
            · have h := h.1 c11
              refine v_iconst DX9_group_67W <| ?_
              exact v_iret DX9_group_68W rfl rfl h
            · have h := h.2 c11
              refine v_aload_n 0 DX9_group_53W rfl rfl <| w_getR (ci := 9) (kf := 40) (kz := 40) DX9_group_54W (s_555 hL) rfl (by decide) rfl (Or.inl q2264) (fun _ _ => rfl) (r_555_40 hL) <| v_aload_n 0 DX9_group_57W rfl rfl <| w_getR (ci := 9) (kf := 144) (kz := 144) DX9_group_58W (s_555 hL) rfl (by decide) rfl (Or.inl q2368) (fun _ _ => rfl) (r_555_144 hL) <| v_iload_n 1 DX9_group_61W rfl rfl <| ?_
              obtain ⟨k12, k13, h⟩ := h
              refine v_iald DX9_group_62W (s_658 hL) k12 k13 (fun f14 => ?_)
              have h := h f14
              obtain ⟨k15, k16, h⟩ := h
              refine v_iald DX9_group_63W (s_587 hL) k15 k16 (fun f17 => ?_)
              have h := h f17
              refine v_goto (pc' := 68) DX9_group_64W.1 (by decide) <| ?_
              exact v_iret DX9_group_68W rfl rfl h
          · have h := h.2 c9
            refine v_aload_n 0 DX9_group_37W rfl rfl <| w_getR (ci := 9) (kf := 143) (kz := 143) DX9_group_38W (s_555 hL) rfl (by decide) rfl (Or.inl q2367) (fun _ _ => rfl) (r_555_143 hL) <| v_iload_n 1 DX9_group_41W rfl rfl <| ?_
            obtain ⟨k18, k19, h⟩ := h
            refine v_iald DX9_group_42W (s_657 hL) k18 k19 (fun f20 => ?_)
            have h := h f20
            refine v_goto (pc' := 68) DX9_group_43W.1 (by decide) <| ?_
            exact v_iret DX9_group_68W rfl rfl h
        · have h := h.2 c8
          refine v_aload_n 0 DX9_group_23W rfl rfl <| w_getR (ci := 9) (kf := 142) (kz := 142) DX9_group_24W (s_555 hL) rfl (by decide) rfl (Or.inl q2366) (fun _ _ => rfl) (r_555_142 hL) <| v_iload_n 1 DX9_group_27W rfl rfl <| ?_
          obtain ⟨k21, k22, h⟩ := h
          refine v_iald DX9_group_28W (s_656 hL) k21 k22 (fun f23 => ?_)
          have h := h f23
          refine v_goto (pc' := 68) DX9_group_29W.1 (by decide) <| ?_
          exact v_iret DX9_group_68W rfl rfl h
      · have h := h.2 c7
        refine v_iconst DX9_group_17W <| ?_
        exact v_iret DX9_group_18W rfl rfl h
  · have h := h.2 c3
    refine v_if_eq (tg := 17) DX9_group_5W (by decide) ⟨by decide, by decide⟩ (fun c24 => ?_) (fun c24 => absurd c24 (by decide))
    refine v_iconst DX9_group_17W <| ?_
    exact v_iret DX9_group_18W rfl rfl h
theorem sp_X9_groupW {E : XE} {d : Nat} {σ : Sto} {x1 : Int} {x2 : Int} (hd : 2 ≤ d) (hL : Lay σ)  (p0 : inR x1) (p1 : inR x2) (p2 : 0 ≤ σ.I 555 135 ∧ σ.I 555 135 ≤ 6000) (p3 : bd_0_23999 σ 658 (σ.I 555 135) ∨ σ.I 555 141 = 0) (p4 : bd_0_20 σ 587 24000) : CC E mX9_group d [aO 555, aI (x1), aI (x2)] σ (RI σ (if ¬ (0 ≤ x1 ∧ x1 < σ.I 555 135) ∨ x2 < 0 ∨ 2 < x2 then -1 else if x2 = 0 then σ.I 656 x1 else if x2 = 1 then σ.I 657 x1 else if x2 = 2 then (if σ.I 555 141 = 1 then σ.I 587 (σ.I 658 x1) else 0) else -1)) := by
  obtain ⟨d, rfl⟩ : ∃ e, d = e + 1 := ⟨d - 1, by omega⟩
  have p0a := p0.1; have p0b := p0.2
  have p1a := p1.1; have p1b := p1.2
  refine ucX9_group_0W  hL  ?_
  refine ⟨?_, ?_⟩
  · omega
  refine ⟨?_, ?_⟩
  · (first | omega | (grind (splits := 16) (ematch := 30) (gen := 30) [-Prod, inR, inL, bd_0_20_at, bd_0_23999_at]))
  refine ⟨fun c1 => ?_, fun c2 => ?_⟩
  · refine ⟨?_, ?_⟩
    · (first | exact ⟨by omega, by omega⟩ | (grind (splits := 16) (ematch := 30) (gen := 30) [-Prod, inR, inL, bd_0_20_at, bd_0_23999_at]))
    refine ⟨fun c3 => ?_, fun c4 => ?_⟩
    · refine RI_mk ?_ ?_
      · (first | omega | (grind (splits := 16) (ematch := 30) (gen := 30) [-Prod, inR, inL, bd_0_20_at, bd_0_23999_at]))
      · (first | exact ⟨by omega, by omega⟩ | (grind (splits := 16) (ematch := 30) (gen := 30) [-Prod, inR, inL, bd_0_20_at, bd_0_23999_at]))
    · refine ⟨fun c5 => ?_, fun c6 => ?_⟩
      · refine ⟨fun c7 => ?_, fun c8 => ?_⟩
        · refine ⟨fun c9 => ?_, fun c10 => ?_⟩
          · rintro ⟨f11, f11q⟩
            refine ⟨fun c12 => ?_, fun c13 => ?_⟩
            · refine RI_mk ?_ ?_
              · (first | omega | (grind (splits := 16) (ematch := 30) (gen := 30) [-Prod, inR, inL, bd_0_20_at, bd_0_23999_at]))
              · (first | exact ⟨by omega, by omega⟩ | (grind (splits := 16) (ematch := 30) (gen := 30) [-Prod, inR, inL, bd_0_20_at, bd_0_23999_at]))
            · refine ⟨?_, ?_⟩
              · (first | omega | (grind (splits := 16) (ematch := 30) (gen := 30) [-Prod, inR, inL, bd_0_20_at, bd_0_23999_at]))
              refine ⟨?_, ?_⟩
              · (first | omega | (grind (splits := 16) (ematch := 30) (gen := 30) [-Prod, inR, inL, bd_0_20_at, bd_0_23999_at]))
              rintro ⟨f14, f14q⟩
              refine ⟨?_, ?_⟩
              · (first | omega | (grind (splits := 16) (ematch := 30) (gen := 30) [-Prod, inR, inL, bd_0_20_at, bd_0_23999_at]))
              refine ⟨?_, ?_⟩
              · (first | omega | (grind (splits := 16) (ematch := 30) (gen := 30) [-Prod, inR, inL, bd_0_20_at, bd_0_23999_at]))
              rintro ⟨f15, f15q⟩
              refine RI_mk ?_ ?_
              · (first | omega | (grind (splits := 16) (ematch := 30) (gen := 30) [-Prod, inR, inL, bd_0_20_at, bd_0_23999_at]))
              · (first | exact ⟨by omega, by omega⟩ | (grind (splits := 16) (ematch := 30) (gen := 30) [-Prod, inR, inL, bd_0_20_at, bd_0_23999_at]))
          · refine ⟨?_, ?_⟩
            · (first | omega | (grind (splits := 16) (ematch := 30) (gen := 30) [-Prod, inR, inL, bd_0_20_at, bd_0_23999_at]))
            refine ⟨?_, ?_⟩
            · (first | omega | (grind (splits := 16) (ematch := 30) (gen := 30) [-Prod, inR, inL, bd_0_20_at, bd_0_23999_at]))
            rintro ⟨f16, f16q⟩
            refine RI_mk ?_ ?_
            · (first | omega | (grind (splits := 16) (ematch := 30) (gen := 30) [-Prod, inR, inL, bd_0_20_at, bd_0_23999_at]))
            · (first | exact ⟨by omega, by omega⟩ | (grind (splits := 16) (ematch := 30) (gen := 30) [-Prod, inR, inL, bd_0_20_at, bd_0_23999_at]))
        · refine ⟨?_, ?_⟩
          · (first | omega | (grind (splits := 16) (ematch := 30) (gen := 30) [-Prod, inR, inL, bd_0_20_at, bd_0_23999_at]))
          refine ⟨?_, ?_⟩
          · (first | omega | (grind (splits := 16) (ematch := 30) (gen := 30) [-Prod, inR, inL, bd_0_20_at, bd_0_23999_at]))
          rintro ⟨f17, f17q⟩
          refine RI_mk ?_ ?_
          · (first | omega | (grind (splits := 16) (ematch := 30) (gen := 30) [-Prod, inR, inL, bd_0_20_at, bd_0_23999_at]))
          · (first | exact ⟨by omega, by omega⟩ | (grind (splits := 16) (ematch := 30) (gen := 30) [-Prod, inR, inL, bd_0_20_at, bd_0_23999_at]))
      · refine RI_mk ?_ ?_
        · (first | omega | (grind (splits := 16) (ematch := 30) (gen := 30) [-Prod, inR, inL, bd_0_20_at, bd_0_23999_at]))
        · (first | exact ⟨by omega, by omega⟩ | (grind (splits := 16) (ematch := 30) (gen := 30) [-Prod, inR, inL, bd_0_20_at, bd_0_23999_at]))
  · refine RI_mk ?_ ?_
    · (first | omega | (grind (splits := 16) (ematch := 30) (gen := 30) [-Prod, inR, inL, bd_0_20_at, bd_0_23999_at]))
    · (first | exact ⟨by omega, by omega⟩ | (grind (splits := 16) (ematch := 30) (gen := 30) [-Prod, inR, inL, bd_0_20_at, bd_0_23999_at]))
theorem DX9_groupOf_0W : DD cX9_groupOf 0 1 1 (.aload_n 0) := ⟨by decide +kernel, rfl⟩
theorem DX9_groupOf_1W : DD cX9_groupOf 1 1 2 (.iload_n 1) := ⟨by decide +kernel, rfl⟩
theorem DX9_groupOf_2W : DD cX9_groupOf 2 3 5 (.invokevirtual 1052) := ⟨by decide +kernel, rfl⟩
theorem DX9_groupOf_5W : DD cX9_groupOf 5 3 8 (.ifCond .eq 33) := ⟨by decide +kernel, rfl⟩
theorem DX9_groupOf_8W : DD cX9_groupOf 8 1 9 (.iload_n 2) := ⟨by decide +kernel, rfl⟩
theorem DX9_groupOf_9W : DD cX9_groupOf 9 3 12 (.ifCond .lt 29) := ⟨by decide +kernel, rfl⟩
theorem DX9_groupOf_12W : DD cX9_groupOf 12 1 13 (.iload_n 2) := ⟨by decide +kernel, rfl⟩
theorem DX9_groupOf_13W : DD cX9_groupOf 13 1 14 (.aload_n 0) := ⟨by decide +kernel, rfl⟩
theorem DX9_groupOf_14W : DD cX9_groupOf 14 3 17 (.getfield 1025) := ⟨by decide +kernel, rfl⟩
theorem DX9_groupOf_17W : DD cX9_groupOf 17 3 20 (.ifCond .eq 17) := ⟨by decide +kernel, rfl⟩
theorem DX9_groupOf_20W : DD cX9_groupOf 20 1 21 (.aload_n 0) := ⟨by decide +kernel, rfl⟩
theorem DX9_groupOf_21W : DD cX9_groupOf 21 3 24 (.getfield 117) := ⟨by decide +kernel, rfl⟩
theorem DX9_groupOf_24W : DD cX9_groupOf 24 1 25 (.aload_n 0) := ⟨by decide +kernel, rfl⟩
theorem DX9_groupOf_25W : DD cX9_groupOf 25 3 28 (.getfield 339) := ⟨by decide +kernel, rfl⟩
theorem DX9_groupOf_28W : DD cX9_groupOf 28 1 29 (.iload_n 1) := ⟨by decide +kernel, rfl⟩
theorem DX9_groupOf_29W : DD cX9_groupOf 29 1 30 (.iaload) := ⟨by decide +kernel, rfl⟩
theorem DX9_groupOf_30W : DD cX9_groupOf 30 1 31 (.iaload) := ⟨by decide +kernel, rfl⟩
theorem DX9_groupOf_31W : DD cX9_groupOf 31 3 34 (.goto 4) := ⟨by decide +kernel, rfl⟩
theorem DX9_groupOf_34W : DD cX9_groupOf 34 1 35 (.iconst 1) := ⟨by decide +kernel, rfl⟩
theorem DX9_groupOf_35W : DD cX9_groupOf 35 3 38 (.if_icmp .lt 7) := ⟨by decide +kernel, rfl⟩
theorem DX9_groupOf_38W : DD cX9_groupOf 38 3 41 (.ldc2_w 1001) := ⟨by decide +kernel, rfl⟩
theorem DX9_groupOf_41W : DD cX9_groupOf 41 1 42 (.lreturn) := ⟨by decide +kernel, rfl⟩
theorem DX9_groupOf_42W : DD cX9_groupOf 42 1 43 (.aload_n 0) := ⟨by decide +kernel, rfl⟩
theorem DX9_groupOf_43W : DD cX9_groupOf 43 3 46 (.getfield 1025) := ⟨by decide +kernel, rfl⟩
theorem DX9_groupOf_46W : DD cX9_groupOf 46 3 49 (.ifCond .eq 27) := ⟨by decide +kernel, rfl⟩
theorem DX9_groupOf_49W : DD cX9_groupOf 49 1 50 (.aload_n 0) := ⟨by decide +kernel, rfl⟩
theorem DX9_groupOf_50W : DD cX9_groupOf 50 3 53 (.getfield 114) := ⟨by decide +kernel, rfl⟩
theorem DX9_groupOf_53W : DD cX9_groupOf 53 2 55 (.bipush 20) := ⟨by decide +kernel, rfl⟩
theorem DX9_groupOf_55W : DD cX9_groupOf 55 1 56 (.aload_n 0) := ⟨by decide +kernel, rfl⟩
theorem DX9_groupOf_56W : DD cX9_groupOf 56 3 59 (.getfield 339) := ⟨by decide +kernel, rfl⟩
theorem DX9_groupOf_59W : DD cX9_groupOf 59 1 60 (.iload_n 1) := ⟨by decide +kernel, rfl⟩
theorem DX9_groupOf_60W : DD cX9_groupOf 60 1 61 (.iaload) := ⟨by decide +kernel, rfl⟩
theorem DX9_groupOf_61W : DD cX9_groupOf 61 1 62 (.imul) := ⟨by decide +kernel, rfl⟩
theorem DX9_groupOf_62W : DD cX9_groupOf 62 1 63 (.iload_n 2) := ⟨by decide +kernel, rfl⟩
theorem DX9_groupOf_63W : DD cX9_groupOf 63 1 64 (.iadd) := ⟨by decide +kernel, rfl⟩
theorem DX9_groupOf_64W : DD cX9_groupOf 64 1 65 (.baload) := ⟨by decide +kernel, rfl⟩
theorem DX9_groupOf_65W : DD cX9_groupOf 65 3 68 (.sipush 255) := ⟨by decide +kernel, rfl⟩
theorem DX9_groupOf_68W : DD cX9_groupOf 68 1 69 (.iand) := ⟨by decide +kernel, rfl⟩
theorem DX9_groupOf_69W : DD cX9_groupOf 69 1 70 (.i2l) := ⟨by decide +kernel, rfl⟩
theorem DX9_groupOf_70W : DD cX9_groupOf 70 3 73 (.goto 9) := ⟨by decide +kernel, rfl⟩
theorem DX9_groupOf_73W : DD cX9_groupOf 73 1 74 (.aload_n 0) := ⟨by decide +kernel, rfl⟩
theorem DX9_groupOf_74W : DD cX9_groupOf 74 3 77 (.getfield 342) := ⟨by decide +kernel, rfl⟩
theorem DX9_groupOf_77W : DD cX9_groupOf 77 1 78 (.iload_n 1) := ⟨by decide +kernel, rfl⟩
theorem DX9_groupOf_78W : DD cX9_groupOf 78 1 79 (.laload) := ⟨by decide +kernel, rfl⟩
theorem DX9_groupOf_79W : DD cX9_groupOf 79 1 80 (.lreturn) := ⟨by decide +kernel, rfl⟩
theorem ucX9_groupOf_0W {E : XE} {d : Nat} {σ : Sto} {Q : Res → Sto → Prop} {x1 : Int} {x2 : Int} (hL : Lay σ)  (h : 1 ≤ d ∧ (inR x1) ∧ ((0 ≤ x1 ∧ x1 < σ.I 555 135) → inR x2 ∧ (x2 < 0 → Q (.inl (some (aL (-1)))) σ) ∧ (0 ≤ x2 → (0 ≤ σ.I 555 141 ∧ σ.I 555 141 ≤ 1 → ((σ.I 555 141) = 0 → (x2 < 1 → ((σ.I 555 141) = 0 → 0 ≤ x1 ∧ x1 < 6000 ∧ (inL (σ.I 659 x1) → Q (.inl (some (aL (σ.I 659 x1)))) σ)) ∧ ((σ.I 555 141) ≠ 0 → 0 ≤ x1 ∧ x1 < 6000 ∧ (inR (σ.I 658 x1) → 0 ≤ ((20 * (σ.I 658 x1)) + x2) ∧ ((20 * (σ.I 658 x1)) + x2) < 480000 ∧ (-128 ≤ σ.I 586 ((20 * (σ.I 658 x1)) + x2) ∧ σ.I 586 ((20 * (σ.I 658 x1)) + x2) ≤ 127 → Q (.inl (some (aL (b32and (σ.I 586 ((20 * (σ.I 658 x1)) + x2)) 255)))) σ)))) ∧ (1 ≤ x2 → Q (.inl (some (aL (-1)))) σ)) ∧ ((σ.I 555 141) ≠ 0 → 0 ≤ x1 ∧ x1 < 6000 ∧ (inR (σ.I 658 x1) → 0 ≤ (σ.I 658 x1) ∧ (σ.I 658 x1) < 24000 ∧ (inR (σ.I 587 (σ.I 658 x1)) → (x2 < (σ.I 587 (σ.I 658 x1)) → ((σ.I 555 141) = 0 → 0 ≤ x1 ∧ x1 < 6000 ∧ (inL (σ.I 659 x1) → Q (.inl (some (aL (σ.I 659 x1)))) σ)) ∧ ((σ.I 555 141) ≠ 0 → 0 ≤ x1 ∧ x1 < 6000 ∧ 0 ≤ ((20 * (σ.I 658 x1)) + x2) ∧ ((20 * (σ.I 658 x1)) + x2) < 480000 ∧ (-128 ≤ σ.I 586 ((20 * (σ.I 658 x1)) + x2) ∧ σ.I 586 ((20 * (σ.I 658 x1)) + x2) ≤ 127 → Q (.inl (some (aL (b32and (σ.I 586 ((20 * (σ.I 658 x1)) + x2)) 255)))) σ))) ∧ ((σ.I 587 (σ.I 658 x1)) ≤ x2 → Q (.inl (some (aL (-1)))) σ))))))) ∧ (¬ (0 ≤ x1 ∧ x1 < σ.I 555 135) → Q (.inl (some (aL (-1)))) σ)) : VV E mX9_groupOf (d + 1) 0 [(0, aO 555), (1, aI (x1)), (2, aI (x2))] [] σ Q := by
  refine v_aload_n 0 DX9_groupOf_0W rfl rfl <| v_iload_n 1 DX9_groupOf_1W rfl rfl <| ?_
  obtain ⟨k1, h⟩ := h
  obtain ⟨k2, h⟩ := h
  refine v_invV (ci := 9) (as := [aI (x1)]) (st := []) DX9_groupOf_2W rfl okX9_isGroup (Or.inl q3496) q3498 (s_555 hL) rfl qs227 npX9_isGroup (sp_X9_isGroup (σ := σ) (x1 := x1) k1 hL k2) (Nat.le_of_ble_eq_true rfl) (Nat.le_refl _) (Nat.le_of_ble_eq_true rfl) (RZ_ret (fun c3 => ?_) (fun c3 => ?_)) RZ_thr
  · have h := h.1 c3
    refine v_if_eq (tg := 38) DX9_groupOf_5W (by decide) ⟨by decide, by decide⟩ (fun c4 => absurd c4 (by decide)) (fun c4 => ?_)
    refine v_iload_n 2 DX9_groupOf_8W rfl rfl <| ?_
    obtain ⟨k5, h⟩ := h
    refine v_if_lt (tg := 38) DX9_groupOf_9W (by decide) k5 (fun c6 => ?_) (fun c6 => ?_)
    · have h := h.1 c6
      refine v_ldc2 (x := (-1)) DX9_groupOf_38W q3416 rfl <| ?_
      exact v_lret DX9_groupOf_41W rfl h
    · have h := h.2 c6
      refine v_iload_n 2 DX9_groupOf_12W rfl rfl <| v_aload_n 0 DX9_groupOf_13W rfl rfl <| ?_
      refine w_getI (ci := 9) (kf := 141) (kz := 141) DX9_groupOf_14W (s_555 hL) rfl (by decide) rfl (Or.inl q2365) (fun _ _ => rfl) (fun f7 => ?_)
      have h := h f7
      refine v_if_eq (tg := 34) DX9_groupOf_17W (by decide) (inR_z f7) (fun c8 => ?_) (fun c8 => ?_)
      · have h := h.1 c8
        refine v_iconst DX9_groupOf_34W <| ?_
        refine v_icmp_lt (tg := 42) DX9_groupOf_35W (by decide) k5 ⟨by decide, by decide⟩ (fun c9 => ?_) (fun c9 => ?_)
        · have h := h.1 c9
          refine v_aload_n 0 DX9_groupOf_42W rfl rfl <| ?_
          refine w_getI (ci := 9) (kf := 141) (kz := 141) DX9_groupOf_43W (s_555 hL) rfl (by decide) rfl (Or.inl q2365) (fun _ _ => rfl) (fun _ => ?_)
          refine v_if_eq (tg := 73) DX9_groupOf_46W (by decide) (inR_z f7) (fun c10 => ?_) (fun c10 => ?_)
          · have h := h.1 c10
            refine v_aload_n 0 DX9_groupOf_73W rfl rfl <| w_getR (ci := 9) (kf := 145) (kz := 145) DX9_groupOf_74W (s_555 hL) rfl (by decide) rfl (Or.inl q2369) (fun _ _ => rfl) (r_555_145 hL) <| v_iload_n 1 DX9_groupOf_77W rfl rfl <| ?_
            obtain ⟨k11, k12, h⟩ := h
            refine v_lald DX9_groupOf_78W (s_659 hL) k11 k12 (fun f13 => ?_)
            have h := h f13
            exact v_lret DX9_groupOf_79W rfl h
          · have h := h.2 c10
            refine v_aload_n 0 DX9_groupOf_49W rfl rfl <| w_getR (ci := 9) (kf := 39) (kz := 39) DX9_groupOf_50W (s_555 hL) rfl (by decide) rfl (Or.inl q2263) (fun _ _ => rfl) (r_555_39 hL) <| v_bipush DX9_groupOf_53W ⟨by decide, by decide⟩ <| v_aload_n 0 DX9_groupOf_55W rfl rfl <| w_getR (ci := 9) (kf := 144) (kz := 144) DX9_groupOf_56W (s_555 hL) rfl (by decide) rfl (Or.inl q2368) (fun _ _ => rfl) (r_555_144 hL) <| v_iload_n 1 DX9_groupOf_59W rfl rfl <| ?_
            obtain ⟨k14, k15, h⟩ := h
            refine v_iald DX9_groupOf_60W (s_658 hL) k14 k15 (fun f16 => ?_)
            have h := h f16
            refine v_imul DX9_groupOf_61W <| v_iload_n 2 DX9_groupOf_62W rfl rfl <| v_iadd DX9_groupOf_63W <| ?_
            obtain ⟨k17, k18, h⟩ := h
            refine v_bald DX9_groupOf_64W (s_586 hL) k17 k18 (fun f19 => ?_)
            have h := h f19
            refine v_sipush DX9_groupOf_65W ⟨by decide, by decide⟩ <| v_iand DX9_groupOf_68W <| v_i2l DX9_groupOf_69W b32_in <| v_goto (pc' := 79) DX9_groupOf_70W.1 (by decide) <| ?_
            exact v_lret DX9_groupOf_79W rfl h
        · have h := h.2 c9
          refine v_ldc2 (x := (-1)) DX9_groupOf_38W q3416 rfl <| ?_
          exact v_lret DX9_groupOf_41W rfl h
      · have h := h.2 c8
        refine v_aload_n 0 DX9_groupOf_20W rfl rfl <| w_getR (ci := 9) (kf := 40) (kz := 40) DX9_groupOf_21W (s_555 hL) rfl (by decide) rfl (Or.inl q2264) (fun _ _ => rfl) (r_555_40 hL) <| v_aload_n 0 DX9_groupOf_24W rfl rfl <| w_getR (ci := 9) (kf := 144) (kz := 144) DX9_groupOf_25W (s_555 hL) rfl (by decide) rfl (Or.inl q2368) (fun _ _ => rfl) (r_555_144 hL) <| v_iload_n 1 DX9_groupOf_28W rfl rfl <| ?_
        obtain ⟨k20, k21, h⟩ := h
        refine v_iald DX9_groupOf_29W (s_658 hL) k20 k21 (fun f22 => ?_)
        have h := h f22
        obtain ⟨k23, k24, h⟩ := h
        refine v_iald DX9_groupOf_30W (s_587 hL) k23 k24 (fun f25 => ?_)
        have h := h f25
        refine v_goto (pc' := 35) DX9_groupOf_31W.1 (by decide) <| ?_
        refine v_icmp_lt (tg := 42) DX9_groupOf_35W (by decide) k5 f25 (fun c26 => ?_) (fun c26 => ?_)
        · have h := h.1 c26
          refine v_aload_n 0 DX9_groupOf_42W rfl rfl <| ?_
          refine w_getI (ci := 9) (kf := 141) (kz := 141) DX9_groupOf_43W (s_555 hL) rfl (by decide) rfl (Or.inl q2365) (fun _ _ => rfl) (fun _ => ?_)
          refine v_if_eq (tg := 73) DX9_groupOf_46W (by decide) (inR_z f7) (fun c27 => ?_) (fun c27 => ?_)
          · have h := h.1 c27
            refine v_aload_n 0 DX9_groupOf_73W rfl rfl <| w_getR (ci := 9) (kf := 145) (kz := 145) DX9_groupOf_74W (s_555 hL) rfl (by decide) rfl (Or.inl q2369) (fun _ _ => rfl) (r_555_145 hL) <| v_iload_n 1 DX9_groupOf_77W rfl rfl <| ?_
            obtain ⟨k28, k29, h⟩ := h
            refine v_lald DX9_groupOf_78W (s_659 hL) k28 k29 (fun f30 => ?_)
            have h := h f30
            exact v_lret DX9_groupOf_79W rfl h
          · have h := h.2 c27
            refine v_aload_n 0 DX9_groupOf_49W rfl rfl <| w_getR (ci := 9) (kf := 39) (kz := 39) DX9_groupOf_50W (s_555 hL) rfl (by decide) rfl (Or.inl q2263) (fun _ _ => rfl) (r_555_39 hL) <| v_bipush DX9_groupOf_53W ⟨by decide, by decide⟩ <| v_aload_n 0 DX9_groupOf_55W rfl rfl <| w_getR (ci := 9) (kf := 144) (kz := 144) DX9_groupOf_56W (s_555 hL) rfl (by decide) rfl (Or.inl q2368) (fun _ _ => rfl) (r_555_144 hL) <| v_iload_n 1 DX9_groupOf_59W rfl rfl <| ?_
            obtain ⟨k31, k32, h⟩ := h
            refine v_iald DX9_groupOf_60W (s_658 hL) k31 k32 (fun _ => ?_)
            refine v_imul DX9_groupOf_61W <| v_iload_n 2 DX9_groupOf_62W rfl rfl <| v_iadd DX9_groupOf_63W <| ?_
            obtain ⟨k34, k35, h⟩ := h
            refine v_bald DX9_groupOf_64W (s_586 hL) k34 k35 (fun f36 => ?_)
            have h := h f36
            refine v_sipush DX9_groupOf_65W ⟨by decide, by decide⟩ <| v_iand DX9_groupOf_68W <| v_i2l DX9_groupOf_69W b32_in <| v_goto (pc' := 79) DX9_groupOf_70W.1 (by decide) <| ?_
            exact v_lret DX9_groupOf_79W rfl h
        · have h := h.2 c26
          refine v_ldc2 (x := (-1)) DX9_groupOf_38W q3416 rfl <| ?_
          exact v_lret DX9_groupOf_41W rfl h
  · have h := h.2 c3
    refine v_if_eq (tg := 38) DX9_groupOf_5W (by decide) ⟨by decide, by decide⟩ (fun c37 => ?_) (fun c37 => absurd c37 (by decide))
    refine v_ldc2 (x := (-1)) DX9_groupOf_38W q3416 rfl <| ?_
    exact v_lret DX9_groupOf_41W rfl h
theorem sp_X9_groupOfW {E : XE} {d : Nat} {σ : Sto} {x1 : Int} {x2 : Int} (hd : 2 ≤ d) (hL : Lay σ)  (p0 : inR x1) (p1 : inR x2) (p2 : 0 ≤ σ.I 555 135 ∧ σ.I 555 135 ≤ 6000) (p3 : bd_0_23999 σ 658 (σ.I 555 135) ∨ σ.I 555 141 = 0) (p4 : bd_0_20 σ 587 24000) : CC E mX9_groupOf d [aO 555, aI (x1), aI (x2)] σ (RL σ (if ¬ (0 ≤ x1 ∧ x1 < σ.I 555 135) ∨ x2 < 0 then -1 else if σ.I 555 141 = 0 then (if x2 = 0 then σ.I 659 x1 else -1) else if x2 < σ.I 587 (σ.I 658 x1) then σ.I 586 (20 * σ.I 658 x1 + x2) % 256 else -1)) := by
  obtain ⟨d, rfl⟩ : ∃ e, d = e + 1 := ⟨d - 1, by omega⟩
  have p0a := p0.1; have p0b := p0.2
  have p1a := p1.1; have p1b := p1.2
  refine ucX9_groupOf_0W  hL  ?_
  refine ⟨?_, ?_⟩
  · omega
  refine ⟨?_, ?_⟩
  · (first | omega | (grind (splits := 16) (ematch := 30) (gen := 30) [-Prod, inR, inL, bd_0_20_at, bd_0_23999_at, = and255]))
  refine ⟨fun c1 => ?_, fun c2 => ?_⟩
  · refine ⟨?_, ?_⟩
    · (first | exact ⟨by omega, by omega⟩ | (grind (splits := 16) (ematch := 30) (gen := 30) [-Prod, inR, inL, bd_0_20_at, bd_0_23999_at, = and255]))
    refine ⟨fun c3 => ?_, fun c4 => ?_⟩
    · refine RL_mk ?_ ?_
      · (first | omega | (grind (splits := 16) (ematch := 30) (gen := 30) [-Prod, inR, inL, bd_0_20_at, bd_0_23999_at, = and255]))
      · (first | exact ⟨by omega, by omega⟩ | (grind (splits := 16) (ematch := 30) (gen := 30) [-Prod, inR, inL, bd_0_20_at, bd_0_23999_at, = and255]))
    · rintro ⟨f5, f5q⟩
      refine ⟨fun c6 => ?_, fun c7 => ?_⟩
      · refine ⟨fun c8 => ?_, fun c9 => ?_⟩
        · refine ⟨fun c10 => ?_, fun c11 => ?_⟩
          · refine ⟨?_, ?_⟩
            · (first | omega | (grind (splits := 16) (ematch := 30) (gen := 30) [-Prod, inR, inL, bd_0_20_at, bd_0_23999_at, = and255]))
            refine ⟨?_, ?_⟩
            · (first | omega | (grind (splits := 16) (ematch := 30) (gen := 30) [-Prod, inR, inL, bd_0_20_at, bd_0_23999_at, = and255]))
            rintro ⟨f12, f12q⟩
            refine RL_mk ?_ ?_
            · (first | omega | (grind (splits := 16) (ematch := 30) (gen := 30) [-Prod, inR, inL, bd_0_20_at, bd_0_23999_at, = and255]))
            · (first | exact ⟨by omega, by omega⟩ | (grind (splits := 16) (ematch := 30) (gen := 30) [-Prod, inR, inL, bd_0_20_at, bd_0_23999_at, = and255]))
          · refine ⟨?_, ?_⟩
            · (first | omega | (grind (splits := 16) (ematch := 30) (gen := 30) [-Prod, inR, inL, bd_0_20_at, bd_0_23999_at, = and255]))
            refine ⟨?_, ?_⟩
            · (first | omega | (grind (splits := 16) (ematch := 30) (gen := 30) [-Prod, inR, inL, bd_0_20_at, bd_0_23999_at, = and255]))
            rintro ⟨f13, f13q⟩
            refine ⟨?_, ?_⟩
            · (first | omega | (grind (splits := 16) (ematch := 30) (gen := 30) [-Prod, inR, inL, bd_0_20_at, bd_0_23999_at, = and255]))
            refine ⟨?_, ?_⟩
            · (first | omega | (grind (splits := 16) (ematch := 30) (gen := 30) [-Prod, inR, inL, bd_0_20_at, bd_0_23999_at, = and255]))
            rintro ⟨f14, f14q⟩
            refine RL_mk ?_ ?_
            · (first | omega | (grind (splits := 16) (ematch := 30) (gen := 30) [-Prod, inR, inL, bd_0_20_at, bd_0_23999_at, = and255]))
            · (first | exact ⟨by omega, by omega⟩ | (grind (splits := 16) (ematch := 30) (gen := 30) [-Prod, inR, inL, bd_0_20_at, bd_0_23999_at, = and255]))
        · refine RL_mk ?_ ?_
          · (first | omega | (grind (splits := 16) (ematch := 30) (gen := 30) [-Prod, inR, inL, bd_0_20_at, bd_0_23999_at, = and255]))
          · (first | exact ⟨by omega, by omega⟩ | (grind (splits := 16) (ematch := 30) (gen := 30) [-Prod, inR, inL, bd_0_20_at, bd_0_23999_at, = and255]))
      · refine ⟨?_, ?_⟩
        · (first | omega | (grind (splits := 16) (ematch := 30) (gen := 30) [-Prod, inR, inL, bd_0_20_at, bd_0_23999_at, = and255]))
        refine ⟨?_, ?_⟩
        · (first | omega | (grind (splits := 16) (ematch := 30) (gen := 30) [-Prod, inR, inL, bd_0_20_at, bd_0_23999_at, = and255]))
        rintro ⟨f15, f15q⟩
        refine ⟨?_, ?_⟩
        · (first | omega | (grind (splits := 16) (ematch := 30) (gen := 30) [-Prod, inR, inL, bd_0_20_at, bd_0_23999_at, = and255]))
        refine ⟨?_, ?_⟩
        · (first | omega | (grind (splits := 16) (ematch := 30) (gen := 30) [-Prod, inR, inL, bd_0_20_at, bd_0_23999_at, = and255]))
        rintro ⟨f16, f16q⟩
        refine ⟨fun c17 => ?_, fun c18 => ?_⟩
        · refine ⟨fun c19 => ?_, fun c20 => ?_⟩
          · refine ⟨?_, ?_⟩
            · (first | omega | (grind (splits := 16) (ematch := 30) (gen := 30) [-Prod, inR, inL, bd_0_20_at, bd_0_23999_at, = and255]))
            refine ⟨?_, ?_⟩
            · (first | omega | (grind (splits := 16) (ematch := 30) (gen := 30) [-Prod, inR, inL, bd_0_20_at, bd_0_23999_at, = and255]))
            rintro ⟨f21, f21q⟩
            refine RL_mk ?_ ?_
            · (first | omega | (grind (splits := 16) (ematch := 30) (gen := 30) [-Prod, inR, inL, bd_0_20_at, bd_0_23999_at, = and255]))
            · (first | exact ⟨by omega, by omega⟩ | (grind (splits := 16) (ematch := 30) (gen := 30) [-Prod, inR, inL, bd_0_20_at, bd_0_23999_at, = and255]))
          · refine ⟨?_, ?_⟩
            · (first | omega | (grind (splits := 16) (ematch := 30) (gen := 30) [-Prod, inR, inL, bd_0_20_at, bd_0_23999_at, = and255]))
            refine ⟨?_, ?_⟩
            · (first | omega | (grind (splits := 16) (ematch := 30) (gen := 30) [-Prod, inR, inL, bd_0_20_at, bd_0_23999_at, = and255]))
            refine ⟨?_, ?_⟩
            · (first | omega | (grind (splits := 16) (ematch := 30) (gen := 30) [-Prod, inR, inL, bd_0_20_at, bd_0_23999_at, = and255]))
            refine ⟨?_, ?_⟩
            · (first | omega | (grind (splits := 16) (ematch := 30) (gen := 30) [-Prod, inR, inL, bd_0_20_at, bd_0_23999_at, = and255]))
            rintro ⟨f22, f22q⟩
            refine RL_mk ?_ ?_
            · (first | omega | (grind (splits := 16) (ematch := 30) (gen := 30) [-Prod, inR, inL, bd_0_20_at, bd_0_23999_at, = and255]))
            · (first | exact ⟨by omega, by omega⟩ | (grind (splits := 16) (ematch := 30) (gen := 30) [-Prod, inR, inL, bd_0_20_at, bd_0_23999_at, = and255]))
        · refine RL_mk ?_ ?_
          · (first | omega | (grind (splits := 16) (ematch := 30) (gen := 30) [-Prod, inR, inL, bd_0_20_at, bd_0_23999_at, = and255]))
          · (first | exact ⟨by omega, by omega⟩ | (grind (splits := 16) (ematch := 30) (gen := 30) [-Prod, inR, inL, bd_0_20_at, bd_0_23999_at, = and255]))
  · refine RL_mk ?_ ?_
    · (first | omega | (grind (splits := 16) (ematch := 30) (gen := 30) [-Prod, inR, inL, bd_0_20_at, bd_0_23999_at, = and255]))
    · (first | exact ⟨by omega, by omega⟩ | (grind (splits := 16) (ematch := 30) (gen := 30) [-Prod, inR, inL, bd_0_20_at, bd_0_23999_at, = and255]))
theorem DX0_written_0W : DD cX0_written 0 1 1 (.iload_n 1) := ⟨by decide +kernel, rfl⟩
theorem DX0_written_1W : DD cX0_written 1 1 2 (.iconst 0) := ⟨by decide +kernel, rfl⟩
theorem DX0_written_2W : DD cX0_written 2 1 3 (.aload_n 0) := ⟨by decide +kernel, rfl⟩
theorem DX0_written_3W : DD cX0_written 3 3 6 (.getfield 741) := ⟨by decide +kernel, rfl⟩
theorem DX0_written_6W : DD cX0_written 6 1 7 (.iconst 1) := ⟨by decide +kernel, rfl⟩
theorem DX0_written_7W : DD cX0_written 7 1 8 (.isub) := ⟨by decide +kernel, rfl⟩
theorem DX0_written_8W : DD cX0_written 8 3 11 (.invokestatic 18) := ⟨by decide +kernel, rfl⟩
theorem DX0_written_11W : DD cX0_written 11 3 14 (.ifCond .eq 16) := ⟨by decide +kernel, rfl⟩
theorem DX0_written_14W : DD cX0_written 14 1 15 (.aload_n 0) := ⟨by decide +kernel, rfl⟩
theorem DX0_written_15W : DD cX0_written 15 3 18 (.getfield 356) := ⟨by decide +kernel, rfl⟩
theorem DX0_written_18W : DD cX0_written 18 1 19 (.iload_n 1) := ⟨by decide +kernel, rfl⟩
theorem DX0_written_19W : DD cX0_written 19 1 20 (.baload) := ⟨by decide +kernel, rfl⟩
theorem DX0_written_20W : DD cX0_written 20 3 23 (.sipush 255) := ⟨by decide +kernel, rfl⟩
theorem DX0_written_23W : DD cX0_written 23 1 24 (.iand) := ⟨by decide +kernel, rfl⟩
theorem DX0_written_24W : DD cX0_written 24 3 27 (.goto 4) := ⟨by decide +kernel, rfl⟩
theorem DX0_written_27W : DD cX0_written 27 1 28 (.iconst (-1)) := ⟨by decide +kernel, rfl⟩
theorem DX0_written_28W : DD cX0_written 28 1 29 (.ireturn) := ⟨by decide +kernel, rfl⟩
theorem ucX0_written_0W {E : XE} {d : Nat} {σ : Sto} {Q : Res → Sto → Prop} {x1 : Int} (hL : Lay σ)  (h : (inR (σ.I 0 100) → 1 ≤ d ∧ (inR x1) ∧ (inR (0 : Int)) ∧ (inR ((σ.I 0 100) - 1)) ∧ (((0 : Int) ≤ x1 ∧ x1 ≤ ((σ.I 0 100) - 1)) → 0 ≤ x1 ∧ x1 < 30000 ∧ (-128 ≤ σ.I 212 x1 ∧ σ.I 212 x1 ≤ 127 → Q (.inl (some (aI (b32and (σ.I 212 x1) 255)))) σ)) ∧ (¬ ((0 : Int) ≤ x1 ∧ x1 ≤ ((σ.I 0 100) - 1)) → Q (.inl (some (aI (-1)))) σ))) : VV E mX0_written (d + 1) 0 [(0, aO 0), (1, aI (x1))] [] σ Q := by
  refine v_iload_n 1 DX0_written_0W rfl rfl <| v_iconst DX0_written_1W <| v_aload_n 0 DX0_written_2W rfl rfl <| ?_
  refine w_getI (ci := 0) (kf := 100) (kz := 100) DX0_written_3W (s_0 hL) rfl (by decide) rfl (Or.inl q1146) (fun _ _ => rfl) (fun f1 => ?_)
  have h := h f1
  refine v_iconst DX0_written_6W <| v_isub DX0_written_7W <| ?_
  obtain ⟨k2, h⟩ := h
  obtain ⟨k3, k4, k5, h⟩ := h
  refine v_invS (as := [aI (x1), aI (0), aI ((σ.I 0 100) - 1)]) (st := []) DX0_written_8W rfl okX0_isIn (Or.inl q300) q301 npX0_isIn (sp_X0_isIn (σ := σ) (x0 := x1) (x1 := (0 : Int)) (x2 := (σ.I 0 100) - 1) k2 hL k3 k4 k5) (Nat.le_of_ble_eq_true rfl) (Nat.le_refl _) (Nat.le_of_ble_eq_true rfl) (RZ_ret (fun c6 => ?_) (fun c6 => ?_)) RZ_thr
  · have h := h.1 c6
    refine v_if_eq (tg := 27) DX0_written_11W (by decide) ⟨by decide, by decide⟩ (fun c7 => absurd c7 (by decide)) (fun c7 => ?_)
    refine v_aload_n 0 DX0_written_14W rfl rfl <| w_getR (ci := 0) (kf := 99) (kz := 99) DX0_written_15W (s_0 hL) rfl (by decide) rfl (Or.inl q1145) (fun _ _ => rfl) (r_0_99 hL) <| v_iload_n 1 DX0_written_18W rfl rfl <| ?_
    obtain ⟨k8, k9, h⟩ := h
    refine v_bald DX0_written_19W (s_212 hL) k8 k9 (fun f10 => ?_)
    have h := h f10
    refine v_sipush DX0_written_20W ⟨by decide, by decide⟩ <| v_iand DX0_written_23W <| v_goto (pc' := 28) DX0_written_24W.1 (by decide) <| ?_
    exact v_iret DX0_written_28W rfl rfl h
  · have h := h.2 c6
    refine v_if_eq (tg := 27) DX0_written_11W (by decide) ⟨by decide, by decide⟩ (fun c11 => ?_) (fun c11 => absurd c11 (by decide))
    refine v_iconst DX0_written_27W <| ?_
    exact v_iret DX0_written_28W rfl rfl h
theorem sp_X0_writtenW {E : XE} {d : Nat} {σ : Sto} {x1 : Int} (hd : 2 ≤ d) (hL : Lay σ)  (p0 : inR x1) (p1 : 0 ≤ σ.I 0 100 ∧ σ.I 0 100 ≤ 30000) : CC E mX0_written d [aO 0, aI (x1)] σ (RI σ (if (0 ≤ x1 ∧ x1 < σ.I 0 100) then σ.I 212 x1 % 256 else -1)) := by
  obtain ⟨d, rfl⟩ : ∃ e, d = e + 1 := ⟨d - 1, by omega⟩
  have p0a := p0.1; have p0b := p0.2
  refine ucX0_written_0W  hL  ?_
  rintro ⟨f1, f1q⟩
  refine ⟨?_, ?_⟩
  · omega
  refine ⟨?_, ?_⟩
  · (first | omega | (grind (splits := 16) (ematch := 30) (gen := 30) [-Prod, inR, inL, = and255]))
  refine ⟨?_, ?_⟩
  · (first | omega | (grind (splits := 16) (ematch := 30) (gen := 30) [-Prod, inR, inL, = and255]))
  refine ⟨?_, ?_⟩
  · (first | omega | (grind (splits := 16) (ematch := 30) (gen := 30) [-Prod, inR, inL, = and255]))
  refine ⟨fun c2 => ?_, fun c3 => ?_⟩
  · refine ⟨?_, ?_⟩
    · (first | omega | (grind (splits := 16) (ematch := 30) (gen := 30) [-Prod, inR, inL, = and255]))
    refine ⟨?_, ?_⟩
    · (first | omega | (grind (splits := 16) (ematch := 30) (gen := 30) [-Prod, inR, inL, = and255]))
    rintro ⟨f4, f4q⟩
    refine RI_mk ?_ ?_
    · (first | omega | (grind (splits := 16) (ematch := 30) (gen := 30) [-Prod, inR, inL, = and255]))
    · (first | exact ⟨by omega, by omega⟩ | (grind (splits := 16) (ematch := 30) (gen := 30) [-Prod, inR, inL, = and255]))
  · refine RI_mk ?_ ?_
    · (first | omega | (grind (splits := 16) (ematch := 30) (gen := 30) [-Prod, inR, inL, = and255]))
    · (first | exact ⟨by omega, by omega⟩ | (grind (splits := 16) (ematch := 30) (gen := 30) [-Prod, inR, inL, = and255]))
theorem DX0_sumOf_0W : DD cX0_sumOf 0 1 1 (.iconst 1) := ⟨by decide +kernel, rfl⟩
theorem DX0_sumOf_1W : DD cX0_sumOf 1 1 2 (.istore_n 2) := ⟨by decide +kernel, rfl⟩
theorem DX0_sumOf_2W : DD cX0_sumOf 2 1 3 (.iconst 0) := ⟨by decide +kernel, rfl⟩
theorem DX0_sumOf_3W : DD cX0_sumOf 3 1 4 (.istore_n 3) := ⟨by decide +kernel, rfl⟩
theorem DX0_sumOf_4W : DD cX0_sumOf 4 1 5 (.iload_n 3) := ⟨by decide +kernel, rfl⟩
theorem DX0_sumOf_5W : DD cX0_sumOf 5 1 6 (.iload_n 1) := ⟨by decide +kernel, rfl⟩
theorem DX0_sumOf_6W : DD cX0_sumOf 6 3 9 (.if_icmp .ge 22) := ⟨by decide +kernel, rfl⟩
theorem DX0_sumOf_9W : DD cX0_sumOf 9 2 11 (.bipush 31) := ⟨by decide +kernel, rfl⟩
theorem DX0_sumOf_11W : DD cX0_sumOf 11 1 12 (.iload_n 2) := ⟨by decide +kernel, rfl⟩
theorem DX0_sumOf_12W : DD cX0_sumOf 12 1 13 (.imul) := ⟨by decide +kernel, rfl⟩
theorem DX0_sumOf_13W : DD cX0_sumOf 13 1 14 (.aload_n 0) := ⟨by decide +kernel, rfl⟩
theorem DX0_sumOf_14W : DD cX0_sumOf 14 1 15 (.iload_n 3) := ⟨by decide +kernel, rfl⟩
theorem DX0_sumOf_15W : DD cX0_sumOf 15 1 16 (.baload) := ⟨by decide +kernel, rfl⟩
theorem DX0_sumOf_16W : DD cX0_sumOf 16 3 19 (.sipush 255) := ⟨by decide +kernel, rfl⟩
theorem DX0_sumOf_19W : DD cX0_sumOf 19 1 20 (.iand) := ⟨by decide +kernel, rfl⟩
theorem DX0_sumOf_20W : DD cX0_sumOf 20 1 21 (.iadd) := ⟨by decide +kernel, rfl⟩
theorem DX0_sumOf_21W : DD cX0_sumOf 21 1 22 (.istore_n 2) := ⟨by decide +kernel, rfl⟩
theorem DX0_sumOf_22W : DD cX0_sumOf 22 3 25 (.iinc 3 1) := ⟨by decide +kernel, rfl⟩
theorem DX0_sumOf_25W : DD cX0_sumOf 25 3 28 (.goto (-21)) := ⟨by decide +kernel, rfl⟩
theorem DX0_sumOf_28W : DD cX0_sumOf 28 1 29 (.iload_n 2) := ⟨by decide +kernel, rfl⟩
theorem DX0_sumOf_29W : DD cX0_sumOf 29 1 30 (.ireturn) := ⟨by decide +kernel, rfl⟩
theorem ucX0_sumOf_0W {E : XE} {d : Nat} {σ : Sto} {Q : Res → Sto → Prop} {o0 : Nat} {n0 : Nat} {x1 : Int} (hL : Lay σ) (ho0 : σ.sh o0 = (1, n0)) (h : VV E mX0_sumOf (d + 1) 4 [(0, aO o0), (1, aI (x1)), (2, aI (1)), (3, aI (0))] [] σ Q) : VV E mX0_sumOf (d + 1) 0 [(0, aO o0), (1, aI (x1))] [] σ Q := by
  refine v_iconst DX0_sumOf_0W <| v_istore_n DX0_sumOf_1W rfl (by decide) rfl <| v_iconst DX0_sumOf_2W <| v_istore_n DX0_sumOf_3W rfl (by decide) rfl <| ?_
  exact v_pick [2, 3, 1, 0] rfl h
theorem ucX0_sumOf_4W {E : XE} {d : Nat} {σ : Sto} {Q : Res → Sto → Prop} {o0 : Nat} {n0 : Nat} {x1 : Int} {x2 : Int} {x3 : Int} (hL : Lay σ) (ho0 : σ.sh o0 = (1, n0)) (h : inR x3 ∧ inR x1 ∧ (x1 ≤ x3 → Q (.inl (some (aI (w32 x2)))) σ) ∧ (x3 < x1 → 0 ≤ x3 ∧ x3 < n0 ∧ (-128 ≤ σ.I o0 x3 ∧ σ.I o0 x3 ≤ 127 → VV E mX0_sumOf (d + 1) 4 [(0, aO o0), (1, aI (x1)), (2, aI ((31 * x2) + (b32and (σ.I o0 x3) 255))), (3, aI (x3 + 1))] [] σ Q))) : VV E mX0_sumOf (d + 1) 4 [(0, aO o0), (1, aI (x1)), (2, aI (x2)), (3, aI (x3))] [] σ Q := by
  refine v_iload_n 3 DX0_sumOf_4W rfl rfl <| v_iload_n 1 DX0_sumOf_5W rfl rfl <| ?_
  obtain ⟨k1, k2, h⟩ := h
  refine v_icmp_ge (tg := 28) DX0_sumOf_6W (by decide) k1 k2 (fun c3 => ?_) (fun c3 => ?_)
  · have h := h.1 c3
    refine v_iload_n 2 DX0_sumOf_28W rfl rfl <| v_w32 <| ?_
    exact v_iret DX0_sumOf_29W rfl rfl h
  · have h := h.2 c3
    refine v_bipush DX0_sumOf_9W ⟨by decide, by decide⟩ <| v_iload_n 2 DX0_sumOf_11W rfl rfl <| v_imul DX0_sumOf_12W <| v_aload_n 0 DX0_sumOf_13W rfl rfl <| v_iload_n 3 DX0_sumOf_14W rfl rfl <| ?_
    obtain ⟨k4, k5, h⟩ := h
    refine v_bald DX0_sumOf_15W ho0 k4 k5 (fun f6 => ?_)
    have h := h f6
    refine v_sipush DX0_sumOf_16W ⟨by decide, by decide⟩ <| v_iand DX0_sumOf_19W <| v_iadd DX0_sumOf_20W <| v_istore_n DX0_sumOf_21W rfl (by decide) rfl <| v_iinc 3 DX0_sumOf_22W rfl (by decide) rfl <| v_goto (pc' := 4) DX0_sumOf_25W.1 (by decide) <| ?_
    exact v_pick [2, 3, 1, 0] rfl h
theorem sp_X0_sumOfW {E : XE} {d : Nat} {σ : Sto} {o0 : Nat} {n0 : Nat} {x1 : Int} (hd : 1 ≤ d) (hL : Lay σ) (ho0 : σ.sh o0 = (1, n0)) (p0 : 0 ≤ x1 ∧ x1 ≤ n0 ∧ x1 ≤ 30000) : CC E mX0_sumOf d [aO o0, aI (x1)] σ (RI σ (w32 (smH (σ.I o0) x1))) := by
  obtain ⟨d, rfl⟩ : ∃ e, d = e + 1 := ⟨d - 1, by omega⟩
  have key : ∀ wa wb wc : Nat, (∀ (x2 : Int) (x3 : Int), ((0 ≤ x3 ∧ x3 ≤ x1) ∧ (x2 = smH (σ.I o0) x3)) → wa = (x1 - x3).toNat → wb = 0 → wc = 0 → VV E mX0_sumOf (d + 1) 4 [(0, aO o0), (1, aI (x1)), (2, aI (x2)), (3, aI (x3))] [] σ (RI σ (w32 (smH (σ.I o0) x1)))) := by
    refine lex3 (fun wa wb wc ih => ?_)
    have ih0 : ∀ (x2 : Int) (x3 : Int), ((0 ≤ x3 ∧ x3 ≤ x1) ∧ (x2 = smH (σ.I o0) x3)) → lt3 ((x1 - x3).toNat) 0 0 wa wb wc → VV E mX0_sumOf (d + 1) 4 [(0, aO o0), (1, aI (x1)), (2, aI (x2)), (3, aI (x3))] [] σ (RI σ (w32 (smH (σ.I o0) x1))) := fun z0 z1 h0 hlt => (ih _ _ _ hlt) z0 z1 h0 rfl rfl rfl
    clear ih
    skip
    · rintro x2 x3 ⟨i0, i1⟩ ha hb hc
      subst ha hb hc
      refine ucX0_sumOf_4W  hL ho0 ?_
      refine ⟨?_, ?_⟩
      · (first | exact ⟨by omega, by omega⟩ | (clear ih0; grind (splits := 16) (ematch := 30) (gen := 30) [-Prod, inR, inL, = and255, smH_0, smH_s, w32_in]))
      refine ⟨?_, ?_⟩
      · (first | exact ⟨by omega, by omega⟩ | (clear ih0; grind (splits := 16) (ematch := 30) (gen := 30) [-Prod, inR, inL, = and255, smH_0, smH_s, w32_in]))
      refine ⟨fun c1 => ?_, fun c2 => ?_⟩
      · refine RI_mk ?_ ?_
        · (first | omega | (clear ih0; grind (splits := 16) (ematch := 30) (gen := 30) [-Prod, inR, inL, = and255, smH_0, smH_s, w32_in]))
        · (first | exact ⟨by omega, by omega⟩ | (clear ih0; grind (splits := 16) (ematch := 30) (gen := 30) [-Prod, inR, inL, = and255, smH_0, smH_s, w32_in]))
      · refine ⟨?_, ?_⟩
        · (first | omega | (clear ih0; grind (splits := 16) (ematch := 30) (gen := 30) [-Prod, inR, inL, = and255, smH_0, smH_s, w32_in]))
        refine ⟨?_, ?_⟩
        · (first | omega | (clear ih0; grind (splits := 16) (ematch := 30) (gen := 30) [-Prod, inR, inL, = and255, smH_0, smH_s, w32_in]))
        rintro ⟨f3, f3q⟩
        refine ih0 _ _ ⟨?_, ?_⟩ ?_
        · (first | omega | (clear ih0; grind (splits := 16) (ematch := 30) (gen := 30) [-Prod, inR, inL, = and255, smH_0, smH_s, w32_in]))
        · (first | omega | (clear ih0; grind (splits := 16) (ematch := 30) (gen := 30) [-Prod, inR, inL, = and255, smH_0, smH_s, w32_in]))
        · (unfold lt3; first | omega | (clear ih0; grind (splits := 16) (ematch := 30) (gen := 30) [-Prod, inR, inL, = and255, smH_0, smH_s, w32_in]))
  have k0_ : ∀ (x2 : Int) (x3 : Int), ((0 ≤ x3 ∧ x3 ≤ x1) ∧ (x2 = smH (σ.I o0) x3)) → VV E mX0_sumOf (d + 1) 4 [(0, aO o0), (1, aI (x1)), (2, aI (x2)), (3, aI (x3))] [] σ (RI σ (w32 (smH (σ.I o0) x1))) := fun z0 z1 h0 => (key _ _ _) z0 z1 h0 rfl rfl rfl
  clear key
  refine ucX0_sumOf_0W  hL ho0 ?_
  refine k0_ _ _ ⟨?_, ?_⟩
  · (first | omega | (clear k0_; grind (splits := 16) (ematch := 30) (gen := 30) [-Prod, inR, inL, = and255, smH_0, smH_s, w32_in]))
  · (first | omega | (clear k0_; grind (splits := 16) (ematch := 30) (gen := 30) [-Prod, inR, inL, = and255, smH_0, smH_s, w32_in]))
theorem DX9_sumOf_0W : DD cX9_sumOf 0 1 1 (.iconst 1) := ⟨by decide +kernel, rfl⟩
theorem DX9_sumOf_1W : DD cX9_sumOf 1 1 2 (.istore_n 2) := ⟨by decide +kernel, rfl⟩
theorem DX9_sumOf_2W : DD cX9_sumOf 2 1 3 (.iconst 0) := ⟨by decide +kernel, rfl⟩
theorem DX9_sumOf_3W : DD cX9_sumOf 3 1 4 (.istore_n 3) := ⟨by decide +kernel, rfl⟩
theorem DX9_sumOf_4W : DD cX9_sumOf 4 1 5 (.iload_n 3) := ⟨by decide +kernel, rfl⟩
theorem DX9_sumOf_5W : DD cX9_sumOf 5 1 6 (.iload_n 1) := ⟨by decide +kernel, rfl⟩
theorem DX9_sumOf_6W : DD cX9_sumOf 6 3 9 (.if_icmp .ge 22) := ⟨by decide +kernel, rfl⟩
theorem DX9_sumOf_9W : DD cX9_sumOf 9 2 11 (.bipush 31) := ⟨by decide +kernel, rfl⟩
theorem DX9_sumOf_11W : DD cX9_sumOf 11 1 12 (.iload_n 2) := ⟨by decide +kernel, rfl⟩
theorem DX9_sumOf_12W : DD cX9_sumOf 12 1 13 (.imul) := ⟨by decide +kernel, rfl⟩
theorem DX9_sumOf_13W : DD cX9_sumOf 13 1 14 (.aload_n 0) := ⟨by decide +kernel, rfl⟩
theorem DX9_sumOf_14W : DD cX9_sumOf 14 1 15 (.iload_n 3) := ⟨by decide +kernel, rfl⟩
theorem DX9_sumOf_15W : DD cX9_sumOf 15 1 16 (.baload) := ⟨by decide +kernel, rfl⟩
theorem DX9_sumOf_16W : DD cX9_sumOf 16 3 19 (.sipush 255) := ⟨by decide +kernel, rfl⟩
theorem DX9_sumOf_19W : DD cX9_sumOf 19 1 20 (.iand) := ⟨by decide +kernel, rfl⟩
theorem DX9_sumOf_20W : DD cX9_sumOf 20 1 21 (.iadd) := ⟨by decide +kernel, rfl⟩
theorem DX9_sumOf_21W : DD cX9_sumOf 21 1 22 (.istore_n 2) := ⟨by decide +kernel, rfl⟩
theorem DX9_sumOf_22W : DD cX9_sumOf 22 3 25 (.iinc 3 1) := ⟨by decide +kernel, rfl⟩
theorem DX9_sumOf_25W : DD cX9_sumOf 25 3 28 (.goto (-21)) := ⟨by decide +kernel, rfl⟩
theorem DX9_sumOf_28W : DD cX9_sumOf 28 1 29 (.iload_n 2) := ⟨by decide +kernel, rfl⟩
theorem DX9_sumOf_29W : DD cX9_sumOf 29 1 30 (.ireturn) := ⟨by decide +kernel, rfl⟩
theorem ucX9_sumOf_0W {E : XE} {d : Nat} {σ : Sto} {Q : Res → Sto → Prop} {o0 : Nat} {n0 : Nat} {x1 : Int} (hL : Lay σ) (ho0 : σ.sh o0 = (1, n0)) (h : VV E mX9_sumOf (d + 1) 4 [(0, aO o0), (1, aI (x1)), (2, aI (1)), (3, aI (0))] [] σ Q) : VV E mX9_sumOf (d + 1) 0 [(0, aO o0), (1, aI (x1))] [] σ Q := by
  refine v_iconst DX9_sumOf_0W <| v_istore_n DX9_sumOf_1W rfl (by decide) rfl <| v_iconst DX9_sumOf_2W <| v_istore_n DX9_sumOf_3W rfl (by decide) rfl <| ?_
  exact v_pick [2, 3, 1, 0] rfl h
theorem ucX9_sumOf_4W {E : XE} {d : Nat} {σ : Sto} {Q : Res → Sto → Prop} {o0 : Nat} {n0 : Nat} {x1 : Int} {x2 : Int} {x3 : Int} (hL : Lay σ) (ho0 : σ.sh o0 = (1, n0)) (h : inR x3 ∧ inR x1 ∧ (x1 ≤ x3 → Q (.inl (some (aI (w32 x2)))) σ) ∧ (x3 < x1 → 0 ≤ x3 ∧ x3 < n0 ∧ (-128 ≤ σ.I o0 x3 ∧ σ.I o0 x3 ≤ 127 → VV E mX9_sumOf (d + 1) 4 [(0, aO o0), (1, aI (x1)), (2, aI ((31 * x2) + (b32and (σ.I o0 x3) 255))), (3, aI (x3 + 1))] [] σ Q))) : VV E mX9_sumOf (d + 1) 4 [(0, aO o0), (1, aI (x1)), (2, aI (x2)), (3, aI (x3))] [] σ Q := by
  refine v_iload_n 3 DX9_sumOf_4W rfl rfl <| v_iload_n 1 DX9_sumOf_5W rfl rfl <| ?_
  obtain ⟨k1, k2, h⟩ := h
  refine v_icmp_ge (tg := 28) DX9_sumOf_6W (by decide) k1 k2 (fun c3 => ?_) (fun c3 => ?_)
  · have h := h.1 c3
    refine v_iload_n 2 DX9_sumOf_28W rfl rfl <| v_w32 <| ?_
    exact v_iret DX9_sumOf_29W rfl rfl h
  · have h := h.2 c3
    refine v_bipush DX9_sumOf_9W ⟨by decide, by decide⟩ <| v_iload_n 2 DX9_sumOf_11W rfl rfl <| v_imul DX9_sumOf_12W <| v_aload_n 0 DX9_sumOf_13W rfl rfl <| v_iload_n 3 DX9_sumOf_14W rfl rfl <| ?_
    obtain ⟨k4, k5, h⟩ := h
    refine v_bald DX9_sumOf_15W ho0 k4 k5 (fun f6 => ?_)
    have h := h f6
    refine v_sipush DX9_sumOf_16W ⟨by decide, by decide⟩ <| v_iand DX9_sumOf_19W <| v_iadd DX9_sumOf_20W <| v_istore_n DX9_sumOf_21W rfl (by decide) rfl <| v_iinc 3 DX9_sumOf_22W rfl (by decide) rfl <| v_goto (pc' := 4) DX9_sumOf_25W.1 (by decide) <| ?_
    exact v_pick [2, 3, 1, 0] rfl h
theorem sp_X9_sumOfW {E : XE} {d : Nat} {σ : Sto} {o0 : Nat} {n0 : Nat} {x1 : Int} (hd : 1 ≤ d) (hL : Lay σ) (ho0 : σ.sh o0 = (1, n0)) (p0 : 0 ≤ x1 ∧ x1 ≤ n0 ∧ x1 ≤ 30000) : CC E mX9_sumOf d [aO o0, aI (x1)] σ (RI σ (w32 (smH (σ.I o0) x1))) := by
  obtain ⟨d, rfl⟩ : ∃ e, d = e + 1 := ⟨d - 1, by omega⟩
  have key : ∀ wa wb wc : Nat, (∀ (x2 : Int) (x3 : Int), ((0 ≤ x3 ∧ x3 ≤ x1) ∧ (x2 = smH (σ.I o0) x3)) → wa = (x1 - x3).toNat → wb = 0 → wc = 0 → VV E mX9_sumOf (d + 1) 4 [(0, aO o0), (1, aI (x1)), (2, aI (x2)), (3, aI (x3))] [] σ (RI σ (w32 (smH (σ.I o0) x1)))) := by
    refine lex3 (fun wa wb wc ih => ?_)
    have ih0 : ∀ (x2 : Int) (x3 : Int), ((0 ≤ x3 ∧ x3 ≤ x1) ∧ (x2 = smH (σ.I o0) x3)) → lt3 ((x1 - x3).toNat) 0 0 wa wb wc → VV E mX9_sumOf (d + 1) 4 [(0, aO o0), (1, aI (x1)), (2, aI (x2)), (3, aI (x3))] [] σ (RI σ (w32 (smH (σ.I o0) x1))) := fun z0 z1 h0 hlt => (ih _ _ _ hlt) z0 z1 h0 rfl rfl rfl
    clear ih
    skip
    · rintro x2 x3 ⟨i0, i1⟩ ha hb hc
      subst ha hb hc
      refine ucX9_sumOf_4W  hL ho0 ?_
      refine ⟨?_, ?_⟩
      · (first | exact ⟨by omega, by omega⟩ | (clear ih0; grind (splits := 16) (ematch := 30) (gen := 30) [-Prod, inR, inL, = and255, smH_0, smH_s, w32_in]))
      refine ⟨?_, ?_⟩
      · (first | exact ⟨by omega, by omega⟩ | (clear ih0; grind (splits := 16) (ematch := 30) (gen := 30) [-Prod, inR, inL, = and255, smH_0, smH_s, w32_in]))
      refine ⟨fun c1 => ?_, fun c2 => ?_⟩
      · refine RI_mk ?_ ?_
        · (first | omega | (clear ih0; grind (splits := 16) (ematch := 30) (gen := 30) [-Prod, inR, inL, = and255, smH_0, smH_s, w32_in]))
        · (first | exact ⟨by omega, by omega⟩ | (clear ih0; grind (splits := 16) (ematch := 30) (gen := 30) [-Prod, inR, inL, = and255, smH_0, smH_s, w32_in]))
      · refine ⟨?_, ?_⟩
        · (first | omega | (clear ih0; grind (splits := 16) (ematch := 30) (gen := 30) [-Prod, inR, inL, = and255, smH_0, smH_s, w32_in]))
        refine ⟨?_, ?_⟩
        · (first | omega | (clear ih0; grind (splits := 16) (ematch := 30) (gen := 30) [-Prod, inR, inL, = and255, smH_0, smH_s, w32_in]))
        rintro ⟨f3, f3q⟩
        refine ih0 _ _ ⟨?_, ?_⟩ ?_
        · (first | omega | (clear ih0; grind (splits := 16) (ematch := 30) (gen := 30) [-Prod, inR, inL, = and255, smH_0, smH_s, w32_in]))
        · (first | omega | (clear ih0; grind (splits := 16) (ematch := 30) (gen := 30) [-Prod, inR, inL, = and255, smH_0, smH_s, w32_in]))
        · (unfold lt3; first | omega | (clear ih0; grind (splits := 16) (ematch := 30) (gen := 30) [-Prod, inR, inL, = and255, smH_0, smH_s, w32_in]))
  have k0_ : ∀ (x2 : Int) (x3 : Int), ((0 ≤ x3 ∧ x3 ≤ x1) ∧ (x2 = smH (σ.I o0) x3)) → VV E mX9_sumOf (d + 1) 4 [(0, aO o0), (1, aI (x1)), (2, aI (x2)), (3, aI (x3))] [] σ (RI σ (w32 (smH (σ.I o0) x1))) := fun z0 z1 h0 => (key _ _ _) z0 z1 h0 rfl rfl rfl
  clear key
  refine ucX9_sumOf_0W  hL ho0 ?_
  refine k0_ _ _ ⟨?_, ?_⟩
  · (first | omega | (clear k0_; grind (splits := 16) (ematch := 30) (gen := 30) [-Prod, inR, inL, = and255, smH_0, smH_s, w32_in]))
  · (first | omega | (clear k0_; grind (splits := 16) (ematch := 30) (gen := 30) [-Prod, inR, inL, = and255, smH_0, smH_s, w32_in]))
theorem DX2_chainOf_0W : DD cX2_chainOf 0 1 1 (.iload_n 1) := ⟨by decide +kernel, rfl⟩
theorem DX2_chainOf_1W : DD cX2_chainOf 1 2 3 (.istore 5) := ⟨by decide +kernel, rfl⟩
theorem DX2_chainOf_3W : DD cX2_chainOf 3 1 4 (.iconst 0) := ⟨by decide +kernel, rfl⟩
theorem DX2_chainOf_4W : DD cX2_chainOf 4 2 6 (.istore 6) := ⟨by decide +kernel, rfl⟩
theorem DX2_chainOf_6W : DD cX2_chainOf 6 2 8 (.iload 6) := ⟨by decide +kernel, rfl⟩
theorem DX2_chainOf_8W : DD cX2_chainOf 8 2 10 (.iload 4) := ⟨by decide +kernel, rfl⟩
theorem DX2_chainOf_10W : DD cX2_chainOf 10 3 13 (.if_icmp .ge 23) := ⟨by decide +kernel, rfl⟩
theorem DX2_chainOf_13W : DD cX2_chainOf 13 2 15 (.bipush 31) := ⟨by decide +kernel, rfl⟩
theorem DX2_chainOf_15W : DD cX2_chainOf 15 2 17 (.iload 5) := ⟨by decide +kernel, rfl⟩
theorem DX2_chainOf_17W : DD cX2_chainOf 17 1 18 (.imul) := ⟨by decide +kernel, rfl⟩
theorem DX2_chainOf_18W : DD cX2_chainOf 18 1 19 (.aload_n 2) := ⟨by decide +kernel, rfl⟩
theorem DX2_chainOf_19W : DD cX2_chainOf 19 1 20 (.iload_n 3) := ⟨by decide +kernel, rfl⟩
theorem DX2_chainOf_20W : DD cX2_chainOf 20 2 22 (.iload 6) := ⟨by decide +kernel, rfl⟩
theorem DX2_chainOf_22W : DD cX2_chainOf 22 1 23 (.iadd) := ⟨by decide +kernel, rfl⟩
theorem DX2_chainOf_23W : DD cX2_chainOf 23 1 24 (.baload) := ⟨by decide +kernel, rfl⟩
theorem DX2_chainOf_24W : DD cX2_chainOf 24 1 25 (.iadd) := ⟨by decide +kernel, rfl⟩
theorem DX2_chainOf_25W : DD cX2_chainOf 25 2 27 (.istore 5) := ⟨by decide +kernel, rfl⟩
theorem DX2_chainOf_27W : DD cX2_chainOf 27 3 30 (.iinc 6 1) := ⟨by decide +kernel, rfl⟩
theorem DX2_chainOf_30W : DD cX2_chainOf 30 3 33 (.goto (-24)) := ⟨by decide +kernel, rfl⟩
theorem DX2_chainOf_33W : DD cX2_chainOf 33 2 35 (.iload 5) := ⟨by decide +kernel, rfl⟩
theorem DX2_chainOf_35W : DD cX2_chainOf 35 2 37 (.iload 5) := ⟨by decide +kernel, rfl⟩
theorem DX2_chainOf_37W : DD cX2_chainOf 37 2 39 (.bipush 13) := ⟨by decide +kernel, rfl⟩
theorem DX2_chainOf_39W : DD cX2_chainOf 39 1 40 (.iushr) := ⟨by decide +kernel, rfl⟩
theorem DX2_chainOf_40W : DD cX2_chainOf 40 1 41 (.ixor) := ⟨by decide +kernel, rfl⟩
theorem DX2_chainOf_41W : DD cX2_chainOf 41 3 44 (.sipush 8191) := ⟨by decide +kernel, rfl⟩
theorem DX2_chainOf_44W : DD cX2_chainOf 44 1 45 (.iand) := ⟨by decide +kernel, rfl⟩
theorem DX2_chainOf_45W : DD cX2_chainOf 45 1 46 (.ireturn) := ⟨by decide +kernel, rfl⟩
theorem ucX2_chainOf_0W {E : XE} {d : Nat} {σ : Sto} {Q : Res → Sto → Prop} {x1 : Int} {o2 : Nat} {n2 : Nat} {x3 : Int} {x4 : Int} (hL : Lay σ) (ho2 : σ.sh o2 = (1, n2)) (h : VV E mX2_chainOf (d + 1) 6 [(2, aO o2), (3, aI (x3)), (4, aI (x4)), (5, aI (x1)), (6, aI (0))] [] σ Q) : VV E mX2_chainOf (d + 1) 0 [(0, aO 18), (1, aI (x1)), (2, aO o2), (3, aI (x3)), (4, aI (x4))] [] σ Q := by
  refine v_iload_n 1 DX2_chainOf_0W rfl rfl <| v_istore DX2_chainOf_1W (by decide) rfl <| v_iconst DX2_chainOf_3W <| v_istore DX2_chainOf_4W (by decide) rfl <| ?_
  exact v_pick [4, 5, 6, 1, 0] rfl h
theorem ucX2_chainOf_6W {E : XE} {d : Nat} {σ : Sto} {Q : Res → Sto → Prop} {o2 : Nat} {n2 : Nat} {x3 : Int} {x4 : Int} {x5 : Int} {x6 : Int} (hL : Lay σ) (ho2 : σ.sh o2 = (1, n2)) (h : inR x6 ∧ inR x4 ∧ (x4 ≤ x6 → Q (.inl (some (aI (b32and (b32xor x5 (b32ushr x5 13)) 8191)))) σ) ∧ (x6 < x4 → 0 ≤ (x3 + x6) ∧ (x3 + x6) < n2 ∧ (-128 ≤ σ.I o2 (x3 + x6) ∧ σ.I o2 (x3 + x6) ≤ 127 → VV E mX2_chainOf (d + 1) 6 [(2, aO o2), (3, aI (x3)), (4, aI (x4)), (5, aI ((31 * x5) + (σ.I o2 (x3 + x6)))), (6, aI (x6 + 1))] [] σ Q))) : VV E mX2_chainOf (d + 1) 6 [(2, aO o2), (3, aI (x3)), (4, aI (x4)), (5, aI (x5)), (6, aI (x6))] [] σ Q := by
  refine v_iload 4 DX2_chainOf_6W rfl <| v_iload 2 DX2_chainOf_8W rfl <| ?_
  obtain ⟨k1, k2, h⟩ := h
  refine v_icmp_ge (tg := 33) DX2_chainOf_10W (by decide) k1 k2 (fun c3 => ?_) (fun c3 => ?_)
  · have h := h.1 c3
    refine v_iload 3 DX2_chainOf_33W rfl <| v_iload 3 DX2_chainOf_35W rfl <| v_bipush DX2_chainOf_37W ⟨by decide, by decide⟩ <| v_iushr DX2_chainOf_39W <| v_ixor DX2_chainOf_40W <| v_sipush DX2_chainOf_41W ⟨by decide, by decide⟩ <| v_iand DX2_chainOf_44W <| ?_
    exact v_iret DX2_chainOf_45W rfl rfl h
  · have h := h.2 c3
    refine v_bipush DX2_chainOf_13W ⟨by decide, by decide⟩ <| v_iload 3 DX2_chainOf_15W rfl <| v_imul DX2_chainOf_17W <| v_aload_n 0 DX2_chainOf_18W rfl rfl <| v_iload_n 1 DX2_chainOf_19W rfl rfl <| v_iload 4 DX2_chainOf_20W rfl <| v_iadd DX2_chainOf_22W <| ?_
    obtain ⟨k4, k5, h⟩ := h
    refine v_bald DX2_chainOf_23W ho2 k4 k5 (fun f6 => ?_)
    have h := h f6
    refine v_iadd DX2_chainOf_24W <| v_istore DX2_chainOf_25W (by decide) rfl <| v_iinc 4 DX2_chainOf_27W rfl (by decide) rfl <| v_goto (pc' := 6) DX2_chainOf_30W.1 (by decide) <| ?_
    exact v_pick [2, 3, 4, 1, 0] rfl h
theorem sp_X2_chainOfW {E : XE} {d : Nat} {σ : Sto} {x1 : Int} {o2 : Nat} {n2 : Nat} {x3 : Int} {x4 : Int} (hd : 1 ≤ d) (hL : Lay σ) (ho2 : σ.sh o2 = (1, n2)) (p0 : 0 ≤ x3 ∧ 0 ≤ x4 ∧ x3 + x4 ≤ n2) (p1 : (n2 : Int) ≤ 1000000) : CC E mX2_chainOf d [aO 18, aI (x1), aO o2, aI (x3), aI (x4)] σ (RI σ (chO (σ.I o2) x3 x1 x4)) := by
  obtain ⟨d, rfl⟩ : ∃ e, d = e + 1 := ⟨d - 1, by omega⟩
  have key : ∀ wa wb wc : Nat, (∀ (x5 : Int) (x6 : Int), ((0 ≤ x6 ∧ x6 ≤ x4) ∧ (x5 = hsH (σ.I o2) x3 x1 x6)) → wa = (x4 - x6).toNat → wb = 0 → wc = 0 → VV E mX2_chainOf (d + 1) 6 [(2, aO o2), (3, aI (x3)), (4, aI (x4)), (5, aI (x5)), (6, aI (x6))] [] σ (RI σ (chO (σ.I o2) x3 x1 x4))) := by
    refine lex3 (fun wa wb wc ih => ?_)
    have ih0 : ∀ (x5 : Int) (x6 : Int), ((0 ≤ x6 ∧ x6 ≤ x4) ∧ (x5 = hsH (σ.I o2) x3 x1 x6)) → lt3 ((x4 - x6).toNat) 0 0 wa wb wc → VV E mX2_chainOf (d + 1) 6 [(2, aO o2), (3, aI (x3)), (4, aI (x4)), (5, aI (x5)), (6, aI (x6))] [] σ (RI σ (chO (σ.I o2) x3 x1 x4)) := fun z0 z1 h0 hlt => (ih _ _ _ hlt) z0 z1 h0 rfl rfl rfl
    clear ih
    skip
    · rintro x5 x6 ⟨i0, i1⟩ ha hb hc
      subst ha hb hc
      refine ucX2_chainOf_6W  hL ho2 ?_
      refine ⟨?_, ?_⟩
      · (first | exact ⟨by omega, by omega⟩ | (clear ih0; grind (splits := 16) (ematch := 30) (gen := 30) [-Prod, inR, inL, hsH_0, hsH_s, chO, = and8191]))
      refine ⟨?_, ?_⟩
      · (first | exact ⟨by omega, by omega⟩ | (clear ih0; grind (splits := 16) (ematch := 30) (gen := 30) [-Prod, inR, inL, hsH_0, hsH_s, chO, = and8191]))
      refine ⟨fun c1 => ?_, fun c2 => ?_⟩
      · refine RI_mk ?_ ?_
        · (first | omega | (clear ih0; grind (splits := 16) (ematch := 30) (gen := 30) [-Prod, inR, inL, hsH_0, hsH_s, chO, = and8191]))
        · (first | exact ⟨by omega, by omega⟩ | (clear ih0; grind (splits := 16) (ematch := 30) (gen := 30) [-Prod, inR, inL, hsH_0, hsH_s, chO, = and8191]))
      · refine ⟨?_, ?_⟩
        · (first | omega | (clear ih0; grind (splits := 16) (ematch := 30) (gen := 30) [-Prod, inR, inL, hsH_0, hsH_s, chO, = and8191]))
        refine ⟨?_, ?_⟩
        · (first | omega | (clear ih0; grind (splits := 16) (ematch := 30) (gen := 30) [-Prod, inR, inL, hsH_0, hsH_s, chO, = and8191]))
        rintro ⟨f3, f3q⟩
        refine ih0 _ _ ⟨?_, ?_⟩ ?_
        · (first | omega | (clear ih0; grind (splits := 16) (ematch := 30) (gen := 30) [-Prod, inR, inL, hsH_0, hsH_s, chO, = and8191]))
        · (first | omega | (clear ih0; grind (splits := 16) (ematch := 30) (gen := 30) [-Prod, inR, inL, hsH_0, hsH_s, chO, = and8191]))
        · (unfold lt3; first | omega | (clear ih0; grind (splits := 16) (ematch := 30) (gen := 30) [-Prod, inR, inL, hsH_0, hsH_s, chO, = and8191]))
  have k0_ : ∀ (x5 : Int) (x6 : Int), ((0 ≤ x6 ∧ x6 ≤ x4) ∧ (x5 = hsH (σ.I o2) x3 x1 x6)) → VV E mX2_chainOf (d + 1) 6 [(2, aO o2), (3, aI (x3)), (4, aI (x4)), (5, aI (x5)), (6, aI (x6))] [] σ (RI σ (chO (σ.I o2) x3 x1 x4)) := fun z0 z1 h0 => (key _ _ _) z0 z1 h0 rfl rfl rfl
  clear key
  refine ucX2_chainOf_0W  hL ho2 ?_
  refine k0_ _ _ ⟨?_, ?_⟩
  · (first | omega | (clear k0_; grind (splits := 16) (ematch := 30) (gen := 30) [-Prod, inR, inL, hsH_0, hsH_s, chO, = and8191]))
  · (first | omega | (clear k0_; grind (splits := 16) (ematch := 30) (gen := 30) [-Prod, inR, inL, hsH_0, hsH_s, chO, = and8191]))
theorem DX2_clear_0W : DD cX2_clear 0 1 1 (.iconst 0) := ⟨by decide +kernel, rfl⟩
theorem DX2_clear_1W : DD cX2_clear 1 1 2 (.istore_n 1) := ⟨by decide +kernel, rfl⟩
theorem DX2_clear_2W : DD cX2_clear 2 1 3 (.iload_n 1) := ⟨by decide +kernel, rfl⟩
theorem DX2_clear_3W : DD cX2_clear 3 1 4 (.aload_n 0) := ⟨by decide +kernel, rfl⟩
theorem DX2_clear_4W : DD cX2_clear 4 3 7 (.getfield 37) := ⟨by decide +kernel, rfl⟩
theorem DX2_clear_7W : DD cX2_clear 7 1 8 (.arraylength) := ⟨by decide +kernel, rfl⟩
theorem DX2_clear_8W : DD cX2_clear 8 3 11 (.if_icmp .ge 16) := ⟨by decide +kernel, rfl⟩
theorem DX2_clear_11W : DD cX2_clear 11 1 12 (.aload_n 0) := ⟨by decide +kernel, rfl⟩
theorem DX2_clear_12W : DD cX2_clear 12 3 15 (.getfield 37) := ⟨by decide +kernel, rfl⟩
theorem DX2_clear_15W : DD cX2_clear 15 1 16 (.iload_n 1) := ⟨by decide +kernel, rfl⟩
theorem DX2_clear_16W : DD cX2_clear 16 1 17 (.iconst (-1)) := ⟨by decide +kernel, rfl⟩
theorem DX2_clear_17W : DD cX2_clear 17 1 18 (.iastore) := ⟨by decide +kernel, rfl⟩
theorem DX2_clear_18W : DD cX2_clear 18 3 21 (.iinc 1 1) := ⟨by decide +kernel, rfl⟩
theorem DX2_clear_21W : DD cX2_clear 21 3 24 (.goto (-19)) := ⟨by decide +kernel, rfl⟩
theorem DX2_clear_24W : DD cX2_clear 24 1 25 (.aload_n 0) := ⟨by decide +kernel, rfl⟩
theorem DX2_clear_25W : DD cX2_clear 25 1 26 (.iconst 0) := ⟨by decide +kernel, rfl⟩
theorem DX2_clear_26W : DD cX2_clear 26 3 29 (.putfield 40) := ⟨by decide +kernel, rfl⟩
theorem DX2_clear_29W : DD cX2_clear 29 1 30 (.return_) := ⟨by decide +kernel, rfl⟩
theorem ucX2_clear_0W {E : XE} {d : Nat} {σ : Sto} {Q : Res → Sto → Prop}  (hL : Lay σ)  (h : VV E mX2_clear (d + 1) 2 [(0, aO 18), (1, aI (0))] [] σ Q) : VV E mX2_clear (d + 1) 0 [(0, aO 18)] [] σ Q := by
  refine v_iconst DX2_clear_0W <| v_istore_n DX2_clear_1W rfl (by decide) rfl <| ?_
  exact v_pick [1, 0] rfl h
theorem ucX2_clear_2W {E : XE} {d : Nat} {σ : Sto} {Q : Res → Sto → Prop} {x1 : Int} (hL : Lay σ)  (h : inR x1 ∧ (8192 ≤ x1 → (∀ σ3 : Sto, σ3 = σ.wI 18 7 0 → SF σ σ3 → Q (.inl none) σ3)) ∧ (x1 < 8192 → 0 ≤ x1 ∧ x1 < 8192 ∧ (∀ σ6 : Sto, σ6 = σ.wI 25 x1 (-1) → SF σ σ6 → VV E mX2_clear (d + 1) 2 [(0, aO 18), (1, aI (x1 + 1))] [] σ6 Q))) : VV E mX2_clear (d + 1) 2 [(0, aO 18), (1, aI (x1))] [] σ Q := by
  refine v_iload_n 1 DX2_clear_2W rfl rfl <| v_aload_n 0 DX2_clear_3W rfl rfl <| w_getR (ci := 2) (kf := 6) (kz := 6) DX2_clear_4W (s_18 hL) rfl (by decide) rfl (Or.inl q683) (fun _ _ => rfl) (r_18_6 hL) <| v_alen DX2_clear_7W (s_25 hL) (by decide) <| ?_
  obtain ⟨k1, h⟩ := h
  refine v_icmp_ge (tg := 24) DX2_clear_8W (by decide) k1 ⟨by decide, by decide⟩ (fun c2 => ?_) (fun c2 => ?_)
  · have h := h.1 c2
    refine v_aload_n 0 DX2_clear_24W rfl rfl <| v_iconst DX2_clear_25W <| ?_
    refine w_putI (ci := 2) (kf := 7) (kz := 7) DX2_clear_26W (s_18 hL) rfl (by decide) rfl (Or.inl ⟨rfl, q685⟩) (fun _ _ => rfl) ⟨by decide, by decide⟩ rfl rfl (fun σ3 eσ3 gσ3 => ?_)
    have h := h σ3 eσ3 gσ3
    exact v_vret DX2_clear_29W rfl h
  · have h := h.2 c2
    refine v_aload_n 0 DX2_clear_11W rfl rfl <| w_getR (ci := 2) (kf := 6) (kz := 6) DX2_clear_12W (s_18 hL) rfl (by decide) rfl (Or.inl q683) (fun _ _ => rfl) (r_18_6 hL) <| v_iload_n 1 DX2_clear_15W rfl rfl <| v_iconst DX2_clear_16W <| ?_
    obtain ⟨k4, k5, h⟩ := h
    refine w_iast DX2_clear_17W (s_25 hL) k4 k5 ⟨by decide, by decide⟩ (fun σ6 eσ6 gσ6 => ?_)
    have h := h σ6 eσ6 gσ6
    refine v_iinc 1 DX2_clear_18W rfl (by decide) rfl <| v_goto (pc' := 2) DX2_clear_21W.1 (by decide) <| ?_
    exact v_pick [1, 0] rfl h
theorem sp_X2_clearW {E : XE} {d : Nat} {σ : Sto}  (hd : 1 ≤ d) (hL : Lay σ)   : CC E mX2_clear d [aO 18] σ (RV (fun τ => RD σ τ (fun c i => if rg c i 25 0 8192 then -1 else if at2 c i 18 7 then 0 else σ.I c i))) := by
  obtain ⟨d, rfl⟩ : ∃ e, d = e + 1 := ⟨d - 1, by omega⟩
  have key : ∀ wa wb wc : Nat, (∀ (x1 : Int) (τ : Sto), SF σ τ → ((0 ≤ x1 ∧ x1 ≤ 8192) ∧ (RD σ τ (fun c i => if rg c i 25 0 x1 then -1 else σ.I c i))) → wa = (8192 - x1).toNat → wb = 0 → wc = 0 → VV E mX2_clear (d + 1) 2 [(0, aO 18), (1, aI (x1))] [] τ (RV (fun τ => RD σ τ (fun c i => if rg c i 25 0 8192 then -1 else if at2 c i 18 7 then 0 else σ.I c i)))) := by
    refine lex3 (fun wa wb wc ih => ?_)
    have ih0 : ∀ (x1 : Int) (τ : Sto), SF σ τ → ((0 ≤ x1 ∧ x1 ≤ 8192) ∧ (RD σ τ (fun c i => if rg c i 25 0 x1 then -1 else σ.I c i))) → lt3 ((8192 - x1).toNat) 0 0 wa wb wc → VV E mX2_clear (d + 1) 2 [(0, aO 18), (1, aI (x1))] [] τ (RV (fun τ => RD σ τ (fun c i => if rg c i 25 0 8192 then -1 else if at2 c i 18 7 then 0 else σ.I c i))) := fun z0 z1 h0 h1 hlt => (ih _ _ _ hlt) z0 z1 h0 h1 rfl rfl rfl
    clear ih
    skip
    · rintro x1 τ gτ ⟨i0, ⟨⟨i1r, i1s, i1n⟩, i1⟩⟩ ha hb hc
      subst ha hb hc
      refine ucX2_clear_2W  (hL.sf gτ)  ?_
      refine ⟨?_, ?_⟩
      · (first | exact ⟨by omega, by omega⟩ | (clear ih0; grind (splits := 16) (ematch := 30) (gen := 30) [-Prod, inR, inL, = fI_wI, = R_wI, = sh_wI, = n_wI]))
      refine ⟨fun c1 => ?_, fun c2 => ?_⟩
      · intro σ3 eσ3 gσ3
        refine RV_mk ?_
        · (clear ih0; refine ⟨⟨?_, ?_, ?_⟩, funext fun c => funext fun i => ?_⟩ <;> grind (splits := 16) (ematch := 30) (gen := 30) [-Prod, inR, inL, = fI_wI, = R_wI, = sh_wI, = n_wI])
      · refine ⟨?_, ?_⟩
        · (first | omega | (clear ih0; grind (splits := 16) (ematch := 30) (gen := 30) [-Prod, inR, inL, = fI_wI, = R_wI, = sh_wI, = n_wI]))
        refine ⟨?_, ?_⟩
        · (first | omega | (clear ih0; grind (splits := 16) (ematch := 30) (gen := 30) [-Prod, inR, inL, = fI_wI, = R_wI, = sh_wI, = n_wI]))
        intro σ6 eσ6 gσ6
        refine ih0 _ _ (gτ.tr gσ6) ⟨?_, ?_⟩ ?_
        · (first | omega | (clear ih0; grind (splits := 16) (ematch := 30) (gen := 30) [-Prod, inR, inL, = fI_wI, = R_wI, = sh_wI, = n_wI]))
        · (clear ih0; refine ⟨⟨?_, ?_, ?_⟩, funext fun c => funext fun i => ?_⟩ <;> grind (splits := 16) (ematch := 30) (gen := 30) [-Prod, inR, inL, = fI_wI, = R_wI, = sh_wI, = n_wI])
        · (unfold lt3; first | omega | (clear ih0; grind (splits := 16) (ematch := 30) (gen := 30) [-Prod, inR, inL, = fI_wI, = R_wI, = sh_wI, = n_wI]))
  have k0_ : ∀ (x1 : Int) (τ : Sto), SF σ τ → ((0 ≤ x1 ∧ x1 ≤ 8192) ∧ (RD σ τ (fun c i => if rg c i 25 0 x1 then -1 else σ.I c i))) → VV E mX2_clear (d + 1) 2 [(0, aO 18), (1, aI (x1))] [] τ (RV (fun τ => RD σ τ (fun c i => if rg c i 25 0 8192 then -1 else if at2 c i 18 7 then 0 else σ.I c i))) := fun z0 z1 h0 h1 => (key _ _ _) z0 z1 h0 h1 rfl rfl rfl
  clear key
  refine ucX2_clear_0W  hL  ?_
  refine k0_ _ _ SF.rf ⟨?_, ?_⟩
  · (first | omega | (clear k0_; grind (splits := 16) (ematch := 30) (gen := 30) [-Prod, inR, inL, = fI_wI, = R_wI, = sh_wI, = n_wI]))
  · (clear k0_; refine ⟨⟨?_, ?_, ?_⟩, funext fun c => funext fun i => ?_⟩ <;> grind (splits := 16) (ematch := 30) (gen := 30) [-Prod, inR, inL, = fI_wI, = R_wI, = sh_wI, = n_wI])
theorem DX2_is_0W : DD cX2_is 0 1 1 (.aload_n 0) := ⟨by decide +kernel, rfl⟩
theorem DX2_is_1W : DD cX2_is 1 3 4 (.getfield 21) := ⟨by decide +kernel, rfl⟩
theorem DX2_is_4W : DD cX2_is 4 1 5 (.iload_n 1) := ⟨by decide +kernel, rfl⟩
theorem DX2_is_5W : DD cX2_is 5 1 6 (.baload) := ⟨by decide +kernel, rfl⟩
theorem DX2_is_6W : DD cX2_is 6 1 7 (.iload_n 2) := ⟨by decide +kernel, rfl⟩
theorem DX2_is_7W : DD cX2_is 7 3 10 (.if_icmp .ne 18) := ⟨by decide +kernel, rfl⟩
theorem DX2_is_10W : DD cX2_is 10 1 11 (.aload_n 0) := ⟨by decide +kernel, rfl⟩
theorem DX2_is_11W : DD cX2_is 11 3 14 (.getfield 24) := ⟨by decide +kernel, rfl⟩
theorem DX2_is_14W : DD cX2_is 14 1 15 (.iload_n 1) := ⟨by decide +kernel, rfl⟩
theorem DX2_is_15W : DD cX2_is 15 1 16 (.baload) := ⟨by decide +kernel, rfl⟩
theorem DX2_is_16W : DD cX2_is 16 2 18 (.iload 5) := ⟨by decide +kernel, rfl⟩
theorem DX2_is_18W : DD cX2_is 18 3 21 (.if_icmp .ne 7) := ⟨by decide +kernel, rfl⟩
theorem DX2_is_21W : DD cX2_is 21 1 22 (.iconst 1) := ⟨by decide +kernel, rfl⟩
theorem DX2_is_22W : DD cX2_is 22 3 25 (.goto 4) := ⟨by decide +kernel, rfl⟩
theorem DX2_is_25W : DD cX2_is 25 1 26 (.iconst 0) := ⟨by decide +kernel, rfl⟩
theorem DX2_is_26W : DD cX2_is 26 2 28 (.istore 6) := ⟨by decide +kernel, rfl⟩
theorem DX2_is_28W : DD cX2_is 28 1 29 (.iconst 0) := ⟨by decide +kernel, rfl⟩
theorem DX2_is_29W : DD cX2_is 29 2 31 (.istore 7) := ⟨by decide +kernel, rfl⟩
theorem DX2_is_31W : DD cX2_is 31 2 33 (.iload 7) := ⟨by decide +kernel, rfl⟩
theorem DX2_is_33W : DD cX2_is 33 2 35 (.iload 5) := ⟨by decide +kernel, rfl⟩
theorem DX2_is_35W : DD cX2_is 35 3 38 (.if_icmp .ge 43) := ⟨by decide +kernel, rfl⟩
theorem DX2_is_38W : DD cX2_is 38 2 40 (.iload 6) := ⟨by decide +kernel, rfl⟩
theorem DX2_is_40W : DD cX2_is 40 3 43 (.ifCond .eq 38) := ⟨by decide +kernel, rfl⟩
theorem DX2_is_43W : DD cX2_is 43 1 44 (.aload_n 0) := ⟨by decide +kernel, rfl⟩
theorem DX2_is_44W : DD cX2_is 44 3 47 (.getfield 16) := ⟨by decide +kernel, rfl⟩
theorem DX2_is_47W : DD cX2_is 47 2 49 (.bipush 20) := ⟨by decide +kernel, rfl⟩
theorem DX2_is_49W : DD cX2_is 49 1 50 (.iload_n 1) := ⟨by decide +kernel, rfl⟩
theorem DX2_is_50W : DD cX2_is 50 1 51 (.imul) := ⟨by decide +kernel, rfl⟩
theorem DX2_is_51W : DD cX2_is 51 2 53 (.iload 7) := ⟨by decide +kernel, rfl⟩
theorem DX2_is_53W : DD cX2_is 53 1 54 (.iadd) := ⟨by decide +kernel, rfl⟩
theorem DX2_is_54W : DD cX2_is 54 1 55 (.baload) := ⟨by decide +kernel, rfl⟩
theorem DX2_is_55W : DD cX2_is 55 1 56 (.aload_n 3) := ⟨by decide +kernel, rfl⟩
theorem DX2_is_56W : DD cX2_is 56 2 58 (.iload 4) := ⟨by decide +kernel, rfl⟩
theorem DX2_is_58W : DD cX2_is 58 2 60 (.iload 7) := ⟨by decide +kernel, rfl⟩
theorem DX2_is_60W : DD cX2_is 60 1 61 (.iadd) := ⟨by decide +kernel, rfl⟩
theorem DX2_is_61W : DD cX2_is 61 1 62 (.baload) := ⟨by decide +kernel, rfl⟩
theorem DX2_is_62W : DD cX2_is 62 3 65 (.if_icmp .ne 7) := ⟨by decide +kernel, rfl⟩
theorem DX2_is_65W : DD cX2_is 65 1 66 (.iconst 1) := ⟨by decide +kernel, rfl⟩
theorem DX2_is_66W : DD cX2_is 66 3 69 (.goto 4) := ⟨by decide +kernel, rfl⟩
theorem DX2_is_69W : DD cX2_is 69 1 70 (.iconst 0) := ⟨by decide +kernel, rfl⟩
theorem DX2_is_70W : DD cX2_is 70 2 72 (.istore 6) := ⟨by decide +kernel, rfl⟩
theorem DX2_is_72W : DD cX2_is 72 3 75 (.iinc 7 1) := ⟨by decide +kernel, rfl⟩
theorem DX2_is_75W : DD cX2_is 75 3 78 (.goto (-44)) := ⟨by decide +kernel, rfl⟩
theorem DX2_is_78W : DD cX2_is 78 2 80 (.iload 6) := ⟨by decide +kernel, rfl⟩
theorem DX2_is_80W : DD cX2_is 80 1 81 (.ireturn) := ⟨by decide +kernel, rfl⟩
theorem ucX2_is_0W {E : XE} {d : Nat} {σ : Sto} {Q : Res → Sto → Prop} {x1 : Int} {x2 : Int} {o3 : Nat} {n3 : Nat} {x4 : Int} {x5 : Int} (hL : Lay σ) (ho3 : σ.sh o3 = (1, n3)) (h : 0 ≤ x1 ∧ x1 < 36500 ∧ (-128 ≤ σ.I 20 x1 ∧ σ.I 20 x1 ≤ 127 → inR x2 ∧ ((σ.I 20 x1) ≠ x2 → VV E mX2_is (d + 1) 31 [(0, aO 18), (1, aI (x1)), (3, aO o3), (4, aI (x4)), (5, aI (x5)), (6, aI (0)), (7, aI (0))] [] σ Q) ∧ ((σ.I 20 x1) = x2 → 0 ≤ x1 ∧ x1 < 36500 ∧ (-128 ≤ σ.I 21 x1 ∧ σ.I 21 x1 ≤ 127 → inR x5 ∧ ((σ.I 21 x1) ≠ x5 → VV E mX2_is (d + 1) 31 [(0, aO 18), (1, aI (x1)), (3, aO o3), (4, aI (x4)), (5, aI (x5)), (6, aI (0)), (7, aI (0))] [] σ Q) ∧ ((σ.I 21 x1) = x5 → VV E mX2_is (d + 1) 31 [(0, aO 18), (1, aI (x1)), (3, aO o3), (4, aI (x4)), (5, aI (x5)), (6, aI (1)), (7, aI (0))] [] σ Q))))) : VV E mX2_is (d + 1) 0 [(0, aO 18), (1, aI (x1)), (2, aI (x2)), (3, aO o3), (4, aI (x4)), (5, aI (x5))] [] σ Q := by
  refine v_aload_n 0 DX2_is_0W rfl rfl <| w_getR (ci := 2) (kf := 1) (kz := 1) DX2_is_1W (s_18 hL) rfl (by decide) rfl (Or.inl q669) (fun _ _ => rfl) (r_18_1 hL) <| v_iload_n 1 DX2_is_4W rfl rfl <| ?_
  obtain ⟨k1, k2, h⟩ := h
  refine v_bald DX2_is_5W (s_20 hL) k1 k2 (fun f3 => ?_)
  have h := h f3
  refine v_iload_n 2 DX2_is_6W rfl rfl <| ?_
  obtain ⟨k4, h⟩ := h
  refine v_icmp_ne (tg := 25) DX2_is_7W (by decide) (inR_b f3) k4 (fun c5 => ?_) (fun c5 => ?_)
  · have h := h.1 c5
    refine v_iconst DX2_is_25W <| v_istore DX2_is_26W (by decide) rfl <| v_iconst DX2_is_28W <| v_istore DX2_is_29W (by decide) rfl <| ?_
    exact v_pick [2, 3, 5, 6, 7, 1, 0] rfl h
  · have h := h.2 c5
    refine v_aload_n 0 DX2_is_10W rfl rfl <| w_getR (ci := 2) (kf := 2) (kz := 2) DX2_is_11W (s_18 hL) rfl (by decide) rfl (Or.inl q673) (fun _ _ => rfl) (r_18_2 hL) <| v_iload_n 1 DX2_is_14W rfl rfl <| ?_
    obtain ⟨k6, k7, h⟩ := h
    refine v_bald DX2_is_15W (s_21 hL) k6 k7 (fun f8 => ?_)
    have h := h f8
    refine v_iload 5 DX2_is_16W rfl <| ?_
    obtain ⟨k9, h⟩ := h
    refine v_icmp_ne (tg := 25) DX2_is_18W (by decide) (inR_b f8) k9 (fun c10 => ?_) (fun c10 => ?_)
    · have h := h.1 c10
      refine v_iconst DX2_is_25W <| v_istore DX2_is_26W (by decide) rfl <| v_iconst DX2_is_28W <| v_istore DX2_is_29W (by decide) rfl <| ?_
      exact v_pick [2, 3, 5, 6, 7, 1, 0] rfl h
    · have h := h.2 c10
      refine v_iconst DX2_is_21W <| v_goto (pc' := 26) DX2_is_22W.1 (by decide) <| v_istore DX2_is_26W (by decide) rfl <| v_iconst DX2_is_28W <| v_istore DX2_is_29W (by decide) rfl <| ?_
      exact v_pick [2, 3, 5, 6, 7, 1, 0] rfl h
theorem ucX2_is_31W {E : XE} {d : Nat} {σ : Sto} {Q : Res → Sto → Prop} {x1 : Int} {o3 : Nat} {n3 : Nat} {x4 : Int} {x5 : Int} {x6 : Int} {x7 : Int} (hL : Lay σ) (ho3 : σ.sh o3 = (1, n3)) (h : inR x7 ∧ inR x5 ∧ (x5 ≤ x7 → (0 ≤ x6 ∧ x6 ≤ 1) ∧ Q (.inl (some (aI x6))) σ) ∧ (x7 < x5 → inR x6 ∧ (x6 = 0 → (0 ≤ x6 ∧ x6 ≤ 1) ∧ Q (.inl (some (aI x6))) σ) ∧ (x6 ≠ 0 → 0 ≤ ((20 * x1) + x7) ∧ ((20 * x1) + x7) < 730000 ∧ (-128 ≤ σ.I 19 ((20 * x1) + x7) ∧ σ.I 19 ((20 * x1) + x7) ≤ 127 → 0 ≤ (x4 + x7) ∧ (x4 + x7) < n3 ∧ (-128 ≤ σ.I o3 (x4 + x7) ∧ σ.I o3 (x4 + x7) ≤ 127 → ((σ.I 19 ((20 * x1) + x7)) ≠ (σ.I o3 (x4 + x7)) → VV E mX2_is (d + 1) 31 [(0, aO 18), (1, aI (x1)), (3, aO o3), (4, aI (x4)), (5, aI (x5)), (6, aI (0)), (7, aI (x7 + 1))] [] σ Q) ∧ ((σ.I 19 ((20 * x1) + x7)) = (σ.I o3 (x4 + x7)) → VV E mX2_is (d + 1) 31 [(0, aO 18), (1, aI (x1)), (3, aO o3), (4, aI (x4)), (5, aI (x5)), (6, aI (1)), (7, aI (x7 + 1))] [] σ Q)))))) : VV E mX2_is (d + 1) 31 [(0, aO 18), (1, aI (x1)), (3, aO o3), (4, aI (x4)), (5, aI (x5)), (6, aI (x6)), (7, aI (x7))] [] σ Q := by
  refine v_iload 6 DX2_is_31W rfl <| v_iload 4 DX2_is_33W rfl <| ?_
  obtain ⟨k1, k2, h⟩ := h
  refine v_icmp_ge (tg := 78) DX2_is_35W (by decide) k1 k2 (fun c3 => ?_) (fun c3 => ?_)
  · have h := h.1 c3
    refine v_iload 5 DX2_is_78W rfl <| ?_
    obtain ⟨k4, h⟩ := h
    exact v_iret DX2_is_80W rfl (narZ k4) h
  · have h := h.2 c3
    refine v_iload 5 DX2_is_38W rfl <| ?_
    obtain ⟨k5, h⟩ := h
    refine v_if_eq (tg := 78) DX2_is_40W (by decide) k5 (fun c6 => ?_) (fun c6 => ?_)
    · have h := h.1 c6
      refine v_iload 5 DX2_is_78W rfl <| ?_
      obtain ⟨k7, h⟩ := h
      exact v_iret DX2_is_80W rfl (narZ k7) h
    · have h := h.2 c6
      refine v_aload_n 0 DX2_is_43W rfl rfl <| w_getR (ci := 2) (kf := 0) (kz := 0) DX2_is_44W (s_18 hL) rfl (by decide) rfl (Or.inl q666) (fun _ _ => rfl) (r_18_0 hL) <| v_bipush DX2_is_47W ⟨by decide, by decide⟩ <| v_iload_n 1 DX2_is_49W rfl rfl <| v_imul DX2_is_50W <| v_iload 6 DX2_is_51W rfl <| v_iadd DX2_is_53W <| ?_
      obtain ⟨k8, k9, h⟩ := h
      refine v_bald DX2_is_54W (s_19 hL) k8 k9 (fun f10 => ?_)
      have h := h f10
      refine v_aload_n 2 DX2_is_55W rfl rfl <| v_iload 3 DX2_is_56W rfl <| v_iload 6 DX2_is_58W rfl <| v_iadd DX2_is_60W <| ?_
      obtain ⟨k11, k12, h⟩ := h
      refine v_bald DX2_is_61W ho3 k11 k12 (fun f13 => ?_)
      have h := h f13
      refine v_icmp_ne (tg := 69) DX2_is_62W (by decide) (inR_b f10) (inR_b f13) (fun c14 => ?_) (fun c14 => ?_)
      · have h := h.1 c14
        refine v_iconst DX2_is_69W <| v_istore DX2_is_70W (by decide) rfl <| v_iinc 6 DX2_is_72W rfl (by decide) rfl <| v_goto (pc' := 31) DX2_is_75W.1 (by decide) <| ?_
        exact v_pick [2, 3, 4, 5, 6, 1, 0] rfl h
      · have h := h.2 c14
        refine v_iconst DX2_is_65W <| v_goto (pc' := 70) DX2_is_66W.1 (by decide) <| v_istore DX2_is_70W (by decide) rfl <| v_iinc 6 DX2_is_72W rfl (by decide) rfl <| v_goto (pc' := 31) DX2_is_75W.1 (by decide) <| ?_
        exact v_pick [2, 3, 4, 5, 6, 1, 0] rfl h
theorem sp_X2_isW {E : XE} {d : Nat} {σ : Sto} {x1 : Int} {x2 : Int} {o3 : Nat} {n3 : Nat} {x4 : Int} {x5 : Int} (hd : 1 ≤ d) (hL : Lay σ) (ho3 : σ.sh o3 = (1, n3)) (p0 : 0 ≤ x1 ∧ x1 < 36500) (p1 : inR x2) (p2 : 0 ≤ x4 ∧ 0 ≤ x5 ∧ x5 ≤ 20 ∧ x4 + x5 ≤ n3) (p3 : (n3 : Int) ≤ 1000000) : CC E mX2_is d [aO 18, aI (x1), aI (x2), aO o3, aI (x4), aI (x5)] σ (RZ σ ((σ.I 20 x1 = x2 ∧ σ.I 21 x1 = x5) ∧ eqA (σ.I 19) (σ.I o3) (20 * x1) x4 x5)) := by
  obtain ⟨d, rfl⟩ : ∃ e, d = e + 1 := ⟨d - 1, by omega⟩
  have p1a := p1.1; have p1b := p1.2
  have key : ∀ wa wb wc : Nat, (∀ (x6 : Int) (x7 : Int), ((0 ≤ x7 ∧ x7 ≤ x5) ∧ (0 ≤ x6 ∧ x6 ≤ 1) ∧ (x6 = 1 ↔ (σ.I 20 x1 = x2 ∧ σ.I 21 x1 = x5) ∧ eqA (σ.I 19) (σ.I o3) (20 * x1) x4 x7)) → wa = (x5 - x7).toNat → wb = 0 → wc = 0 → VV E mX2_is (d + 1) 31 [(0, aO 18), (1, aI (x1)), (3, aO o3), (4, aI (x4)), (5, aI (x5)), (6, aI (x6)), (7, aI (x7))] [] σ (RZ σ ((σ.I 20 x1 = x2 ∧ σ.I 21 x1 = x5) ∧ eqA (σ.I 19) (σ.I o3) (20 * x1) x4 x5))) := by
    refine lex3 (fun wa wb wc ih => ?_)
    have ih0 : ∀ (x6 : Int) (x7 : Int), ((0 ≤ x7 ∧ x7 ≤ x5) ∧ (0 ≤ x6 ∧ x6 ≤ 1) ∧ (x6 = 1 ↔ (σ.I 20 x1 = x2 ∧ σ.I 21 x1 = x5) ∧ eqA (σ.I 19) (σ.I o3) (20 * x1) x4 x7)) → lt3 ((x5 - x7).toNat) 0 0 wa wb wc → VV E mX2_is (d + 1) 31 [(0, aO 18), (1, aI (x1)), (3, aO o3), (4, aI (x4)), (5, aI (x5)), (6, aI (x6)), (7, aI (x7))] [] σ (RZ σ ((σ.I 20 x1 = x2 ∧ σ.I 21 x1 = x5) ∧ eqA (σ.I 19) (σ.I o3) (20 * x1) x4 x5)) := fun z0 z1 h0 hlt => (ih _ _ _ hlt) z0 z1 h0 rfl rfl rfl
    clear ih
    skip
    · rintro x6 x7 ⟨i0, i1, i2⟩ ha hb hc
      subst ha hb hc
      refine ucX2_is_31W  hL ho3 ?_
      refine ⟨?_, ?_⟩
      · (first | exact ⟨by omega, by omega⟩ | (clear ih0; grind (splits := 16) (ematch := 30) (gen := 30) [-Prod, inR, inL, eqA, alN_0, alN_s, alN_m]))
      refine ⟨?_, ?_⟩
      · (first | exact ⟨by omega, by omega⟩ | (clear ih0; grind (splits := 16) (ematch := 30) (gen := 30) [-Prod, inR, inL, eqA, alN_0, alN_s, alN_m]))
      refine ⟨fun c1 => ?_, fun c2 => ?_⟩
      · refine ⟨?_, ?_⟩
        · (first | omega | (clear ih0; grind (splits := 16) (ematch := 30) (gen := 30) [-Prod, inR, inL, eqA, alN_0, alN_s, alN_m]))
        refine RZ_mk ?_ ?_
        · (first | omega | (clear ih0; grind (splits := 16) (ematch := 30) (gen := 30) [-Prod, inR, inL, eqA, alN_0, alN_s, alN_m]))
        · (first | omega | (clear ih0; grind (splits := 16) (ematch := 30) (gen := 30) [-Prod, inR, inL, eqA, alN_0, alN_s, alN_m]))
      · refine ⟨?_, ?_⟩
        · (first | exact ⟨by omega, by omega⟩ | (clear ih0; grind (splits := 16) (ematch := 30) (gen := 30) [-Prod, inR, inL, eqA, alN_0, alN_s, alN_m]))
        refine ⟨fun c3 => ?_, fun c4 => ?_⟩
        · refine ⟨?_, ?_⟩
          · (first | omega | (clear ih0; grind (splits := 16) (ematch := 30) (gen := 30) [-Prod, inR, inL, eqA, alN_0, alN_s, alN_m]))
          refine RZ_mk ?_ ?_
          · (first | omega | (clear ih0; grind (splits := 16) (ematch := 30) (gen := 30) [-Prod, inR, inL, eqA, alN_0, alN_s, alN_m]))
          · (first | omega | (clear ih0; grind (splits := 16) (ematch := 30) (gen := 30) [-Prod, inR, inL, eqA, alN_0, alN_s, alN_m]))
        · refine ⟨?_, ?_⟩
          · (first | omega | (clear ih0; grind (splits := 16) (ematch := 30) (gen := 30) [-Prod, inR, inL, eqA, alN_0, alN_s, alN_m]))
          refine ⟨?_, ?_⟩
          · (first | omega | (clear ih0; grind (splits := 16) (ematch := 30) (gen := 30) [-Prod, inR, inL, eqA, alN_0, alN_s, alN_m]))
          rintro ⟨f5, f5q⟩
          refine ⟨?_, ?_⟩
          · (first | omega | (clear ih0; grind (splits := 16) (ematch := 30) (gen := 30) [-Prod, inR, inL, eqA, alN_0, alN_s, alN_m]))
          refine ⟨?_, ?_⟩
          · (first | omega | (clear ih0; grind (splits := 16) (ematch := 30) (gen := 30) [-Prod, inR, inL, eqA, alN_0, alN_s, alN_m]))
          rintro ⟨f6, f6q⟩
          refine ⟨fun c7 => ?_, fun c8 => ?_⟩
          · refine ih0 _ _ ⟨?_, ?_, ?_⟩ ?_
            · (first | omega | (clear ih0; grind (splits := 16) (ematch := 30) (gen := 30) [-Prod, inR, inL, eqA, alN_0, alN_s, alN_m]))
            · (first | omega | (clear ih0; grind (splits := 16) (ematch := 30) (gen := 30) [-Prod, inR, inL, eqA, alN_0, alN_s, alN_m]))
            · (first | omega | (clear ih0; grind (splits := 16) (ematch := 30) (gen := 30) [-Prod, inR, inL, eqA, alN_0, alN_s, alN_m]))
            · (unfold lt3; first | omega | (clear ih0; grind (splits := 16) (ematch := 30) (gen := 30) [-Prod, inR, inL, eqA, alN_0, alN_s, alN_m]))
          · refine ih0 _ _ ⟨?_, ?_, ?_⟩ ?_
            · (first | omega | (clear ih0; grind (splits := 16) (ematch := 30) (gen := 30) [-Prod, inR, inL, eqA, alN_0, alN_s, alN_m]))
            · (first | omega | (clear ih0; grind (splits := 16) (ematch := 30) (gen := 30) [-Prod, inR, inL, eqA, alN_0, alN_s, alN_m]))
            · (first | omega | (clear ih0; grind (splits := 16) (ematch := 30) (gen := 30) [-Prod, inR, inL, eqA, alN_0, alN_s, alN_m]))
            · (unfold lt3; first | omega | (clear ih0; grind (splits := 16) (ematch := 30) (gen := 30) [-Prod, inR, inL, eqA, alN_0, alN_s, alN_m]))
  have k0_ : ∀ (x6 : Int) (x7 : Int), ((0 ≤ x7 ∧ x7 ≤ x5) ∧ (0 ≤ x6 ∧ x6 ≤ 1) ∧ (x6 = 1 ↔ (σ.I 20 x1 = x2 ∧ σ.I 21 x1 = x5) ∧ eqA (σ.I 19) (σ.I o3) (20 * x1) x4 x7)) → VV E mX2_is (d + 1) 31 [(0, aO 18), (1, aI (x1)), (3, aO o3), (4, aI (x4)), (5, aI (x5)), (6, aI (x6)), (7, aI (x7))] [] σ (RZ σ ((σ.I 20 x1 = x2 ∧ σ.I 21 x1 = x5) ∧ eqA (σ.I 19) (σ.I o3) (20 * x1) x4 x5)) := fun z0 z1 h0 => (key _ _ _) z0 z1 h0 rfl rfl rfl
  clear key
  refine ucX2_is_0W  hL ho3 ?_
  refine ⟨?_, ?_⟩
  · (first | omega | (clear k0_; grind (splits := 16) (ematch := 30) (gen := 30) [-Prod, inR, inL, eqA, alN_0, alN_s, alN_m]))
  refine ⟨?_, ?_⟩
  · (first | omega | (clear k0_; grind (splits := 16) (ematch := 30) (gen := 30) [-Prod, inR, inL, eqA, alN_0, alN_s, alN_m]))
  rintro ⟨f1, f1q⟩
  refine ⟨?_, ?_⟩
  · (first | exact ⟨by omega, by omega⟩ | (clear k0_; grind (splits := 16) (ematch := 30) (gen := 30) [-Prod, inR, inL, eqA, alN_0, alN_s, alN_m]))
  refine ⟨fun c2 => ?_, fun c3 => ?_⟩
  · refine k0_ _ _ ⟨?_, ?_, ?_⟩
    · (first | omega | (clear k0_; grind (splits := 16) (ematch := 30) (gen := 30) [-Prod, inR, inL, eqA, alN_0, alN_s, alN_m]))
    · (first | omega | (clear k0_; grind (splits := 16) (ematch := 30) (gen := 30) [-Prod, inR, inL, eqA, alN_0, alN_s, alN_m]))
    · (first | omega | (clear k0_; grind (splits := 16) (ematch := 30) (gen := 30) [-Prod, inR, inL, eqA, alN_0, alN_s, alN_m]))
  · refine ⟨?_, ?_⟩
    · (first | omega | (clear k0_; grind (splits := 16) (ematch := 30) (gen := 30) [-Prod, inR, inL, eqA, alN_0, alN_s, alN_m]))
    refine ⟨?_, ?_⟩
    · (first | omega | (clear k0_; grind (splits := 16) (ematch := 30) (gen := 30) [-Prod, inR, inL, eqA, alN_0, alN_s, alN_m]))
    rintro ⟨f4, f4q⟩
    refine ⟨?_, ?_⟩
    · (first | exact ⟨by omega, by omega⟩ | (clear k0_; grind (splits := 16) (ematch := 30) (gen := 30) [-Prod, inR, inL, eqA, alN_0, alN_s, alN_m]))
    refine ⟨fun c5 => ?_, fun c6 => ?_⟩
    · refine k0_ _ _ ⟨?_, ?_, ?_⟩
      · (first | omega | (clear k0_; grind (splits := 16) (ematch := 30) (gen := 30) [-Prod, inR, inL, eqA, alN_0, alN_s, alN_m]))
      · (first | omega | (clear k0_; grind (splits := 16) (ematch := 30) (gen := 30) [-Prod, inR, inL, eqA, alN_0, alN_s, alN_m]))
      · (first | omega | (clear k0_; grind (splits := 16) (ematch := 30) (gen := 30) [-Prod, inR, inL, eqA, alN_0, alN_s, alN_m]))
    · refine k0_ _ _ ⟨?_, ?_, ?_⟩
      · (first | omega | (clear k0_; grind (splits := 16) (ematch := 30) (gen := 30) [-Prod, inR, inL, eqA, alN_0, alN_s, alN_m]))
      · (first | omega | (clear k0_; grind (splits := 16) (ematch := 30) (gen := 30) [-Prod, inR, inL, eqA, alN_0, alN_s, alN_m]))
      · (first | omega | (clear k0_; grind (splits := 16) (ematch := 30) (gen := 30) [-Prod, inR, inL, eqA, alN_0, alN_s, alN_m]))
