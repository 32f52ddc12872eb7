set_option maxRecDepth 100000
set_option maxHeartbeats 1200000
theorem DX9_facet_0W : DD cX9_facet 0 1 1 (.aload_n 0) := ⟨by decide +kernel, rfl⟩
theorem DX9_facet_1W : DD cX9_facet 1 1 2 (.iload_n 1) := ⟨by decide +kernel, rfl⟩
theorem DX9_facet_2W : DD cX9_facet 2 1 3 (.iconst 1) := ⟨by decide +kernel, rfl⟩
theorem DX9_facet_3W : DD cX9_facet 3 3 6 (.invokevirtual 583) := ⟨by decide +kernel, rfl⟩
theorem DX9_facet_6W : DD cX9_facet 6 3 9 (.ifCond .ne 5) := ⟨by decide +kernel, rfl⟩
theorem DX9_facet_9W : DD cX9_facet 9 1 10 (.iconst (-1)) := ⟨by decide +kernel, rfl⟩
theorem DX9_facet_10W : DD cX9_facet 10 1 11 (.ireturn) := ⟨by decide +kernel, rfl⟩
theorem DX9_facet_11W : DD cX9_facet 11 1 12 (.aload_n 0) := ⟨by decide +kernel, rfl⟩
theorem DX9_facet_12W : DD cX9_facet 12 1 13 (.iload_n 1) := ⟨by decide +kernel, rfl⟩
theorem DX9_facet_13W : DD cX9_facet 13 1 14 (.lconst 0) := ⟨by decide +kernel, rfl⟩
theorem DX9_facet_14W : DD cX9_facet 14 3 17 (.invokevirtual 1048) := ⟨by decide +kernel, rfl⟩
theorem DX9_facet_17W : DD cX9_facet 17 1 18 (.aload_n 0) := ⟨by decide +kernel, rfl⟩
theorem DX9_facet_18W : DD cX9_facet 18 3 21 (.getfield 957) := ⟨by decide +kernel, rfl⟩
theorem DX9_facet_21W : DD cX9_facet 21 1 22 (.ireturn) := ⟨by decide +kernel, rfl⟩
theorem ucX9_facet_0W {E : XE} {d : Nat} {σ : Sto} {Q : Res → Sto → Prop} {x1 : Int} (hL : Lay σ)  (h : 2 ≤ d ∧ (inR x1) ∧ (inR (1 : Int)) ∧ (0 ≤ σ.I 555 27 ∧ σ.I 555 27 ≤ 12) ∧ (((0 ≤ x1 ∧ x1 < σ.I 555 27) ∧ σ.I 577 x1 = (1 : Int)) → 5 ≤ d ∧ (0 ≤ x1 ∧ x1 < 12) ∧ (0 ≤ (0 : Int) ∧ inL (0 : Int)) ∧ (0 ≤ σ.I 555 115 ∧ σ.I 555 115 ≤ 600) ∧ (∀ k, 0 ≤ k → k < σ.I 555 115 → 0 ≤ σ.I 637 k ∧ σ.I 637 k < 601) ∧ (OB σ 595 596) ∧ (SCM σ (σ.I 555 115) ≤ 6000) ∧ (bd_0_20 σ 587 24000) ∧ (∀ k j, 0 ≤ k → k < σ.I 555 115 → 0 ≤ j → j < σ.I 596 (σ.I 637 k) → (0 ≤ σ.I 582 (σ.I 595 (σ.I 637 k) + j) ∧ σ.I 582 (σ.I 595 (σ.I 637 k) + j) ≤ 24000) ∧ ((0 : Int) = 0 → σ.I 579 (σ.I 595 (σ.I 637 k) + j) = x1 → σ.I 582 (σ.I 595 (σ.I 637 k) + j) < 24000) ∧ inL (σ.I 583 (σ.I 595 (σ.I 637 k) + j))) ∧ (∀ σ16 : Sto, SF σ σ16 → ((GRM σ σ16 x1 (0 : Int) (σ16.I 555 135) (-1)) ∧ (FCT σ16 (0 : Int)) ∧ (0 ≤ σ16.I 555 135 ∧ σ16.I 555 135 ≤ 6000) ∧ (KGa σ σ16)) → (inR (σ16.I 555 135) → Q (.inl (some (aI (σ16.I 555 135)))) σ16))) ∧ (¬ ((0 ≤ x1 ∧ x1 < σ.I 555 27) ∧ σ.I 577 x1 = (1 : Int)) → Q (.inl (some (aI (-1)))) σ)) : VV E mX9_facet (d + 1) 0 [(0, aO 555), (1, aI (x1))] [] σ Q := by
  refine v_aload_n 0 DX9_facet_0W rfl rfl <| v_iload_n 1 DX9_facet_1W rfl rfl <| v_iconst DX9_facet_2W <| ?_
  obtain ⟨k1, h⟩ := h
  obtain ⟨k2, k3, k4, h⟩ := h
  refine v_invV (ci := 9) (as := [aI (x1), aI (1)]) (st := []) DX9_facet_3W rfl okX9_isOf (Or.inl q2891) q2893 (s_555 hL) rfl qs132 npX9_isOf (sp_X9_isOf (σ := σ) (x1 := x1) (x2 := (1 : Int)) k1 hL k2 k3 k4) (Nat.le_of_ble_eq_true rfl) (Nat.le_refl _) (Nat.le_of_ble_eq_true rfl) (RZ_ret (fun c5 => ?_) (fun c5 => ?_)) RZ_thr
  · have h := h.1 c5
    refine v_if_ne (tg := 11) DX9_facet_6W (by decide) ⟨by decide, by decide⟩ (fun c6 => ?_) (fun c6 => absurd c6 (by decide))
    refine v_aload_n 0 DX9_facet_11W rfl rfl <| v_iload_n 1 DX9_facet_12W rfl rfl <| v_lconst DX9_facet_13W <| ?_
    obtain ⟨k7, h⟩ := h
    obtain ⟨k8, k9, k10, k11, k12, k13, k14, k15, h⟩ := h
    refine v_invV (ci := 9) (as := [aI (x1), aL (0)]) (st := []) DX9_facet_14W rfl okX9_groupAll (Or.inl q3461) q3463 (s_555 hL) rfl qs222 npX9_groupAll (sp_X9_groupAll (σ := σ) (x1 := x1) (y2 := (0 : Int)) k7 hL k8 k9 k10 k11 k12 k13 k14 k15) (Nat.le_of_ble_eq_true rfl) (Nat.le_refl _) (Nat.le_of_ble_eq_true rfl) (RV_ret (fun σ16 gσ16 eσ16 => ?_)) RV_thr
    have h := h σ16 gσ16 eσ16
    refine v_aload_n 0 DX9_facet_17W rfl rfl <| ?_
    refine w_getI (ci := 9) (kf := 135) (kz := 135) DX9_facet_18W (s_555 (hL.sf gσ16)) rfl (by decide) rfl (Or.inl q2359) (fun _ _ => rfl) (fun f17 => ?_)
    have h := h f17
    exact v_iret DX9_facet_21W rfl rfl h
  · have h := h.2 c5
    refine v_if_ne (tg := 11) DX9_facet_6W (by decide) ⟨by decide, by decide⟩ (fun c18 => absurd c18 (by decide)) (fun c18 => ?_)
    refine v_iconst DX9_facet_9W <| ?_
    exact v_iret DX9_facet_10W rfl rfl h
theorem sp_X9_facetW {E : XE} {d : Nat} {σ : Sto} {x1 : Int} (hd : 6 ≤ d) (hL : Lay σ)  (p0 : inR x1) (p1 : 0 ≤ σ.I 555 27 ∧ σ.I 555 27 ≤ 12) (p2 : 0 ≤ σ.I 555 115 ∧ σ.I 555 115 ≤ 600) (p3 : ∀ k, 0 ≤ k → k < σ.I 555 115 → 0 ≤ σ.I 637 k ∧ σ.I 637 k < 601) (p4 : OB σ 595 596) (p5 : SCM σ (σ.I 555 115) ≤ 6000) (p6 : bd_0_20 σ 587 24000) (p7 : ∀ k j, 0 ≤ k → k < σ.I 555 115 → 0 ≤ j → j < σ.I 596 (σ.I 637 k) → (0 ≤ σ.I 582 (σ.I 595 (σ.I 637 k) + j) ∧ σ.I 582 (σ.I 595 (σ.I 637 k) + j) ≤ 24000) ∧ (σ.I 577 x1 = 1 → σ.I 579 (σ.I 595 (σ.I 637 k) + j) = x1 → σ.I 582 (σ.I 595 (σ.I 637 k) + j) < 24000) ∧ inL (σ.I 583 (σ.I 595 (σ.I 637 k) + j))) : CC E mX9_facet d [aO 555, aI (x1)] σ (RVI (fun y τ => ((¬ ((0 ≤ x1 ∧ x1 < σ.I 555 27) ∧ σ.I 577 x1 = (1 : Int)) → y = -1 ∧ τ = σ) ∧ (((0 ≤ x1 ∧ x1 < σ.I 555 27) ∧ σ.I 577 x1 = (1 : Int)) → y = τ.I 555 135 ∧ GRM σ τ x1 0 (τ.I 555 135) (-1) ∧ FCT τ 0 ∧ (0 ≤ τ.I 555 135 ∧ τ.I 555 135 ≤ 6000))) ∧ (KGa σ τ))) := by
  obtain ⟨d, rfl⟩ : ∃ e, d = e + 1 := ⟨d - 1, by omega⟩
  have p0a := p0.1; have p0b := p0.2
  refine ucX9_facet_0W  hL  ?_
  refine ⟨?_, ?_⟩
  · omega
  refine ⟨?_, ?_⟩
  · (first | omega | exact ⟨by omega, by omega⟩ | assumption)
  refine ⟨?_, ?_⟩
  · (first | omega | exact ⟨by omega, by omega⟩ | assumption)
  refine ⟨?_, ?_⟩
  · (first | omega | exact ⟨by omega, by omega⟩ | assumption)
  refine ⟨fun c1 => ?_, fun c2 => ?_⟩
  · refine ⟨?_, ?_⟩
    · omega
    refine ⟨?_, ?_⟩
    · (first | omega | exact ⟨by omega, by omega⟩ | assumption)
    refine ⟨?_, ?_⟩
    · (exact ⟨by omega, by omega, by omega⟩)
    refine ⟨?_, ?_⟩
    · (first | omega | exact ⟨by omega, by omega⟩ | assumption)
    refine ⟨?_, ?_⟩
    · (exact p3)
    refine ⟨?_, ?_⟩
    · (exact p4)
    refine ⟨?_, ?_⟩
    · (exact p5)
    refine ⟨?_, ?_⟩
    · (exact p6)
    refine ⟨?_, ?_⟩
    · ((intro k j a b c e; have z := p7 k j a b c e; exact ⟨z.1, fun _ => z.2.1 (by omega), z.2.2⟩))
    rintro σ16 gσ16 ⟨eσ16_0, eσ16_1, eσ16_2, eσ16_3⟩
    have kσ16 : KGa σ σ16 := eσ16_3
    have kσ16r := eσ16_3.1.1
    rintro ⟨f3, f3q⟩
    refine RVI_mk ?_ ?_
    · (first | exact ⟨by omega, by omega⟩ | assumption)
    · refine ⟨?_, ?_⟩
      · (first | exact ⟨fun _ => ⟨rfl, rfl⟩, fun z => absurd z (by assumption)⟩ | exact ⟨fun z => absurd (by assumption) z, fun _ => ⟨rfl, eσ16_0, eσ16_1, eσ16_2⟩⟩)
      · exact kσ16
  · refine RVI_mk ?_ ?_
    · (first | exact ⟨by omega, by omega⟩ | assumption)
    · refine ⟨?_, ?_⟩
      · (first | exact ⟨fun _ => ⟨rfl, rfl⟩, fun z => absurd z (by assumption)⟩ | exact ⟨fun z => absurd (by assumption) z, fun _ => ⟨rfl, eσ16_0, eσ16_1, eσ16_2⟩⟩)
      · exact KGa_rf
theorem DX9_histogram_0W : DD cX9_histogram 0 1 1 (.aload_n 0) := ⟨by decide +kernel, rfl⟩
theorem DX9_histogram_1W : DD cX9_histogram 1 1 2 (.iload_n 1) := ⟨by decide +kernel, rfl⟩
theorem DX9_histogram_2W : DD cX9_histogram 2 1 3 (.iconst 2) := ⟨by decide +kernel, rfl⟩
theorem DX9_histogram_3W : DD cX9_histogram 3 3 6 (.invokevirtual 583) := ⟨by decide +kernel, rfl⟩
theorem DX9_histogram_6W : DD cX9_histogram 6 3 9 (.ifCond .eq 9) := ⟨by decide +kernel, rfl⟩
theorem DX9_histogram_9W : DD cX9_histogram 9 1 10 (.lload_n 2) := ⟨by decide +kernel, rfl⟩
theorem DX9_histogram_10W : DD cX9_histogram 10 1 11 (.lconst 1) := ⟨by decide +kernel, rfl⟩
theorem DX9_histogram_11W : DD cX9_histogram 11 1 12 (.lcmp) := ⟨by decide +kernel, rfl⟩
theorem DX9_histogram_12W : DD cX9_histogram 12 3 15 (.ifCond .ge 5) := ⟨by decide +kernel, rfl⟩
theorem DX9_histogram_15W : DD cX9_histogram 15 1 16 (.iconst (-1)) := ⟨by decide +kernel, rfl⟩
theorem DX9_histogram_16W : DD cX9_histogram 16 1 17 (.ireturn) := ⟨by decide +kernel, rfl⟩
theorem DX9_histogram_17W : DD cX9_histogram 17 1 18 (.aload_n 0) := ⟨by decide +kernel, rfl⟩
theorem DX9_histogram_18W : DD cX9_histogram 18 1 19 (.iload_n 1) := ⟨by decide +kernel, rfl⟩
theorem DX9_histogram_19W : DD cX9_histogram 19 1 20 (.lload_n 2) := ⟨by decide +kernel, rfl⟩
theorem DX9_histogram_20W : DD cX9_histogram 20 3 23 (.invokevirtual 1048) := ⟨by decide +kernel, rfl⟩
theorem DX9_histogram_23W : DD cX9_histogram 23 1 24 (.aload_n 0) := ⟨by decide +kernel, rfl⟩
theorem DX9_histogram_24W : DD cX9_histogram 24 3 27 (.getfield 957) := ⟨by decide +kernel, rfl⟩
theorem DX9_histogram_27W : DD cX9_histogram 27 1 28 (.ireturn) := ⟨by decide +kernel, rfl⟩
theorem ucX9_histogram_0W {E : XE} {d : Nat} {σ : Sto} {Q : Res → Sto → Prop} {x1 : Int} {y2 : Int} (hL : Lay σ)  (h : 2 ≤ d ∧ (inR x1) ∧ (inR (2 : Int)) ∧ (0 ≤ σ.I 555 27 ∧ σ.I 555 27 ≤ 12) ∧ (((0 ≤ x1 ∧ x1 < σ.I 555 27) ∧ σ.I 577 x1 = (2 : Int)) → inL y2 ∧ (1 ≤ y2 → 5 ≤ d ∧ (0 ≤ x1 ∧ x1 < 12) ∧ (0 ≤ y2 ∧ inL y2) ∧ (0 ≤ σ.I 555 115 ∧ σ.I 555 115 ≤ 600) ∧ (∀ k, 0 ≤ k → k < σ.I 555 115 → 0 ≤ σ.I 637 k ∧ σ.I 637 k < 601) ∧ (OB σ 595 596) ∧ (SCM σ (σ.I 555 115) ≤ 6000) ∧ (bd_0_20 σ 587 24000) ∧ (∀ k j, 0 ≤ k → k < σ.I 555 115 → 0 ≤ j → j < σ.I 596 (σ.I 637 k) → (0 ≤ σ.I 582 (σ.I 595 (σ.I 637 k) + j) ∧ σ.I 582 (σ.I 595 (σ.I 637 k) + j) ≤ 24000) ∧ (y2 = 0 → σ.I 579 (σ.I 595 (σ.I 637 k) + j) = x1 → σ.I 582 (σ.I 595 (σ.I 637 k) + j) < 24000) ∧ inL (σ.I 583 (σ.I 595 (σ.I 637 k) + j))) ∧ (∀ σ18 : Sto, SF σ σ18 → ((GRM σ σ18 x1 y2 (σ18.I 555 135) (-1)) ∧ (FCT σ18 y2) ∧ (0 ≤ σ18.I 555 135 ∧ σ18.I 555 135 ≤ 6000) ∧ (KGa σ σ18)) → (inR (σ18.I 555 135) → Q (.inl (some (aI (σ18.I 555 135)))) σ18))) ∧ (y2 < 1 → Q (.inl (some (aI (-1)))) σ)) ∧ (¬ ((0 ≤ x1 ∧ x1 < σ.I 555 27) ∧ σ.I 577 x1 = (2 : Int)) → Q (.inl (some (aI (-1)))) σ)) : VV E mX9_histogram (d + 1) 0 [(0, aO 555), (1, aI (x1)), (2, aL (y2))] [] σ Q := by
  refine v_aload_n 0 DX9_histogram_0W rfl rfl <| v_iload_n 1 DX9_histogram_1W rfl rfl <| v_iconst DX9_histogram_2W <| ?_
  obtain ⟨k1, h⟩ := h
  obtain ⟨k2, k3, k4, h⟩ := h
  refine v_invV (ci := 9) (as := [aI (x1), aI (2)]) (st := []) DX9_histogram_3W rfl okX9_isOf (Or.inl q2891) q2893 (s_555 hL) rfl qs132 npX9_isOf (sp_X9_isOf (σ := σ) (x1 := x1) (x2 := (2 : Int)) k1 hL k2 k3 k4) (Nat.le_of_ble_eq_true rfl) (Nat.le_refl _) (Nat.le_of_ble_eq_true rfl) (RZ_ret (fun c5 => ?_) (fun c5 => ?_)) RZ_thr
  · have h := h.1 c5
    refine v_if_eq (tg := 15) DX9_histogram_6W (by decide) ⟨by decide, by decide⟩ (fun c6 => absurd c6 (by decide)) (fun c6 => ?_)
    refine v_lload_n 2 DX9_histogram_9W rfl rfl <| v_lconst DX9_histogram_10W <| ?_
    obtain ⟨k7, h⟩ := h
    refine v_lc_ge (tg := 17) DX9_histogram_11W DX9_histogram_12W (by decide) k7 ⟨by decide, by decide⟩ (fun c8 => ?_) (fun c8 => ?_)
    · have h := h.1 c8
      refine v_aload_n 0 DX9_histogram_17W rfl rfl <| v_iload_n 1 DX9_histogram_18W rfl rfl <| v_lload_n 2 DX9_histogram_19W rfl rfl <| ?_
      obtain ⟨k9, h⟩ := h
      obtain ⟨k10, k11, k12, k13, k14, k15, k16, k17, h⟩ := h
      refine v_invV (ci := 9) (as := [aI (x1), aL (y2)]) (st := []) DX9_histogram_20W rfl okX9_groupAll (Or.inl q3461) q3463 (s_555 hL) rfl qs222 npX9_groupAll (sp_X9_groupAll (σ := σ) (x1 := x1) (y2 := y2) k9 hL k10 k11 k12 k13 k14 k15 k16 k17) (Nat.le_of_ble_eq_true rfl) (Nat.le_refl _) (Nat.le_of_ble_eq_true rfl) (RV_ret (fun σ18 gσ18 eσ18 => ?_)) RV_thr
      have h := h σ18 gσ18 eσ18
      refine v_aload_n 0 DX9_histogram_23W rfl rfl <| ?_
      refine w_getI (ci := 9) (kf := 135) (kz := 135) DX9_histogram_24W (s_555 (hL.sf gσ18)) rfl (by decide) rfl (Or.inl q2359) (fun _ _ => rfl) (fun f19 => ?_)
      have h := h f19
      exact v_iret DX9_histogram_27W rfl rfl h
    · have h := h.2 c8
      refine v_iconst DX9_histogram_15W <| ?_
      exact v_iret DX9_histogram_16W rfl rfl h
  · have h := h.2 c5
    refine v_if_eq (tg := 15) DX9_histogram_6W (by decide) ⟨by decide, by decide⟩ (fun c20 => ?_) (fun c20 => absurd c20 (by decide))
    refine v_iconst DX9_histogram_15W <| ?_
    exact v_iret DX9_histogram_16W rfl rfl h
theorem sp_X9_histogramW {E : XE} {d : Nat} {σ : Sto} {x1 : Int} {y2 : Int} (hd : 6 ≤ d) (hL : Lay σ)  (p0 : inR x1) (p1 : 0 ≤ σ.I 555 27 ∧ σ.I 555 27 ≤ 12) (p2 : 0 ≤ σ.I 555 115 ∧ σ.I 555 115 ≤ 600) (p3 : ∀ k, 0 ≤ k → k < σ.I 555 115 → 0 ≤ σ.I 637 k ∧ σ.I 637 k < 601) (p4 : OB σ 595 596) (p5 : SCM σ (σ.I 555 115) ≤ 6000) (p6 : bd_0_20 σ 587 24000) (p7 : ∀ k j, 0 ≤ k → k < σ.I 555 115 → 0 ≤ j → j < σ.I 596 (σ.I 637 k) → (0 ≤ σ.I 582 (σ.I 595 (σ.I 637 k) + j) ∧ σ.I 582 (σ.I 595 (σ.I 637 k) + j) ≤ 24000) ∧ (σ.I 577 x1 = 1 → σ.I 579 (σ.I 595 (σ.I 637 k) + j) = x1 → σ.I 582 (σ.I 595 (σ.I 637 k) + j) < 24000) ∧ inL (σ.I 583 (σ.I 595 (σ.I 637 k) + j))) (p8 : inL y2) : CC E mX9_histogram d [aO 555, aI (x1), aL (y2)] σ (RVI (fun y τ => ((¬ (((0 ≤ x1 ∧ x1 < σ.I 555 27) ∧ σ.I 577 x1 = (2 : Int)) ∧ 1 ≤ y2) → y = -1 ∧ τ = σ) ∧ ((((0 ≤ x1 ∧ x1 < σ.I 555 27) ∧ σ.I 577 x1 = (2 : Int)) ∧ 1 ≤ y2) → y = τ.I 555 135 ∧ GRM σ τ x1 y2 (τ.I 555 135) (-1) ∧ FCT τ y2 ∧ (0 ≤ τ.I 555 135 ∧ τ.I 555 135 ≤ 6000))) ∧ (KGa σ τ))) := by
  obtain ⟨d, rfl⟩ : ∃ e, d = e + 1 := ⟨d - 1, by omega⟩
  have p0a := p0.1; have p0b := p0.2
  have p8a := p8.1; have p8b := p8.2
  refine ucX9_histogram_0W  hL  ?_
  refine ⟨?_, ?_⟩
  · omega
  refine ⟨?_, ?_⟩
  · (first | omega | exact ⟨by omega, by omega⟩ | assumption)
  refine ⟨?_, ?_⟩
  · (first | omega | exact ⟨by omega, by omega⟩ | assumption)
  refine ⟨?_, ?_⟩
  · (first | omega | exact ⟨by omega, by omega⟩ | assumption)
  refine ⟨fun c1 => ?_, fun c2 => ?_⟩
  · refine ⟨?_, ?_⟩
    · (first | exact ⟨by omega, by omega⟩ | assumption)
    refine ⟨fun c3 => ?_, fun c4 => ?_⟩
    · refine ⟨?_, ?_⟩
      · omega
      refine ⟨?_, ?_⟩
      · (first | omega | exact ⟨by omega, by omega⟩ | assumption)
      refine ⟨?_, ?_⟩
      · (exact ⟨by omega, p8⟩)
      refine ⟨?_, ?_⟩
      · (first | omega | exact ⟨by omega, by omega⟩ | assumption)
      refine ⟨?_, ?_⟩
      · (exact p3)
      refine ⟨?_, ?_⟩
      · (exact p4)
      refine ⟨?_, ?_⟩
      · (exact p5)
      refine ⟨?_, ?_⟩
      · (exact p6)
      refine ⟨?_, ?_⟩
      · ((intro k j a b c e; have z := p7 k j a b c e; exact ⟨z.1, fun h => by omega, z.2.2⟩))
      rintro σ18 gσ18 ⟨eσ18_0, eσ18_1, eσ18_2, eσ18_3⟩
      have kσ18 : KGa σ σ18 := eσ18_3
      have kσ18r := eσ18_3.1.1
      rintro ⟨f5, f5q⟩
      refine RVI_mk ?_ ?_
      · (first | exact ⟨by omega, by omega⟩ | assumption)
      · refine ⟨?_, ?_⟩
        · (first | exact ⟨fun z => absurd ⟨by assumption, by assumption⟩ z, fun _ => ⟨rfl, eσ18_0, eσ18_1, eσ18_2⟩⟩ | exact ⟨fun _ => ⟨rfl, rfl⟩, fun z => by have z1 := z.1; have z2 := z.2; first | contradiction | omega⟩)
        · exact kσ18
    · refine RVI_mk ?_ ?_
      · (first | exact ⟨by omega, by omega⟩ | assumption)
      · refine ⟨?_, ?_⟩
        · (first | exact ⟨fun z => absurd ⟨by assumption, by assumption⟩ z, fun _ => ⟨rfl, eσ18_0, eσ18_1, eσ18_2⟩⟩ | exact ⟨fun _ => ⟨rfl, rfl⟩, fun z => by have z1 := z.1; have z2 := z.2; first | contradiction | omega⟩)
        · exact KGa_rf
  · refine RVI_mk ?_ ?_
    · (first | exact ⟨by omega, by omega⟩ | assumption)
    · refine ⟨?_, ?_⟩
      · (first | exact ⟨fun z => absurd ⟨by assumption, by assumption⟩ z, fun _ => ⟨rfl, eσ18_0, eσ18_1, eσ18_2⟩⟩ | exact ⟨fun _ => ⟨rfl, rfl⟩, fun z => by have z1 := z.1; have z2 := z.2; first | contradiction | omega⟩)
      · exact KGa_rf
