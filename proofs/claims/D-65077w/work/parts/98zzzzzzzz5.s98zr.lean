set_option maxRecDepth 100000
set_option maxHeartbeats 1200000
theorem DX9_text_0W : DD cX9_text 0 1 1 (.aload_n 0) := ⟨by decide +kernel, rfl⟩
theorem DX9_text_1W : DD cX9_text 1 1 2 (.iload_n 1) := ⟨by decide +kernel, rfl⟩
theorem DX9_text_2W : DD cX9_text 2 1 3 (.aload_n 0) := ⟨by decide +kernel, rfl⟩
theorem DX9_text_3W : DD cX9_text 3 3 6 (.getfield 21) := ⟨by decide +kernel, rfl⟩
theorem DX9_text_6W : DD cX9_text 6 1 7 (.iconst 0) := ⟨by decide +kernel, rfl⟩
theorem DX9_text_7W : DD cX9_text 7 1 8 (.aload_n 0) := ⟨by decide +kernel, rfl⟩
theorem DX9_text_8W : DD cX9_text 8 3 11 (.invokevirtual 412) := ⟨by decide +kernel, rfl⟩
theorem DX9_text_11W : DD cX9_text 11 3 14 (.invokevirtual 600) := ⟨by decide +kernel, rfl⟩
theorem DX9_text_14W : DD cX9_text 14 1 15 (.ireturn) := ⟨by decide +kernel, rfl⟩
theorem ucX9_text_0W {E : XE} {d : Nat} {σ : Sto} {Q : Res → Sto → Prop} {x1 : Int} (hL : Lay σ)  (h : 1 ≤ d ∧ (∀ (y3 : Int) (σ2 : Sto), inR y3 → SF σ σ2 → ((y3 = σ.I 555 2) ∧ (Ch (fun c i => at2 c i 555 2) σ σ2) ∧ (σ2.I 555 2 = 0)) → 20 ≤ d ∧ (0 ≤ σ2.I 555 45 ∧ σ2.I 555 45 ≤ σ2.I 555 30) ∧ (σ2.I 555 30 ≤ 6000 ∧ σ2.I 555 30 ≤ σ2.I 555 45 + 24) ∧ (0 ≤ σ2.I 555 38 ∧ σ2.I 555 38 ≤ 60000) ∧ (0 ≤ σ2.I 555 44 ∧ σ2.I 555 44 ≤ 24000) ∧ (inR x1) ∧ (557 = 557) ∧ (0 ≤ (0 : Int) ∧ 0 ≤ y3 ∧ (0 : Int) + y3 ≤ 30000) ∧ (0 ≤ σ2.I 555 27 ∧ σ2.I 555 27 ≤ 12) ∧ (AC σ2) ∧ (bd_0_20 σ2 573 300) ∧ (bd_0_20 σ2 587 24000) ∧ ((0 ≤ x1 ∧ x1 < σ2.I 555 27 ∧ σ2.I 577 x1 = 0) → 0 ≤ σ2.I 578 x1 ∧ σ2.I 578 x1 < 6) ∧ ((0 : Int) + y3 ≤ 30032 ∧ (30032 : Int) ≤ 1000000) ∧ (∀ (y19 : Int) (σ18 : Sto), inR y19 → SF σ2 σ18 → (((¬ (((0 ≤ x1 ∧ x1 < σ2.I 555 27 ∧ σ2.I 577 x1 = 0) ∨ ((0 ≤ x1 ∧ x1 < σ2.I 555 27 ∧ σ2.I 577 x1 = 1) ∧ y3 ≠ 0)) ∧ y3 ≤ 1000) ∧ y19 = -1 ∧ σ18 = σ2) ∨ ((((0 ≤ x1 ∧ x1 < σ2.I 555 27 ∧ σ2.I 577 x1 = 0) ∨ ((0 ≤ x1 ∧ x1 < σ2.I 555 27 ∧ σ2.I 577 x1 = 1) ∧ y3 ≠ 0)) ∧ y3 ≤ 1000) ∧ (σ2.I 555 30 - σ2.I 555 45 = 24 ∨ 60000 < σ2.I 555 38 + y3 ∨ 24000 < σ2.I 555 44 + (lT σ2 x1 (σ2.I 557) (0 : Int) y3).1 ∨ σ2.I 555 30 = 6000) ∧ y19 = -3 ∧ KB σ2 σ18) ∨ ((((0 ≤ x1 ∧ x1 < σ2.I 555 27 ∧ σ2.I 577 x1 = 0) ∨ ((0 ≤ x1 ∧ x1 < σ2.I 555 27 ∧ σ2.I 577 x1 = 1) ∧ y3 ≠ 0)) ∧ y3 ≤ 1000) ∧ ¬ (σ2.I 555 30 - σ2.I 555 45 = 24 ∨ 60000 < σ2.I 555 38 + y3 ∨ 24000 < σ2.I 555 44 + (lT σ2 x1 (σ2.I 557) (0 : Int) y3).1 ∨ σ2.I 555 30 = 6000) ∧ y19 = σ2.I 555 30 + 1 - σ2.I 555 45 ∧ TXM σ2 σ18 x1 (σ2.I 557) (0 : Int) y3 (lT σ2 x1 (σ2.I 557) (0 : Int) y3))) ∧ (bd_0_20 σ18 573 300) ∧ (bd_0_20 σ18 587 24000)) → Q (.inl (some (aI y19))) σ18))) : VV E mX9_text (d + 1) 0 [(0, aO 555), (1, aI (x1))] [] σ Q := by
  refine v_aload_n 0 DX9_text_0W rfl rfl <| v_iload_n 1 DX9_text_1W rfl rfl <| v_aload_n 0 DX9_text_2W rfl rfl <| w_getR (ci := 9) (kf := 1) (kz := 1) DX9_text_3W (s_555 hL) rfl (by decide) rfl (Or.inl q2225) (fun _ _ => rfl) (r_555_1 hL) <| v_iconst DX9_text_6W <| v_aload_n 0 DX9_text_7W rfl rfl <| ?_
  obtain ⟨k1, h⟩ := h
  refine v_invV (ci := 9) (as := []) (st := [aI (0), aO 557, aI (x1), aO 555]) DX9_text_8W rfl okX9_taken (Or.inl q2739) q2741 (s_555 hL) rfl qs111 npX9_taken (sp_X9_taken (σ := σ)  k1 hL ) (Nat.le_of_ble_eq_true rfl) (Nat.le_refl _) (Nat.le_of_ble_eq_true rfl) (RVI_ret (fun y3 σ2 y3f gσ2 eσ2 => ?_)) RVI_thr
  have h := h y3 σ2 y3f gσ2 eσ2
  obtain ⟨k4, h⟩ := h
  obtain ⟨k5, k6, k7, k8, k9, k10, k11, k12, k13, k14, k15, k16, k17, h⟩ := h
  refine v_invV (ci := 9) (as := [aI (x1), aO 557, aI (0), aI (y3)]) (st := []) DX9_text_11W rfl okX9_textOf (Or.inl q2887) q2889 (s_555 (hL.sf gσ2)) rfl qs131 npX9_textOf (sp_X9_textOf (σ := σ2) (x1 := x1) (o2 := 557) (n2 := 30032) (x3 := (0 : Int)) (x4 := y3) k4 (hL.sf gσ2) (s_557 (hL.sf gσ2)) k5 k6 k7 k8 k9 k10 k11 k12 k13 k14 k15 k16 k17) (Nat.le_of_ble_eq_true rfl) (Nat.le_refl _) (Nat.le_of_ble_eq_true rfl) (RVI_ret (fun y19 σ18 y19f gσ18 eσ18 => ?_)) RVI_thr
  have h := h y19 σ18 y19f gσ18 eσ18
  exact v_iret DX9_text_14W rfl rfl h
theorem sp_X9_textW {E : XE} {d : Nat} {σ : Sto} {x1 : Int} (hd : 21 ≤ d) (hL : Lay σ)  (p0 : 0 ≤ σ.I 555 45 ∧ σ.I 555 45 ≤ σ.I 555 30) (p1 : σ.I 555 30 ≤ 6000 ∧ σ.I 555 30 ≤ σ.I 555 45 + 24) (p2 : 0 ≤ σ.I 555 38 ∧ σ.I 555 38 ≤ 60000) (p3 : 0 ≤ σ.I 555 44 ∧ σ.I 555 44 ≤ 24000) (p4 : inR x1) (p5 : 0 ≤ σ.I 555 2 ∧ σ.I 555 2 ≤ 30000) (p6 : 0 ≤ σ.I 555 27 ∧ σ.I 555 27 ≤ 12) (p7 : AC σ) (p8 : bd_0_20 σ 573 300) (p9 : bd_0_20 σ 587 24000) (p10 : (0 ≤ x1 ∧ x1 < σ.I 555 27 ∧ σ.I 577 x1 = 0) → 0 ≤ σ.I 578 x1 ∧ σ.I 578 x1 < 6) : CC E mX9_text d [aO 555, aI (x1)] σ (RVI (fun y τ => (∃ ς, TKT σ ς ∧ ((¬ (((0 ≤ x1 ∧ x1 < ς.I 555 27 ∧ ς.I 577 x1 = 0) ∨ ((0 ≤ x1 ∧ x1 < ς.I 555 27 ∧ ς.I 577 x1 = 1) ∧ (σ.I 555 2) ≠ 0)) ∧ (σ.I 555 2) ≤ 1000) ∧ y = -1 ∧ τ = ς) ∨ ((((0 ≤ x1 ∧ x1 < ς.I 555 27 ∧ ς.I 577 x1 = 0) ∨ ((0 ≤ x1 ∧ x1 < ς.I 555 27 ∧ ς.I 577 x1 = 1) ∧ (σ.I 555 2) ≠ 0)) ∧ (σ.I 555 2) ≤ 1000) ∧ (ς.I 555 30 - ς.I 555 45 = 24 ∨ 60000 < ς.I 555 38 + (σ.I 555 2) ∨ 24000 < ς.I 555 44 + (lT ς x1 (ς.I 557) 0 (σ.I 555 2)).1 ∨ ς.I 555 30 = 6000) ∧ y = -3 ∧ KB ς τ) ∨ ((((0 ≤ x1 ∧ x1 < ς.I 555 27 ∧ ς.I 577 x1 = 0) ∨ ((0 ≤ x1 ∧ x1 < ς.I 555 27 ∧ ς.I 577 x1 = 1) ∧ (σ.I 555 2) ≠ 0)) ∧ (σ.I 555 2) ≤ 1000) ∧ ¬ (ς.I 555 30 - ς.I 555 45 = 24 ∨ 60000 < ς.I 555 38 + (σ.I 555 2) ∨ 24000 < ς.I 555 44 + (lT ς x1 (ς.I 557) 0 (σ.I 555 2)).1 ∨ ς.I 555 30 = 6000) ∧ y = ς.I 555 30 + 1 - ς.I 555 45 ∧ TXM ς τ x1 (ς.I 557) 0 (σ.I 555 2) (lT ς x1 (ς.I 557) 0 (σ.I 555 2))))) ∧ (bd_0_20 τ 573 300) ∧ (bd_0_20 τ 587 24000))) := by
  obtain ⟨d, rfl⟩ : ∃ e, d = e + 1 := ⟨d - 1, by omega⟩
  have p4a := p4.1; have p4b := p4.2
  refine ucX9_text_0W  hL  ?_
  refine ⟨?_, ?_⟩
  · omega
  rintro y3 σ2 ⟨y3f, y3fq⟩ gσ2 ⟨eσ2_0, ⟨⟨eσ2_1r, eσ2_1s, eσ2_1n⟩, eσ2_1⟩, eσ2_2⟩
  have k2 : ∀ c i, ¬ (c = 555 ∧ i = 2) → σ2.I c i = σ.I c i := fun c i q => eσ2_1 c i q
  have g45 : σ2.I 555 45 = σ.I 555 45 := k2 _ _ (by omega)
  have g30 : σ2.I 555 30 = σ.I 555 30 := k2 _ _ (by omega)
  have g38 : σ2.I 555 38 = σ.I 555 38 := k2 _ _ (by omega)
  have g44 : σ2.I 555 44 = σ.I 555 44 := k2 _ _ (by omega)
  have g27 : σ2.I 555 27 = σ.I 555 27 := k2 _ _ (by omega)
  have g577 : σ2.I 577 x1 = σ.I 577 x1 := k2 _ _ (by omega)
  have g578 : σ2.I 578 x1 = σ.I 578 x1 := k2 _ _ (by omega)
  have hA2 : AC σ2 := AC_t p7 (fun c i q => k2 c i (by omega))
  have hw2 : bd_0_20 σ2 573 300 := bd_0_20_eq p8 (funext fun i => k2 _ _ (by omega))
  have hz2 : bd_0_20 σ2 587 24000 := bd_0_20_eq p9 (funext fun i => k2 _ _ (by omega))
  have hT2 : TKT σ σ2 := ⟨⟨⟨eσ2_1r, eσ2_1s, eσ2_1n⟩, eσ2_1⟩, eσ2_2⟩
  refine ⟨?_, ?_⟩
  · omega
  refine ⟨?_, ?_⟩
  · (first | omega | exact ⟨by omega, by omega⟩ | assumption)
  refine ⟨?_, ?_⟩
  · (first | omega | exact ⟨by omega, by omega⟩ | assumption)
  refine ⟨?_, ?_⟩
  · (first | omega | exact ⟨by omega, by omega⟩ | assumption)
  refine ⟨?_, ?_⟩
  · (first | omega | exact ⟨by omega, by omega⟩ | assumption)
  refine ⟨?_, ?_⟩
  · (first | omega | exact ⟨by omega, by omega⟩ | assumption)
  refine ⟨?_, ?_⟩
  · (first | omega | exact ⟨by omega, by omega⟩ | assumption)
  refine ⟨?_, ?_⟩
  · (first | omega | exact ⟨by omega, by omega⟩ | assumption)
  refine ⟨?_, ?_⟩
  · (first | omega | exact ⟨by omega, by omega⟩ | assumption)
  refine ⟨?_, ?_⟩
  · (exact hA2)
  refine ⟨?_, ?_⟩
  · (exact hw2)
  refine ⟨?_, ?_⟩
  · (exact hz2)
  refine ⟨?_, ?_⟩
  · ((rw [g27, g577, g578]; exact p10))
  refine ⟨?_, ?_⟩
  · (first | omega | exact ⟨by omega, by omega⟩ | assumption)
  rintro y19 σ18 ⟨y19f, y19fq⟩ gσ18 ⟨eσ18_0, eσ18_1, eσ18_2⟩
  refine RVI_mk ?_ ?_
  · (first | exact ⟨by omega, by omega⟩ | assumption)
  · refine ⟨?_, ?_, ?_⟩
    · (exact ⟨σ2, hT2, by rw [← eσ2_0]; exact eσ18_0⟩)
    · (exact eσ18_1)
    · (exact eσ18_2)
