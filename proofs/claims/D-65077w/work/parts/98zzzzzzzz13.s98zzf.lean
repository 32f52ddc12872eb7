set_option maxRecDepth 100000
set_option maxHeartbeats 1200000
theorem DX9_isOfLeaf_0W : DD cX9_isOfLeaf 0 1 1 (.aload_n 0) := ⟨by decide +kernel, rfl⟩
theorem DX9_isOfLeaf_1W : DD cX9_isOfLeaf 1 3 4 (.getfield 186) := ⟨by decide +kernel, rfl⟩
theorem DX9_isOfLeaf_4W : DD cX9_isOfLeaf 4 1 5 (.iload_n 1) := ⟨by decide +kernel, rfl⟩
theorem DX9_isOfLeaf_5W : DD cX9_isOfLeaf 5 1 6 (.iaload) := ⟨by decide +kernel, rfl⟩
theorem DX9_isOfLeaf_6W : DD cX9_isOfLeaf 6 2 8 (.bipush 7) := ⟨by decide +kernel, rfl⟩
theorem DX9_isOfLeaf_8W : DD cX9_isOfLeaf 8 3 11 (.if_icmp .eq 10) := ⟨by decide +kernel, rfl⟩
theorem DX9_isOfLeaf_11W : DD cX9_isOfLeaf 11 1 12 (.aload_n 0) := ⟨by decide +kernel, rfl⟩
theorem DX9_isOfLeaf_12W : DD cX9_isOfLeaf 12 1 13 (.iload_n 1) := ⟨by decide +kernel, rfl⟩
theorem DX9_isOfLeaf_13W : DD cX9_isOfLeaf 13 1 14 (.iload_n 2) := ⟨by decide +kernel, rfl⟩
theorem DX9_isOfLeaf_14W : DD cX9_isOfLeaf 14 3 17 (.invokevirtual 845) := ⟨by decide +kernel, rfl⟩
theorem DX9_isOfLeaf_17W : DD cX9_isOfLeaf 17 1 18 (.ireturn) := ⟨by decide +kernel, rfl⟩
theorem DX9_isOfLeaf_18W : DD cX9_isOfLeaf 18 1 19 (.iconst 0) := ⟨by decide +kernel, rfl⟩
theorem DX9_isOfLeaf_19W : DD cX9_isOfLeaf 19 1 20 (.istore_n 3) := ⟨by decide +kernel, rfl⟩
theorem DX9_isOfLeaf_20W : DD cX9_isOfLeaf 20 1 21 (.aload_n 0) := ⟨by decide +kernel, rfl⟩
theorem DX9_isOfLeaf_21W : DD cX9_isOfLeaf 21 3 24 (.getfield 308) := ⟨by decide +kernel, rfl⟩
theorem DX9_isOfLeaf_24W : DD cX9_isOfLeaf 24 1 25 (.iload_n 1) := ⟨by decide +kernel, rfl⟩
theorem DX9_isOfLeaf_25W : DD cX9_isOfLeaf 25 1 26 (.iaload) := ⟨by decide +kernel, rfl⟩
theorem DX9_isOfLeaf_26W : DD cX9_isOfLeaf 26 2 28 (.istore 4) := ⟨by decide +kernel, rfl⟩
theorem DX9_isOfLeaf_28W : DD cX9_isOfLeaf 28 2 30 (.iload 4) := ⟨by decide +kernel, rfl⟩
theorem DX9_isOfLeaf_30W : DD cX9_isOfLeaf 30 1 31 (.aload_n 0) := ⟨by decide +kernel, rfl⟩
theorem DX9_isOfLeaf_31W : DD cX9_isOfLeaf 31 3 34 (.getfield 311) := ⟨by decide +kernel, rfl⟩
theorem DX9_isOfLeaf_34W : DD cX9_isOfLeaf 34 1 35 (.iload_n 1) := ⟨by decide +kernel, rfl⟩
theorem DX9_isOfLeaf_35W : DD cX9_isOfLeaf 35 1 36 (.iaload) := ⟨by decide +kernel, rfl⟩
theorem DX9_isOfLeaf_36W : DD cX9_isOfLeaf 36 3 39 (.if_icmp .ge 35) := ⟨by decide +kernel, rfl⟩
theorem DX9_isOfLeaf_39W : DD cX9_isOfLeaf 39 1 40 (.iload_n 3) := ⟨by decide +kernel, rfl⟩
theorem DX9_isOfLeaf_40W : DD cX9_isOfLeaf 40 3 43 (.ifCond .ne 31) := ⟨by decide +kernel, rfl⟩
theorem DX9_isOfLeaf_43W : DD cX9_isOfLeaf 43 1 44 (.aload_n 0) := ⟨by decide +kernel, rfl⟩
theorem DX9_isOfLeaf_44W : DD cX9_isOfLeaf 44 1 45 (.iload_n 2) := ⟨by decide +kernel, rfl⟩
theorem DX9_isOfLeaf_45W : DD cX9_isOfLeaf 45 1 46 (.aload_n 0) := ⟨by decide +kernel, rfl⟩
theorem DX9_isOfLeaf_46W : DD cX9_isOfLeaf 46 3 49 (.getfield 293) := ⟨by decide +kernel, rfl⟩
theorem DX9_isOfLeaf_49W : DD cX9_isOfLeaf 49 2 51 (.bipush 20) := ⟨by decide +kernel, rfl⟩
theorem DX9_isOfLeaf_51W : DD cX9_isOfLeaf 51 2 53 (.iload 4) := ⟨by decide +kernel, rfl⟩
theorem DX9_isOfLeaf_53W : DD cX9_isOfLeaf 53 1 54 (.imul) := ⟨by decide +kernel, rfl⟩
theorem DX9_isOfLeaf_54W : DD cX9_isOfLeaf 54 1 55 (.aload_n 0) := ⟨by decide +kernel, rfl⟩
theorem DX9_isOfLeaf_55W : DD cX9_isOfLeaf 55 3 58 (.getfield 296) := ⟨by decide +kernel, rfl⟩
theorem DX9_isOfLeaf_58W : DD cX9_isOfLeaf 58 2 60 (.iload 4) := ⟨by decide +kernel, rfl⟩
theorem DX9_isOfLeaf_60W : DD cX9_isOfLeaf 60 1 61 (.iaload) := ⟨by decide +kernel, rfl⟩
theorem DX9_isOfLeaf_61W : DD cX9_isOfLeaf 61 3 64 (.invokevirtual 865) := ⟨by decide +kernel, rfl⟩
theorem DX9_isOfLeaf_64W : DD cX9_isOfLeaf 64 1 65 (.istore_n 3) := ⟨by decide +kernel, rfl⟩
theorem DX9_isOfLeaf_65W : DD cX9_isOfLeaf 65 3 68 (.iinc 4 1) := ⟨by decide +kernel, rfl⟩
theorem DX9_isOfLeaf_68W : DD cX9_isOfLeaf 68 3 71 (.goto (-40)) := ⟨by decide +kernel, rfl⟩
theorem DX9_isOfLeaf_71W : DD cX9_isOfLeaf 71 1 72 (.iload_n 3) := ⟨by decide +kernel, rfl⟩
theorem DX9_isOfLeaf_72W : DD cX9_isOfLeaf 72 1 73 (.ireturn) := ⟨by decide +kernel, rfl⟩
theorem ucX9_isOfLeaf_0W {E : XE} {d : Nat} {σ : Sto} {Q : Res → Sto → Prop} {x1 : Int} {x2 : Int} (hL : Lay σ)  (h : 0 ≤ x1 ∧ x1 < 130 ∧ (inR (σ.I 609 x1) → ((σ.I 609 x1) = 7 → 0 ≤ x1 ∧ x1 < 130 ∧ (inR (σ.I 649 x1) → VV E mX9_isOfLeaf (d + 1) 28 [(0, aO 555), (1, aI (x1)), (2, aI (x2)), (3, aI (0)), (4, aI (σ.I 649 x1))] [] σ Q)) ∧ ((σ.I 609 x1) ≠ 7 → 4 ≤ d ∧ (0 ≤ x1 ∧ x1 < σ.I 555 80) ∧ (σ.I 555 80 ≤ 130) ∧ (SRC σ) ∧ (TW σ) ∧ (11 ≤ σ.I 609 x1) ∧ (0 ≤ x2 ∧ x2 < 24000) ∧ (bd_0_20 σ 587 24000) ∧ (∀ (y17 : Int) (σ16 : Sto), 0 ≤ y17 ∧ y17 ≤ 1 → SF σ σ16 → ((y17 = 1 ↔ fitM σ x1 x2) ∧ (KQ σ σ16)) → Q (.inl (some (aI y17))) σ16)))) : VV E mX9_isOfLeaf (d + 1) 0 [(0, aO 555), (1, aI (x1)), (2, aI (x2))] [] σ Q := by
  refine v_aload_n 0 DX9_isOfLeaf_0W rfl rfl <| w_getR (ci := 9) (kf := 81) (kz := 81) DX9_isOfLeaf_1W (s_555 hL) rfl (by decide) rfl (Or.inl q2305) (fun _ _ => rfl) (r_555_81 hL) <| v_iload_n 1 DX9_isOfLeaf_4W rfl rfl <| ?_
  obtain ⟨k1, k2, h⟩ := h
  refine v_iald DX9_isOfLeaf_5W (s_609 hL) k1 k2 (fun f3 => ?_)
  have h := h f3
  refine v_bipush DX9_isOfLeaf_6W ⟨by decide, by decide⟩ <| ?_
  refine v_icmp_eq (tg := 18) DX9_isOfLeaf_8W (by decide) f3 ⟨by decide, by decide⟩ (fun c4 => ?_) (fun c4 => ?_)
  · have h := h.1 c4
    refine v_iconst DX9_isOfLeaf_18W <| v_istore_n DX9_isOfLeaf_19W rfl (by decide) rfl <| v_aload_n 1 DX9_isOfLeaf_20W rfl rfl <| w_getR (ci := 9) (kf := 129) (kz := 129) DX9_isOfLeaf_21W (s_555 hL) rfl (by decide) rfl (Or.inl q2353) (fun _ _ => rfl) (r_555_129 hL) <| v_iload_n 2 DX9_isOfLeaf_24W rfl rfl <| ?_
    obtain ⟨k5, k6, h⟩ := h
    refine v_iald DX9_isOfLeaf_25W (s_649 hL) k5 k6 (fun f7 => ?_)
    have h := h f7
    refine v_istore DX9_isOfLeaf_26W (by decide) rfl <| ?_
    exact v_pick [2, 3, 4, 1, 0] rfl h
  · have h := h.2 c4
    refine v_aload_n 0 DX9_isOfLeaf_11W rfl rfl <| v_iload_n 1 DX9_isOfLeaf_12W rfl rfl <| v_iload_n 2 DX9_isOfLeaf_13W rfl rfl <| ?_
    obtain ⟨k8, h⟩ := h
    obtain ⟨k9, k10, k11, k12, k13, k14, k15, h⟩ := h
    refine v_invV (ci := 9) (as := [aI (x1), aI (x2)]) (st := []) DX9_isOfLeaf_14W rfl okX9_fitsTerm (Or.inl q3363) q3365 (s_555 hL) rfl qs205 npX9_fitsTerm (sp_X9_fitsTerm (σ := σ) (x1 := x1) (x2 := x2) k8 hL k9 k10 k11 k12 k13 k14 k15) (Nat.le_of_ble_eq_true rfl) (Nat.le_refl _) (Nat.le_of_ble_eq_true rfl) (RVZ_ret (fun y17 σ16 y17f gσ16 eσ16 => ?_)) RVZ_thr
    have h := h y17 σ16 y17f gσ16 eσ16
    exact v_iret DX9_isOfLeaf_17W rfl (narZ y17f) h
theorem ucX9_isOfLeaf_28W {E : XE} {d : Nat} {σ : Sto} {Q : Res → Sto → Prop} {x1 : Int} {x2 : Int} {x3 : Int} {x4 : Int} (hL : Lay σ)  (h : 0 ≤ x1 ∧ x1 < 130 ∧ (inR (σ.I 650 x1) → inR x4 ∧ ((σ.I 650 x1) ≤ x4 → (0 ≤ x3 ∧ x3 ≤ 1) ∧ Q (.inl (some (aI x3))) σ) ∧ (x4 < (σ.I 650 x1) → inR x3 ∧ (x3 ≠ 0 → (0 ≤ x3 ∧ x3 ≤ 1) ∧ Q (.inl (some (aI x3))) σ) ∧ (x3 = 0 → 0 ≤ x4 ∧ x4 < 6000 ∧ (inR (σ.I 645 x4) → 2 ≤ d ∧ (0 ≤ x2 ∧ x2 < 24000) ∧ (0 ≤ (20 * x4) ∧ 0 ≤ (σ.I 645 x4) ∧ (20 * x4) + (σ.I 645 x4) ≤ 120000) ∧ ((120000 : Int) ≤ 1000000) ∧ (bd_0_20 σ 587 24000) ∧ (∀ y18 : Int, 0 ≤ y18 ∧ y18 ≤ 1 → (y18 = 1 ↔ (mT σ (σ.I 644) (20 * x4) (σ.I 645 x4) x2)) → VV E mX9_isOfLeaf (d + 1) 28 [(0, aO 555), (1, aI (x1)), (2, aI (x2)), (3, aI (y18)), (4, aI (x4 + 1))] [] σ Q)))))) : VV E mX9_isOfLeaf (d + 1) 28 [(0, aO 555), (1, aI (x1)), (2, aI (x2)), (3, aI (x3)), (4, aI (x4))] [] σ Q := by
  refine v_iload 4 DX9_isOfLeaf_28W rfl <| v_aload_n 0 DX9_isOfLeaf_30W rfl rfl <| w_getR (ci := 9) (kf := 130) (kz := 130) DX9_isOfLeaf_31W (s_555 hL) rfl (by decide) rfl (Or.inl q2354) (fun _ _ => rfl) (r_555_130 hL) <| v_iload_n 1 DX9_isOfLeaf_34W rfl rfl <| ?_
  obtain ⟨k1, k2, h⟩ := h
  refine v_iald DX9_isOfLeaf_35W (s_650 hL) k1 k2 (fun f3 => ?_)
  have h := h f3
  obtain ⟨k4, h⟩ := h
  refine v_icmp_ge (tg := 71) DX9_isOfLeaf_36W (by decide) k4 f3 (fun c5 => ?_) (fun c5 => ?_)
  · have h := h.1 c5
    refine v_iload_n 3 DX9_isOfLeaf_71W rfl rfl <| ?_
    obtain ⟨k6, h⟩ := h
    exact v_iret DX9_isOfLeaf_72W rfl (narZ k6) h
  · have h := h.2 c5
    refine v_iload_n 3 DX9_isOfLeaf_39W rfl rfl <| ?_
    obtain ⟨k7, h⟩ := h
    refine v_if_ne (tg := 71) DX9_isOfLeaf_40W (by decide) k7 (fun c8 => ?_) (fun c8 => ?_)
    · have h := h.1 c8
      refine v_iload_n 3 DX9_isOfLeaf_71W rfl rfl <| ?_
      obtain ⟨k9, h⟩ := h
      exact v_iret DX9_isOfLeaf_72W rfl (narZ k9) h
    · have h := h.2 c8
      refine v_aload_n 0 DX9_isOfLeaf_43W rfl rfl <| v_iload_n 2 DX9_isOfLeaf_44W rfl rfl <| v_aload_n 0 DX9_isOfLeaf_45W rfl rfl <| w_getR (ci := 9) (kf := 124) (kz := 124) DX9_isOfLeaf_46W (s_555 hL) rfl (by decide) rfl (Or.inl q2348) (fun _ _ => rfl) (r_555_124 hL) <| v_bipush DX9_isOfLeaf_49W ⟨by decide, by decide⟩ <| v_iload 4 DX9_isOfLeaf_51W rfl <| v_imul DX9_isOfLeaf_53W <| v_aload_n 0 DX9_isOfLeaf_54W rfl rfl <| w_getR (ci := 9) (kf := 125) (kz := 125) DX9_isOfLeaf_55W (s_555 hL) rfl (by decide) rfl (Or.inl q2349) (fun _ _ => rfl) (r_555_125 hL) <| v_iload 4 DX9_isOfLeaf_58W rfl <| ?_
      obtain ⟨k10, k11, h⟩ := h
      refine v_iald DX9_isOfLeaf_60W (s_645 hL) k10 k11 (fun f12 => ?_)
      have h := h f12
      obtain ⟨k13, h⟩ := h
      obtain ⟨k14, k15, k16, k17, h⟩ := h
      refine v_invV (ci := 9) (as := [aI (x2), aO 644, aI (20 * x4), aI (σ.I 645 x4)]) (st := []) DX9_isOfLeaf_61W rfl okX9_isTerm (Or.inl q3238) q3240 (s_555 hL) rfl qs188 npX9_isTerm (sp_X9_isTerm (σ := σ) (x1 := x2) (o2 := 644) (n2 := 120000) (x3 := 20 * x4) (x4 := σ.I 645 x4) k13 hL (s_644 hL) k14 k15 k16 k17) (Nat.le_of_ble_eq_true rfl) (Nat.le_refl _) (Nat.le_of_ble_eq_true rfl) (RZ_retv (fun y18 y18f y18e => ?_)) RZ_thr
      have h := h y18 y18f y18e
      refine v_istore_n DX9_isOfLeaf_64W rfl (by decide) rfl <| v_iinc 4 DX9_isOfLeaf_65W rfl (by decide) rfl <| v_goto (pc' := 28) DX9_isOfLeaf_68W.1 (by decide) <| ?_
      exact v_pick [2, 3, 4, 1, 0] rfl h
theorem sp_X9_isOfLeafW {E : XE} {d : Nat} {σ : Sto} {x1 : Int} {x2 : Int} (hd : 5 ≤ d) (hL : Lay σ)  (p0 : 0 ≤ x1 ∧ x1 < σ.I 555 80) (p1 : σ.I 555 80 ≤ 130) (p2 : SRC σ) (p3 : TW σ) (p4 : 7 ≤ σ.I 609 x1 ∧ (σ.I 609 x1 = 7 ∨ 11 ≤ σ.I 609 x1)) (p5 : 0 ≤ x2 ∧ x2 < 24000) (p6 : bd_0_20 σ 587 24000) (p7 : HBD σ) : CC E mX9_isOfLeaf d [aO 555, aI (x1), aI (x2)] σ (RVZ (fun y τ => (y = 1 ↔ ofL σ x1 x2) ∧ (KQ σ τ))) := by
  obtain ⟨d, rfl⟩ : ∃ e, d = e + 1 := ⟨d - 1, by omega⟩
  have key : ∀ wa wb wc : Nat, (∀ (x3 : Int) (x4 : Int) (τ : Sto), SF σ τ → ((τ = σ) ∧ (σ.I 609 x1 = 7) ∧ (σ.I 649 x1 ≤ x4 ∧ x4 ≤ σ.I 650 x1) ∧ (x3 = 1 ↔ exF (fun q => mT σ (σ.I 644) (20 * q) (σ.I 645 q) x2) (σ.I 649 x1) x4) ∧ (0 ≤ x3 ∧ x3 ≤ 1)) → wa = (6001 - x4).toNat → wb = 0 → wc = 0 → VV E mX9_isOfLeaf (d + 1) 28 [(0, aO 555), (1, aI (x1)), (2, aI (x2)), (3, aI (x3)), (4, aI (x4))] [] τ (RVZ (fun y τ => (y = 1 ↔ ofL σ x1 x2) ∧ (KQ σ τ)))) := by
    refine lex3 (fun wa wb wc ih => ?_)
    have ih0 : ∀ (x3 : Int) (x4 : Int) (τ : Sto), SF σ τ → ((τ = σ) ∧ (σ.I 609 x1 = 7) ∧ (σ.I 649 x1 ≤ x4 ∧ x4 ≤ σ.I 650 x1) ∧ (x3 = 1 ↔ exF (fun q => mT σ (σ.I 644) (20 * q) (σ.I 645 q) x2) (σ.I 649 x1) x4) ∧ (0 ≤ x3 ∧ x3 ≤ 1)) → lt3 ((6001 - x4).toNat) 0 0 wa wb wc → VV E mX9_isOfLeaf (d + 1) 28 [(0, aO 555), (1, aI (x1)), (2, aI (x2)), (3, aI (x3)), (4, aI (x4))] [] τ (RVZ (fun y τ => (y = 1 ↔ ofL σ x1 x2) ∧ (KQ σ τ))) := fun z0 z1 z2 h0 h1 hlt => (ih _ _ _ hlt) z0 z1 z2 h0 h1 rfl rfl rfl
    clear ih
    skip
    · rintro x3 x4 τ gτ ⟨i0, i1, i2, i3, i4⟩ ha hb hc
      subst ha hb hc
      have i0s := i0.symm
      subst i0s
      have hh := p7.2.2.2.2 x1 p0.1 (by omega) i1
      have hz := hdI (fun (h : x4 < 6000) => p7.1 x4 (by omega) h)
      refine ucX9_isOfLeaf_28W  (hL.sf gτ)  ?_
      refine ⟨?_, ?_⟩
      · (first | omega | exact ⟨by omega, by omega⟩ | assumption)
      refine ⟨?_, ?_⟩
      · (first | omega | exact ⟨by omega, by omega⟩ | assumption)
      rintro ⟨f1, f1q⟩
      refine ⟨?_, ?_⟩
      · (first | exact ⟨by omega, by omega⟩ | assumption)
      refine ⟨fun c2 => ?_, fun c3 => ?_⟩
      · refine ⟨?_, ?_⟩
        · (first | omega | exact ⟨by omega, by omega⟩ | assumption)
        refine RVZ_mk ?_ ?_
        · (first | exact ⟨by omega, by omega⟩ | assumption)
        · refine ⟨?_, ?_⟩
          · (clear ih0; first | (rw [i3]; exact ⟨fun z => Or.inr ⟨i1, (by obtain ⟨q, a, b, c⟩ := z; exact ⟨q, a, by omega, c⟩)⟩, fun z => z.elim (fun w => absurd i1 w.1) (fun w => (by obtain ⟨q, a, b, c⟩ := w.2; exact ⟨q, a, by omega, c⟩))⟩) | (constructor; (intro _; exact Or.inr ⟨i1, (by obtain ⟨q, a, b, c⟩ := i3.mp (by omega); exact ⟨q, a, by omega, c⟩)⟩); (intro _; omega)))
          · (clear ih0; exact Ch.rf)
      · refine ⟨?_, ?_⟩
        · (first | exact ⟨by omega, by omega⟩ | assumption)
        refine ⟨fun c4 => ?_, fun c5 => ?_⟩
        · refine ⟨?_, ?_⟩
          · (first | omega | exact ⟨by omega, by omega⟩ | assumption)
          refine RVZ_mk ?_ ?_
          · (first | exact ⟨by omega, by omega⟩ | assumption)
          · refine ⟨?_, ?_⟩
            · (clear ih0; first | (rw [i3]; exact ⟨fun z => Or.inr ⟨i1, (by obtain ⟨q, a, b, c⟩ := z; exact ⟨q, a, by omega, c⟩)⟩, fun z => z.elim (fun w => absurd i1 w.1) (fun w => (by obtain ⟨q, a, b, c⟩ := w.2; exact ⟨q, a, by omega, c⟩))⟩) | (constructor; (intro _; exact Or.inr ⟨i1, (by obtain ⟨q, a, b, c⟩ := i3.mp (by omega); exact ⟨q, a, by omega, c⟩)⟩); (intro _; omega)))
            · (clear ih0; exact Ch.rf)
        · refine ⟨?_, ?_⟩
          · (first | omega | exact ⟨by omega, by omega⟩ | assumption)
          refine ⟨?_, ?_⟩
          · (first | omega | exact ⟨by omega, by omega⟩ | assumption)
          rintro ⟨f6, f6q⟩
          refine ⟨?_, ?_⟩
          · omega
          refine ⟨?_, ?_⟩
          · (first | omega | exact ⟨by omega, by omega⟩ | assumption)
          refine ⟨?_, ?_⟩
          · (clear ih0; (have z := (hdO hz) (by omega); omega))
          refine ⟨?_, ?_⟩
          · (first | omega | exact ⟨by omega, by omega⟩ | assumption)
          refine ⟨?_, ?_⟩
          · (clear ih0; exact p6)
          rintro y18 ⟨y18f, y18fq⟩ y18e
          have hs : exF (fun q => mT σ (σ.I 644) (20 * q) (σ.I 645 q) x2) (σ.I 649 x1) (x4 + 1) ↔ (exF (fun q => mT σ (σ.I 644) (20 * q) (σ.I 645 q) x2) (σ.I 649 x1) x4 ∨ mT σ (σ.I 644) (20 * x4) (σ.I 645 x4) x2) := ⟨fun ⟨q, a, b, c⟩ => by rcases (show q < x4 ∨ q = x4 by omega) with z | z; (exact Or.inl ⟨q, a, z, c⟩); (exact Or.inr (by rw [z] at c; exact c)), fun h => h.elim (fun ⟨q, a, b, c⟩ => ⟨q, a, by omega, c⟩) (fun c => ⟨x4, by omega, by omega, c⟩)⟩
          refine ih0 _ _ _ gτ ⟨?_, ?_, ?_, ?_, ?_⟩ ?_
          · (clear ih0; exact rfl)
          · (first | omega | exact ⟨by omega, by omega⟩ | assumption)
          · (first | omega | exact ⟨by omega, by omega⟩ | assumption)
          · (clear ih0; (rw [hs, y18e]; exact ⟨Or.inr, fun z => z.elim (fun w => by have w2 := i3.mpr w; omega) id⟩))
          · (first | omega | exact ⟨by omega, by omega⟩ | assumption)
          · (unfold lt3; omega)
  have k0_ : ∀ (x3 : Int) (x4 : Int) (τ : Sto), SF σ τ → ((τ = σ) ∧ (σ.I 609 x1 = 7) ∧ (σ.I 649 x1 ≤ x4 ∧ x4 ≤ σ.I 650 x1) ∧ (x3 = 1 ↔ exF (fun q => mT σ (σ.I 644) (20 * q) (σ.I 645 q) x2) (σ.I 649 x1) x4) ∧ (0 ≤ x3 ∧ x3 ≤ 1)) → VV E mX9_isOfLeaf (d + 1) 28 [(0, aO 555), (1, aI (x1)), (2, aI (x2)), (3, aI (x3)), (4, aI (x4))] [] τ (RVZ (fun y τ => (y = 1 ↔ ofL σ x1 x2) ∧ (KQ σ τ))) := fun z0 z1 z2 h0 h1 => (key _ _ _) z0 z1 z2 h0 h1 rfl rfl rfl
  clear key
  refine ucX9_isOfLeaf_0W  hL  ?_
  refine ⟨?_, ?_⟩
  · (first | omega | exact ⟨by omega, by omega⟩ | assumption)
  refine ⟨?_, ?_⟩
  · (first | omega | exact ⟨by omega, by omega⟩ | assumption)
  rintro ⟨f1, f1q⟩
  refine ⟨fun c2 => ?_, fun c3 => ?_⟩
  · refine ⟨?_, ?_⟩
    · (first | omega | exact ⟨by omega, by omega⟩ | assumption)
    refine ⟨?_, ?_⟩
    · (first | omega | exact ⟨by omega, by omega⟩ | assumption)
    rintro ⟨f4, f4q⟩
    refine k0_ _ _ _ SF.rf ⟨?_, ?_, ?_, ?_, ?_⟩
    · (clear k0_; exact rfl)
    · (first | omega | exact ⟨by omega, by omega⟩ | assumption)
    · (clear k0_; (have hh := p7.2.2.2.2 x1 p0.1 (by omega) (by assumption); omega))
    · (clear k0_; exact ⟨fun z => by omega, fun ⟨q, a, b, c⟩ => by omega⟩)
    · (first | omega | exact ⟨by omega, by omega⟩ | assumption)
  · refine ⟨?_, ?_⟩
    · omega
    refine ⟨?_, ?_⟩
    · (first | omega | exact ⟨by omega, by omega⟩ | assumption)
    refine ⟨?_, ?_⟩
    · (first | omega | exact ⟨by omega, by omega⟩ | assumption)
    refine ⟨?_, ?_⟩
    · (clear k0_; exact p2)
    refine ⟨?_, ?_⟩
    · (clear k0_; exact p3)
    refine ⟨?_, ?_⟩
    · (first | omega | exact ⟨by omega, by omega⟩ | assumption)
    refine ⟨?_, ?_⟩
    · (first | omega | exact ⟨by omega, by omega⟩ | assumption)
    refine ⟨?_, ?_⟩
    · (clear k0_; exact p6)
    rintro y17 σ16 ⟨y17f, y17fq⟩ gσ16 ⟨eσ16_0, eσ16_1⟩
    refine RVZ_mk ?_ ?_
    · (first | exact ⟨by omega, by omega⟩ | assumption)
    · refine ⟨?_, ?_⟩
      · (clear k0_; (rw [eσ16_0]; exact ⟨fun z => Or.inl ⟨by assumption, z⟩, fun z => z.elim (fun w => w.2) (fun w => absurd w.1 (by assumption))⟩))
      · (clear k0_; exact eσ16_1)
theorem DX9_bringPlaces_0W : DD cX9_bringPlaces 0 1 1 (.aload_n 0) := ⟨by decide +kernel, rfl⟩
theorem DX9_bringPlaces_1W : DD cX9_bringPlaces 1 3 4 (.getfield 308) := ⟨by decide +kernel, rfl⟩
theorem DX9_bringPlaces_4W : DD cX9_bringPlaces 4 1 5 (.iload_n 1) := ⟨by decide +kernel, rfl⟩
theorem DX9_bringPlaces_5W : DD cX9_bringPlaces 5 1 6 (.iaload) := ⟨by decide +kernel, rfl⟩
theorem DX9_bringPlaces_6W : DD cX9_bringPlaces 6 1 7 (.istore_n 2) := ⟨by decide +kernel, rfl⟩
theorem DX9_bringPlaces_7W : DD cX9_bringPlaces 7 1 8 (.iload_n 2) := ⟨by decide +kernel, rfl⟩
theorem DX9_bringPlaces_8W : DD cX9_bringPlaces 8 1 9 (.aload_n 0) := ⟨by decide +kernel, rfl⟩
theorem DX9_bringPlaces_9W : DD cX9_bringPlaces 9 3 12 (.getfield 311) := ⟨by decide +kernel, rfl⟩
theorem DX9_bringPlaces_12W : DD cX9_bringPlaces 12 1 13 (.iload_n 1) := ⟨by decide +kernel, rfl⟩
theorem DX9_bringPlaces_13W : DD cX9_bringPlaces 13 1 14 (.iaload) := ⟨by decide +kernel, rfl⟩
theorem DX9_bringPlaces_14W : DD cX9_bringPlaces 14 3 17 (.if_icmp .ge 73) := ⟨by decide +kernel, rfl⟩
theorem DX9_bringPlaces_17W : DD cX9_bringPlaces 17 1 18 (.aload_n 0) := ⟨by decide +kernel, rfl⟩
theorem DX9_bringPlaces_18W : DD cX9_bringPlaces 18 3 21 (.getfield 248) := ⟨by decide +kernel, rfl⟩
theorem DX9_bringPlaces_21W : DD cX9_bringPlaces 21 1 22 (.iload_n 2) := ⟨by decide +kernel, rfl⟩
theorem DX9_bringPlaces_22W : DD cX9_bringPlaces 22 1 23 (.aload_n 0) := ⟨by decide +kernel, rfl⟩
theorem DX9_bringPlaces_23W : DD cX9_bringPlaces 23 3 26 (.getfield 296) := ⟨by decide +kernel, rfl⟩
theorem DX9_bringPlaces_26W : DD cX9_bringPlaces 26 1 27 (.iload_n 2) := ⟨by decide +kernel, rfl⟩
theorem DX9_bringPlaces_27W : DD cX9_bringPlaces 27 1 28 (.iaload) := ⟨by decide +kernel, rfl⟩
theorem DX9_bringPlaces_28W : DD cX9_bringPlaces 28 1 29 (.iastore) := ⟨by decide +kernel, rfl⟩
theorem DX9_bringPlaces_29W : DD cX9_bringPlaces 29 1 30 (.iconst 0) := ⟨by decide +kernel, rfl⟩
theorem DX9_bringPlaces_30W : DD cX9_bringPlaces 30 1 31 (.istore_n 3) := ⟨by decide +kernel, rfl⟩
theorem DX9_bringPlaces_31W : DD cX9_bringPlaces 31 1 32 (.iload_n 3) := ⟨by decide +kernel, rfl⟩
theorem DX9_bringPlaces_32W : DD cX9_bringPlaces 32 1 33 (.aload_n 0) := ⟨by decide +kernel, rfl⟩
theorem DX9_bringPlaces_33W : DD cX9_bringPlaces 33 3 36 (.getfield 248) := ⟨by decide +kernel, rfl⟩
theorem DX9_bringPlaces_36W : DD cX9_bringPlaces 36 1 37 (.iload_n 2) := ⟨by decide +kernel, rfl⟩
theorem DX9_bringPlaces_37W : DD cX9_bringPlaces 37 1 38 (.iaload) := ⟨by decide +kernel, rfl⟩
theorem DX9_bringPlaces_38W : DD cX9_bringPlaces 38 3 41 (.if_icmp .ge 31) := ⟨by decide +kernel, rfl⟩
theorem DX9_bringPlaces_41W : DD cX9_bringPlaces 41 1 42 (.aload_n 0) := ⟨by decide +kernel, rfl⟩
theorem DX9_bringPlaces_42W : DD cX9_bringPlaces 42 3 45 (.getfield 245) := ⟨by decide +kernel, rfl⟩
theorem DX9_bringPlaces_45W : DD cX9_bringPlaces 45 2 47 (.bipush 20) := ⟨by decide +kernel, rfl⟩
theorem DX9_bringPlaces_47W : DD cX9_bringPlaces 47 1 48 (.iload_n 2) := ⟨by decide +kernel, rfl⟩
theorem DX9_bringPlaces_48W : DD cX9_bringPlaces 48 1 49 (.imul) := ⟨by decide +kernel, rfl⟩
theorem DX9_bringPlaces_49W : DD cX9_bringPlaces 49 1 50 (.iload_n 3) := ⟨by decide +kernel, rfl⟩
theorem DX9_bringPlaces_50W : DD cX9_bringPlaces 50 1 51 (.iadd) := ⟨by decide +kernel, rfl⟩
theorem DX9_bringPlaces_51W : DD cX9_bringPlaces 51 1 52 (.aload_n 0) := ⟨by decide +kernel, rfl⟩
theorem DX9_bringPlaces_52W : DD cX9_bringPlaces 52 3 55 (.getfield 293) := ⟨by decide +kernel, rfl⟩
theorem DX9_bringPlaces_55W : DD cX9_bringPlaces 55 2 57 (.bipush 20) := ⟨by decide +kernel, rfl⟩
theorem DX9_bringPlaces_57W : DD cX9_bringPlaces 57 1 58 (.iload_n 2) := ⟨by decide +kernel, rfl⟩
theorem DX9_bringPlaces_58W : DD cX9_bringPlaces 58 1 59 (.imul) := ⟨by decide +kernel, rfl⟩
theorem DX9_bringPlaces_59W : DD cX9_bringPlaces 59 1 60 (.iload_n 3) := ⟨by decide +kernel, rfl⟩
theorem DX9_bringPlaces_60W : DD cX9_bringPlaces 60 1 61 (.iadd) := ⟨by decide +kernel, rfl⟩
theorem DX9_bringPlaces_61W : DD cX9_bringPlaces 61 1 62 (.baload) := ⟨by decide +kernel, rfl⟩
theorem DX9_bringPlaces_62W : DD cX9_bringPlaces 62 1 63 (.bastore) := ⟨by decide +kernel, rfl⟩
theorem DX9_bringPlaces_63W : DD cX9_bringPlaces 63 3 66 (.iinc 3 1) := ⟨by decide +kernel, rfl⟩
theorem DX9_bringPlaces_66W : DD cX9_bringPlaces 66 3 69 (.goto (-35)) := ⟨by decide +kernel, rfl⟩
theorem DX9_bringPlaces_69W : DD cX9_bringPlaces 69 1 70 (.aload_n 0) := ⟨by decide +kernel, rfl⟩
theorem DX9_bringPlaces_70W : DD cX9_bringPlaces 70 3 73 (.getfield 251) := ⟨by decide +kernel, rfl⟩
theorem DX9_bringPlaces_73W : DD cX9_bringPlaces 73 1 74 (.iload_n 2) := ⟨by decide +kernel, rfl⟩
theorem DX9_bringPlaces_74W : DD cX9_bringPlaces 74 1 75 (.aload_n 0) := ⟨by decide +kernel, rfl⟩
theorem DX9_bringPlaces_75W : DD cX9_bringPlaces 75 3 78 (.getfield 299) := ⟨by decide +kernel, rfl⟩
theorem DX9_bringPlaces_78W : DD cX9_bringPlaces 78 1 79 (.iload_n 2) := ⟨by decide +kernel, rfl⟩
theorem DX9_bringPlaces_79W : DD cX9_bringPlaces 79 1 80 (.iaload) := ⟨by decide +kernel, rfl⟩
theorem DX9_bringPlaces_80W : DD cX9_bringPlaces 80 1 81 (.iastore) := ⟨by decide +kernel, rfl⟩
theorem DX9_bringPlaces_81W : DD cX9_bringPlaces 81 3 84 (.iinc 2 1) := ⟨by decide +kernel, rfl⟩
theorem DX9_bringPlaces_84W : DD cX9_bringPlaces 84 3 87 (.goto (-77)) := ⟨by decide +kernel, rfl⟩
theorem DX9_bringPlaces_87W : DD cX9_bringPlaces 87 1 88 (.aload_n 0) := ⟨by decide +kernel, rfl⟩
theorem DX9_bringPlaces_88W : DD cX9_bringPlaces 88 3 91 (.getfield 254) := ⟨by decide +kernel, rfl⟩
theorem DX9_bringPlaces_91W : DD cX9_bringPlaces 91 1 92 (.iload_n 1) := ⟨by decide +kernel, rfl⟩
theorem DX9_bringPlaces_92W : DD cX9_bringPlaces 92 1 93 (.aload_n 0) := ⟨by decide +kernel, rfl⟩
theorem DX9_bringPlaces_93W : DD cX9_bringPlaces 93 3 96 (.getfield 308) := ⟨by decide +kernel, rfl⟩
theorem DX9_bringPlaces_96W : DD cX9_bringPlaces 96 1 97 (.iload_n 1) := ⟨by decide +kernel, rfl⟩
theorem DX9_bringPlaces_97W : DD cX9_bringPlaces 97 1 98 (.iaload) := ⟨by decide +kernel, rfl⟩
theorem DX9_bringPlaces_98W : DD cX9_bringPlaces 98 1 99 (.iastore) := ⟨by decide +kernel, rfl⟩
theorem DX9_bringPlaces_99W : DD cX9_bringPlaces 99 1 100 (.aload_n 0) := ⟨by decide +kernel, rfl⟩
theorem DX9_bringPlaces_100W : DD cX9_bringPlaces 100 3 103 (.getfield 257) := ⟨by decide +kernel, rfl⟩
theorem DX9_bringPlaces_103W : DD cX9_bringPlaces 103 1 104 (.iload_n 1) := ⟨by decide +kernel, rfl⟩
theorem DX9_bringPlaces_104W : DD cX9_bringPlaces 104 1 105 (.aload_n 0) := ⟨by decide +kernel, rfl⟩
theorem DX9_bringPlaces_105W : DD cX9_bringPlaces 105 3 108 (.getfield 311) := ⟨by decide +kernel, rfl⟩
theorem DX9_bringPlaces_108W : DD cX9_bringPlaces 108 1 109 (.iload_n 1) := ⟨by decide +kernel, rfl⟩
theorem DX9_bringPlaces_109W : DD cX9_bringPlaces 109 1 110 (.iaload) := ⟨by decide +kernel, rfl⟩
theorem DX9_bringPlaces_110W : DD cX9_bringPlaces 110 1 111 (.iastore) := ⟨by decide +kernel, rfl⟩
theorem DX9_bringPlaces_111W : DD cX9_bringPlaces 111 1 112 (.aload_n 0) := ⟨by decide +kernel, rfl⟩
theorem DX9_bringPlaces_112W : DD cX9_bringPlaces 112 1 113 (.iconst 0) := ⟨by decide +kernel, rfl⟩
theorem DX9_bringPlaces_113W : DD cX9_bringPlaces 113 3 116 (.putfield 891) := ⟨by decide +kernel, rfl⟩
theorem DX9_bringPlaces_116W : DD cX9_bringPlaces 116 1 117 (.aload_n 0) := ⟨by decide +kernel, rfl⟩
theorem DX9_bringPlaces_117W : DD cX9_bringPlaces 117 3 120 (.getfield 254) := ⟨by decide +kernel, rfl⟩
theorem DX9_bringPlaces_120W : DD cX9_bringPlaces 120 1 121 (.iload_n 1) := ⟨by decide +kernel, rfl⟩
theorem DX9_bringPlaces_121W : DD cX9_bringPlaces 121 1 122 (.iaload) := ⟨by decide +kernel, rfl⟩
theorem DX9_bringPlaces_122W : DD cX9_bringPlaces 122 1 123 (.istore_n 2) := ⟨by decide +kernel, rfl⟩
theorem DX9_bringPlaces_123W : DD cX9_bringPlaces 123 1 124 (.iload_n 2) := ⟨by decide +kernel, rfl⟩
theorem DX9_bringPlaces_124W : DD cX9_bringPlaces 124 1 125 (.aload_n 0) := ⟨by decide +kernel, rfl⟩
theorem DX9_bringPlaces_125W : DD cX9_bringPlaces 125 3 128 (.getfield 257) := ⟨by decide +kernel, rfl⟩
theorem DX9_bringPlaces_128W : DD cX9_bringPlaces 128 1 129 (.iload_n 1) := ⟨by decide +kernel, rfl⟩
theorem DX9_bringPlaces_129W : DD cX9_bringPlaces 129 1 130 (.iaload) := ⟨by decide +kernel, rfl⟩
theorem DX9_bringPlaces_130W : DD cX9_bringPlaces 130 3 133 (.if_icmp .ge 28) := ⟨by decide +kernel, rfl⟩
theorem DX9_bringPlaces_133W : DD cX9_bringPlaces 133 1 134 (.aload_n 0) := ⟨by decide +kernel, rfl⟩
theorem DX9_bringPlaces_134W : DD cX9_bringPlaces 134 1 135 (.aload_n 0) := ⟨by decide +kernel, rfl⟩
theorem DX9_bringPlaces_135W : DD cX9_bringPlaces 135 3 138 (.getfield 891) := ⟨by decide +kernel, rfl⟩
theorem DX9_bringPlaces_138W : DD cX9_bringPlaces 138 1 139 (.aload_n 0) := ⟨by decide +kernel, rfl⟩
theorem DX9_bringPlaces_139W : DD cX9_bringPlaces 139 3 142 (.getfield 251) := ⟨by decide +kernel, rfl⟩
theorem DX9_bringPlaces_142W : DD cX9_bringPlaces 142 1 143 (.iload_n 2) := ⟨by decide +kernel, rfl⟩
theorem DX9_bringPlaces_143W : DD cX9_bringPlaces 143 1 144 (.iaload) := ⟨by decide +kernel, rfl⟩
theorem DX9_bringPlaces_144W : DD cX9_bringPlaces 144 1 145 (.iconst 1) := ⟨by decide +kernel, rfl⟩
theorem DX9_bringPlaces_145W : DD cX9_bringPlaces 145 1 146 (.iadd) := ⟨by decide +kernel, rfl⟩
theorem DX9_bringPlaces_146W : DD cX9_bringPlaces 146 3 149 (.invokestatic 897) := ⟨by decide +kernel, rfl⟩
theorem DX9_bringPlaces_149W : DD cX9_bringPlaces 149 3 152 (.putfield 891) := ⟨by decide +kernel, rfl⟩
theorem DX9_bringPlaces_152W : DD cX9_bringPlaces 152 3 155 (.iinc 2 1) := ⟨by decide +kernel, rfl⟩
theorem DX9_bringPlaces_155W : DD cX9_bringPlaces 155 3 158 (.goto (-32)) := ⟨by decide +kernel, rfl⟩
theorem DX9_bringPlaces_158W : DD cX9_bringPlaces 158 1 159 (.iconst 0) := ⟨by decide +kernel, rfl⟩
theorem DX9_bringPlaces_159W : DD cX9_bringPlaces 159 1 160 (.istore_n 2) := ⟨by decide +kernel, rfl⟩
theorem DX9_bringPlaces_160W : DD cX9_bringPlaces 160 1 161 (.iload_n 2) := ⟨by decide +kernel, rfl⟩
theorem DX9_bringPlaces_161W : DD cX9_bringPlaces 161 1 162 (.aload_n 0) := ⟨by decide +kernel, rfl⟩
theorem DX9_bringPlaces_162W : DD cX9_bringPlaces 162 3 165 (.getfield 891) := ⟨by decide +kernel, rfl⟩
theorem DX9_bringPlaces_165W : DD cX9_bringPlaces 165 3 168 (.if_icmp .ge 26) := ⟨by decide +kernel, rfl⟩
theorem DX9_bringPlaces_168W : DD cX9_bringPlaces 168 1 169 (.aload_n 0) := ⟨by decide +kernel, rfl⟩
theorem DX9_bringPlaces_169W : DD cX9_bringPlaces 169 3 172 (.getfield 260) := ⟨by decide +kernel, rfl⟩
theorem DX9_bringPlaces_172W : DD cX9_bringPlaces 172 1 173 (.iload_n 2) := ⟨by decide +kernel, rfl⟩
theorem DX9_bringPlaces_173W : DD cX9_bringPlaces 173 1 174 (.aload_n 0) := ⟨by decide +kernel, rfl⟩
theorem DX9_bringPlaces_174W : DD cX9_bringPlaces 174 3 177 (.getfield 302) := ⟨by decide +kernel, rfl⟩
theorem DX9_bringPlaces_177W : DD cX9_bringPlaces 177 2 179 (.bipush 16) := ⟨by decide +kernel, rfl⟩
theorem DX9_bringPlaces_179W : DD cX9_bringPlaces 179 1 180 (.iload_n 1) := ⟨by decide +kernel, rfl⟩
theorem DX9_bringPlaces_180W : DD cX9_bringPlaces 180 1 181 (.imul) := ⟨by decide +kernel, rfl⟩
theorem DX9_bringPlaces_181W : DD cX9_bringPlaces 181 1 182 (.iload_n 2) := ⟨by decide +kernel, rfl⟩
theorem DX9_bringPlaces_182W : DD cX9_bringPlaces 182 1 183 (.iadd) := ⟨by decide +kernel, rfl⟩
theorem DX9_bringPlaces_183W : DD cX9_bringPlaces 183 1 184 (.iaload) := ⟨by decide +kernel, rfl⟩
theorem DX9_bringPlaces_184W : DD cX9_bringPlaces 184 1 185 (.iastore) := ⟨by decide +kernel, rfl⟩
theorem DX9_bringPlaces_185W : DD cX9_bringPlaces 185 3 188 (.iinc 2 1) := ⟨by decide +kernel, rfl⟩
theorem DX9_bringPlaces_188W : DD cX9_bringPlaces 188 3 191 (.goto (-28)) := ⟨by decide +kernel, rfl⟩
theorem DX9_bringPlaces_191W : DD cX9_bringPlaces 191 1 192 (.return_) := ⟨by decide +kernel, rfl⟩
theorem ucX9_bringPlaces_0W {E : XE} {d : Nat} {σ : Sto} {Q : Res → Sto → Prop} {x1 : Int} (hL : Lay σ)  (h : 0 ≤ x1 ∧ x1 < 130 ∧ (inR (σ.I 649 x1) → VV E mX9_bringPlaces (d + 1) 7 [(0, aO 555), (1, aI (x1)), (2, aI (σ.I 649 x1))] [] σ Q)) : VV E mX9_bringPlaces (d + 1) 0 [(0, aO 555), (1, aI (x1))] [] σ Q := by
  refine v_aload_n 0 DX9_bringPlaces_0W rfl rfl <| w_getR (ci := 9) (kf := 129) (kz := 129) DX9_bringPlaces_1W (s_555 hL) rfl (by decide) rfl (Or.inl q2353) (fun _ _ => rfl) (r_555_129 hL) <| v_iload_n 1 DX9_bringPlaces_4W rfl rfl <| ?_
  obtain ⟨k1, k2, h⟩ := h
  refine v_iald DX9_bringPlaces_5W (s_649 hL) k1 k2 (fun f3 => ?_)
  have h := h f3
  refine v_istore_n DX9_bringPlaces_6W rfl (by decide) rfl <| ?_
  exact v_pick [1, 2, 0] rfl h
theorem ucX9_bringPlaces_7W {E : XE} {d : Nat} {σ : Sto} {Q : Res → Sto → Prop} {x1 : Int} {x2 : Int} (hL : Lay σ)  (h : 0 ≤ x1 ∧ x1 < 130 ∧ (inR (σ.I 650 x1) → inR x2 ∧ ((σ.I 650 x1) ≤ x2 → 0 ≤ x1 ∧ x1 < 130 ∧ (inR (σ.I 649 x1) → 0 ≤ x1 ∧ x1 < 130 ∧ (∀ σ11 : Sto, σ11 = σ.wI 631 x1 (σ.I 649 x1) → SF σ σ11 → 0 ≤ x1 ∧ x1 < 130 ∧ (inR (σ11.I 650 x1) → 0 ≤ x1 ∧ x1 < 130 ∧ (∀ σ17 : Sto, σ17 = σ11.wI 632 x1 (σ11.I 650 x1) → SF σ11 σ17 → (∀ σ18 : Sto, σ18 = σ17.wI 555 108 0 → SF σ17 σ18 → 0 ≤ x1 ∧ x1 < 130 ∧ (inR (σ18.I 631 x1) → VV E mX9_bringPlaces (d + 1) 123 [(0, aO 555), (1, aI (x1)), (2, aI (σ18.I 631 x1))] [] σ18 Q))))))) ∧ (x2 < (σ.I 650 x1) → 0 ≤ x2 ∧ x2 < 6000 ∧ (inR (σ.I 645 x2) → 0 ≤ x2 ∧ x2 < 6000 ∧ (∀ σ27 : Sto, σ27 = σ.wI 629 x2 (σ.I 645 x2) → SF σ σ27 → VV E mX9_bringPlaces (d + 1) 31 [(0, aO 555), (1, aI (x1)), (2, aI (x2)), (3, aI (0))] [] σ27 Q))))) : VV E mX9_bringPlaces (d + 1) 7 [(0, aO 555), (1, aI (x1)), (2, aI (x2))] [] σ Q := by
  refine v_iload_n 2 DX9_bringPlaces_7W rfl rfl <| v_aload_n 0 DX9_bringPlaces_8W rfl rfl <| w_getR (ci := 9) (kf := 130) (kz := 130) DX9_bringPlaces_9W (s_555 hL) rfl (by decide) rfl (Or.inl q2354) (fun _ _ => rfl) (r_555_130 hL) <| v_iload_n 1 DX9_bringPlaces_12W rfl rfl <| ?_
  obtain ⟨k1, k2, h⟩ := h
  refine v_iald DX9_bringPlaces_13W (s_650 hL) k1 k2 (fun f3 => ?_)
  have h := h f3
  obtain ⟨k4, h⟩ := h
  refine v_icmp_ge (tg := 87) DX9_bringPlaces_14W (by decide) k4 f3 (fun c5 => ?_) (fun c5 => ?_)
  · have h := h.1 c5
    refine v_aload_n 0 DX9_bringPlaces_87W rfl rfl <| w_getR (ci := 9) (kf := 106) (kz := 106) DX9_bringPlaces_88W (s_555 hL) rfl (by decide) rfl (Or.inl q2330) (fun _ _ => rfl) (r_555_106 hL) <| v_iload_n 1 DX9_bringPlaces_91W rfl rfl <| v_aload_n 0 DX9_bringPlaces_92W rfl rfl <| w_getR (ci := 9) (kf := 129) (kz := 129) DX9_bringPlaces_93W (s_555 hL) rfl (by decide) rfl (Or.inl q2353) (fun _ _ => rfl) (r_555_129 hL) <| v_iload_n 1 DX9_bringPlaces_96W rfl rfl <| ?_
    obtain ⟨k6, k7, h⟩ := h
    refine v_iald DX9_bringPlaces_97W (s_649 hL) k6 k7 (fun f8 => ?_)
    have h := h f8
    obtain ⟨k9, k10, h⟩ := h
    refine w_iast DX9_bringPlaces_98W (s_631 hL) k9 k10 f8 (fun σ11 eσ11 gσ11 => ?_)
    have h := h σ11 eσ11 gσ11
    refine v_aload_n 0 DX9_bringPlaces_99W rfl rfl <| w_getR (ci := 9) (kf := 107) (kz := 107) DX9_bringPlaces_100W (s_555 (hL.sf gσ11)) rfl (by decide) rfl (Or.inl q2331) (fun _ _ => rfl) (r_555_107 (hL.sf gσ11)) <| v_iload_n 1 DX9_bringPlaces_103W rfl rfl <| v_aload_n 0 DX9_bringPlaces_104W rfl rfl <| w_getR (ci := 9) (kf := 130) (kz := 130) DX9_bringPlaces_105W (s_555 (hL.sf gσ11)) rfl (by decide) rfl (Or.inl q2354) (fun _ _ => rfl) (r_555_130 (hL.sf gσ11)) <| v_iload_n 1 DX9_bringPlaces_108W rfl rfl <| ?_
    obtain ⟨k12, k13, h⟩ := h
    refine v_iald DX9_bringPlaces_109W (s_650 (hL.sf gσ11)) k12 k13 (fun f14 => ?_)
    have h := h f14
    obtain ⟨k15, k16, h⟩ := h
    refine w_iast DX9_bringPlaces_110W (s_632 (hL.sf gσ11)) k15 k16 f14 (fun σ17 eσ17 gσ17 => ?_)
    have h := h σ17 eσ17 gσ17
    refine v_aload_n 0 DX9_bringPlaces_111W rfl rfl <| v_iconst DX9_bringPlaces_112W <| ?_
    refine w_putI (ci := 9) (kf := 108) (kz := 108) DX9_bringPlaces_113W (s_555 ((hL.sf gσ11).sf gσ17)) rfl (by decide) rfl (Or.inl ⟨rfl, q2332⟩) (fun _ _ => rfl) ⟨by decide, by decide⟩ rfl rfl (fun σ18 eσ18 gσ18 => ?_)
    have h := h σ18 eσ18 gσ18
    refine v_aload_n 0 DX9_bringPlaces_116W rfl rfl <| w_getR (ci := 9) (kf := 106) (kz := 106) DX9_bringPlaces_117W (s_555 (((hL.sf gσ11).sf gσ17).sf gσ18)) rfl (by decide) rfl (Or.inl q2330) (fun _ _ => rfl) (r_555_106 (((hL.sf gσ11).sf gσ17).sf gσ18)) <| v_iload_n 1 DX9_bringPlaces_120W rfl rfl <| ?_
    obtain ⟨k19, k20, h⟩ := h
    refine v_iald DX9_bringPlaces_121W (s_631 (((hL.sf gσ11).sf gσ17).sf gσ18)) k19 k20 (fun f21 => ?_)
    have h := h f21
    refine v_istore_n DX9_bringPlaces_122W rfl (by decide) rfl <| ?_
    exact v_pick [1, 2, 0] rfl h
  · have h := h.2 c5
    refine v_aload_n 0 DX9_bringPlaces_17W rfl rfl <| w_getR (ci := 9) (kf := 103) (kz := 103) DX9_bringPlaces_18W (s_555 hL) rfl (by decide) rfl (Or.inl q2327) (fun _ _ => rfl) (r_555_103 hL) <| v_iload_n 2 DX9_bringPlaces_21W rfl rfl <| v_aload_n 0 DX9_bringPlaces_22W rfl rfl <| w_getR (ci := 9) (kf := 125) (kz := 125) DX9_bringPlaces_23W (s_555 hL) rfl (by decide) rfl (Or.inl q2349) (fun _ _ => rfl) (r_555_125 hL) <| v_iload_n 2 DX9_bringPlaces_26W rfl rfl <| ?_
    obtain ⟨k22, k23, h⟩ := h
    refine v_iald DX9_bringPlaces_27W (s_645 hL) k22 k23 (fun f24 => ?_)
    have h := h f24
    obtain ⟨k25, k26, h⟩ := h
    refine w_iast DX9_bringPlaces_28W (s_629 hL) k25 k26 f24 (fun σ27 eσ27 gσ27 => ?_)
    have h := h σ27 eσ27 gσ27
    refine v_iconst DX9_bringPlaces_29W <| v_istore_n DX9_bringPlaces_30W rfl (by decide) rfl <| ?_
    exact v_pick [1, 2, 3, 0] rfl h
theorem ucX9_bringPlaces_123W {E : XE} {d : Nat} {σ : Sto} {Q : Res → Sto → Prop} {x1 : Int} {x2 : Int} (hL : Lay σ)  (h : 0 ≤ x1 ∧ x1 < 130 ∧ (inR (σ.I 632 x1) → inR x2 ∧ ((σ.I 632 x1) ≤ x2 → VV E mX9_bringPlaces (d + 1) 160 [(0, aO 555), (1, aI (x1)), (2, aI (0))] [] σ Q) ∧ (x2 < (σ.I 632 x1) → (inR (σ.I 555 108) → 0 ≤ x2 ∧ x2 < 6000 ∧ (inR (σ.I 630 x2) → inR ((σ.I 630 x2) + 1) ∧ (∀ σ11 : Sto, σ11 = σ.wI 555 108 (max (σ.I 555 108) ((σ.I 630 x2) + 1)) → SF σ σ11 → VV E mX9_bringPlaces (d + 1) 123 [(0, aO 555), (1, aI (x1)), (2, aI (x2 + 1))] [] σ11 Q)))))) : VV E mX9_bringPlaces (d + 1) 123 [(0, aO 555), (1, aI (x1)), (2, aI (x2))] [] σ Q := by
  refine v_iload_n 2 DX9_bringPlaces_123W rfl rfl <| v_aload_n 0 DX9_bringPlaces_124W rfl rfl <| w_getR (ci := 9) (kf := 107) (kz := 107) DX9_bringPlaces_125W (s_555 hL) rfl (by decide) rfl (Or.inl q2331) (fun _ _ => rfl) (r_555_107 hL) <| v_iload_n 1 DX9_bringPlaces_128W rfl rfl <| ?_
  obtain ⟨k1, k2, h⟩ := h
  refine v_iald DX9_bringPlaces_129W (s_632 hL) k1 k2 (fun f3 => ?_)
  have h := h f3
  obtain ⟨k4, h⟩ := h
  refine v_icmp_ge (tg := 158) DX9_bringPlaces_130W (by decide) k4 f3 (fun c5 => ?_) (fun c5 => ?_)
  · have h := h.1 c5
    refine v_iconst DX9_bringPlaces_158W <| v_istore_n DX9_bringPlaces_159W rfl (by decide) rfl <| ?_
    exact v_pick [1, 2, 0] rfl h
  · have h := h.2 c5
    refine v_aload_n 0 DX9_bringPlaces_133W rfl rfl <| v_aload_n 0 DX9_bringPlaces_134W rfl rfl <| ?_
    refine w_getI (ci := 9) (kf := 108) (kz := 108) DX9_bringPlaces_135W (s_555 hL) rfl (by decide) rfl (Or.inl q2332) (fun _ _ => rfl) (fun f6 => ?_)
    have h := h f6
    refine v_aload_n 0 DX9_bringPlaces_138W rfl rfl <| w_getR (ci := 9) (kf := 104) (kz := 104) DX9_bringPlaces_139W (s_555 hL) rfl (by decide) rfl (Or.inl q2328) (fun _ _ => rfl) (r_555_104 hL) <| v_iload_n 2 DX9_bringPlaces_142W rfl rfl <| ?_
    obtain ⟨k7, k8, h⟩ := h
    refine v_iald DX9_bringPlaces_143W (s_630 hL) k7 k8 (fun f9 => ?_)
    have h := h f9
    refine v_iconst DX9_bringPlaces_144W <| v_iadd DX9_bringPlaces_145W <| ?_
    obtain ⟨k10, h⟩ := h
    refine v_imax DX9_bringPlaces_146W q3264 q551 q274 q552 f6 k10 (Nat.le_add_left 1 d) (Nat.le_of_ble_eq_true rfl) <| ?_
    refine w_putI (ci := 9) (kf := 108) (kz := 108) DX9_bringPlaces_149W (s_555 hL) rfl (by decide) rfl (Or.inl ⟨rfl, q2332⟩) (fun _ _ => rfl) (inR_max f6 k10) rfl rfl (fun σ11 eσ11 gσ11 => ?_)
    have h := h σ11 eσ11 gσ11
    refine v_iinc 2 DX9_bringPlaces_152W rfl (by decide) rfl <| v_goto (pc' := 123) DX9_bringPlaces_155W.1 (by decide) <| ?_
    exact v_pick [1, 2, 0] rfl h
theorem ucX9_bringPlaces_31W {E : XE} {d : Nat} {σ : Sto} {Q : Res → Sto → Prop} {x1 : Int} {x2 : Int} {x3 : Int} (hL : Lay σ)  (h : 0 ≤ x2 ∧ x2 < 6000 ∧ (inR (σ.I 629 x2) → inR x3 ∧ ((σ.I 629 x2) ≤ x3 → 0 ≤ x2 ∧ x2 < 6000 ∧ (inR (σ.I 646 x2) → 0 ≤ x2 ∧ x2 < 6000 ∧ (∀ σ11 : Sto, σ11 = σ.wI 630 x2 (σ.I 646 x2) → SF σ σ11 → VV E mX9_bringPlaces (d + 1) 7 [(0, aO 555), (1, aI (x1)), (2, aI (x2 + 1))] [] σ11 Q))) ∧ (x3 < (σ.I 629 x2) → 0 ≤ ((20 * x2) + x3) ∧ ((20 * x2) + x3) < 120000 ∧ (-128 ≤ σ.I 644 ((20 * x2) + x3) ∧ σ.I 644 ((20 * x2) + x3) ≤ 127 → 0 ≤ ((20 * x2) + x3) ∧ ((20 * x2) + x3) < 120000 ∧ (∀ σ17 : Sto, σ17 = σ.wI 628 ((20 * x2) + x3) (sx8 (σ.I 644 ((20 * x2) + x3))) → SF σ σ17 → VV E mX9_bringPlaces (d + 1) 31 [(0, aO 555), (1, aI (x1)), (2, aI (x2)), (3, aI (x3 + 1))] [] σ17 Q))))) : VV E mX9_bringPlaces (d + 1) 31 [(0, aO 555), (1, aI (x1)), (2, aI (x2)), (3, aI (x3))] [] σ Q := by
  refine v_iload_n 3 DX9_bringPlaces_31W rfl rfl <| v_aload_n 0 DX9_bringPlaces_32W rfl rfl <| w_getR (ci := 9) (kf := 103) (kz := 103) DX9_bringPlaces_33W (s_555 hL) rfl (by decide) rfl (Or.inl q2327) (fun _ _ => rfl) (r_555_103 hL) <| v_iload_n 2 DX9_bringPlaces_36W rfl rfl <| ?_
  obtain ⟨k1, k2, h⟩ := h
  refine v_iald DX9_bringPlaces_37W (s_629 hL) k1 k2 (fun f3 => ?_)
  have h := h f3
  obtain ⟨k4, h⟩ := h
  refine v_icmp_ge (tg := 69) DX9_bringPlaces_38W (by decide) k4 f3 (fun c5 => ?_) (fun c5 => ?_)
  · have h := h.1 c5
    refine v_aload_n 0 DX9_bringPlaces_69W rfl rfl <| w_getR (ci := 9) (kf := 104) (kz := 104) DX9_bringPlaces_70W (s_555 hL) rfl (by decide) rfl (Or.inl q2328) (fun _ _ => rfl) (r_555_104 hL) <| v_iload_n 2 DX9_bringPlaces_73W rfl rfl <| v_aload_n 0 DX9_bringPlaces_74W rfl rfl <| w_getR (ci := 9) (kf := 126) (kz := 126) DX9_bringPlaces_75W (s_555 hL) rfl (by decide) rfl (Or.inl q2350) (fun _ _ => rfl) (r_555_126 hL) <| v_iload_n 2 DX9_bringPlaces_78W rfl rfl <| ?_
    obtain ⟨k6, k7, h⟩ := h
    refine v_iald DX9_bringPlaces_79W (s_646 hL) k6 k7 (fun f8 => ?_)
    have h := h f8
    obtain ⟨k9, k10, h⟩ := h
    refine w_iast DX9_bringPlaces_80W (s_630 hL) k9 k10 f8 (fun σ11 eσ11 gσ11 => ?_)
    have h := h σ11 eσ11 gσ11
    refine v_iinc 2 DX9_bringPlaces_81W rfl (by decide) rfl <| v_goto (pc' := 7) DX9_bringPlaces_84W.1 (by decide) <| ?_
    exact v_pick [1, 2, 0] rfl h
  · have h := h.2 c5
    refine v_aload_n 0 DX9_bringPlaces_41W rfl rfl <| w_getR (ci := 9) (kf := 102) (kz := 102) DX9_bringPlaces_42W (s_555 hL) rfl (by decide) rfl (Or.inl q2326) (fun _ _ => rfl) (r_555_102 hL) <| v_bipush DX9_bringPlaces_45W ⟨by decide, by decide⟩ <| v_iload_n 2 DX9_bringPlaces_47W rfl rfl <| v_imul DX9_bringPlaces_48W <| v_iload_n 3 DX9_bringPlaces_49W rfl rfl <| v_iadd DX9_bringPlaces_50W <| v_aload_n 0 DX9_bringPlaces_51W rfl rfl <| w_getR (ci := 9) (kf := 124) (kz := 124) DX9_bringPlaces_52W (s_555 hL) rfl (by decide) rfl (Or.inl q2348) (fun _ _ => rfl) (r_555_124 hL) <| v_bipush DX9_bringPlaces_55W ⟨by decide, by decide⟩ <| v_iload_n 2 DX9_bringPlaces_57W rfl rfl <| v_imul DX9_bringPlaces_58W <| v_iload_n 3 DX9_bringPlaces_59W rfl rfl <| v_iadd DX9_bringPlaces_60W <| ?_
    obtain ⟨k12, k13, h⟩ := h
    refine v_bald DX9_bringPlaces_61W (s_644 hL) k12 k13 (fun f14 => ?_)
    have h := h f14
    obtain ⟨k15, k16, h⟩ := h
    refine w_bast DX9_bringPlaces_62W (s_628 hL) k15 k16 (fun σ17 eσ17 gσ17 => ?_)
    have h := h σ17 eσ17 gσ17
    refine v_iinc 3 DX9_bringPlaces_63W rfl (by decide) rfl <| v_goto (pc' := 31) DX9_bringPlaces_66W.1 (by decide) <| ?_
    exact v_pick [1, 2, 3, 0] rfl h
theorem ucX9_bringPlaces_160W {E : XE} {d : Nat} {σ : Sto} {Q : Res → Sto → Prop} {x1 : Int} {x2 : Int} (hL : Lay σ)  (h : (inR (σ.I 555 108) → inR x2 ∧ ((σ.I 555 108) ≤ x2 → Q (.inl none) σ) ∧ (x2 < (σ.I 555 108) → 0 ≤ ((16 * x1) + x2) ∧ ((16 * x1) + x2) < 2080 ∧ (inR (σ.I 647 ((16 * x1) + x2)) → 0 ≤ x2 ∧ x2 < 16 ∧ (∀ σ9 : Sto, σ9 = σ.wI 633 x2 (σ.I 647 ((16 * x1) + x2)) → SF σ σ9 → VV E mX9_bringPlaces (d + 1) 160 [(0, aO 555), (1, aI (x1)), (2, aI (x2 + 1))] [] σ9 Q))))) : VV E mX9_bringPlaces (d + 1) 160 [(0, aO 555), (1, aI (x1)), (2, aI (x2))] [] σ Q := by
  refine v_iload_n 2 DX9_bringPlaces_160W rfl rfl <| v_aload_n 0 DX9_bringPlaces_161W rfl rfl <| ?_
  refine w_getI (ci := 9) (kf := 108) (kz := 108) DX9_bringPlaces_162W (s_555 hL) rfl (by decide) rfl (Or.inl q2332) (fun _ _ => rfl) (fun f1 => ?_)
  have h := h f1
  obtain ⟨k2, h⟩ := h
  refine v_icmp_ge (tg := 191) DX9_bringPlaces_165W (by decide) k2 f1 (fun c3 => ?_) (fun c3 => ?_)
  · have h := h.1 c3
    exact v_vret DX9_bringPlaces_191W rfl h
  · have h := h.2 c3
    refine v_aload_n 0 DX9_bringPlaces_168W rfl rfl <| w_getR (ci := 9) (kf := 109) (kz := 109) DX9_bringPlaces_169W (s_555 hL) rfl (by decide) rfl (Or.inl q2333) (fun _ _ => rfl) (r_555_109 hL) <| v_iload_n 2 DX9_bringPlaces_172W rfl rfl <| v_aload_n 0 DX9_bringPlaces_173W rfl rfl <| w_getR (ci := 9) (kf := 127) (kz := 127) DX9_bringPlaces_174W (s_555 hL) rfl (by decide) rfl (Or.inl q2351) (fun _ _ => rfl) (r_555_127 hL) <| v_bipush DX9_bringPlaces_177W ⟨by decide, by decide⟩ <| v_iload_n 1 DX9_bringPlaces_179W rfl rfl <| v_imul DX9_bringPlaces_180W <| v_iload_n 2 DX9_bringPlaces_181W rfl rfl <| v_iadd DX9_bringPlaces_182W <| ?_
    obtain ⟨k4, k5, h⟩ := h
    refine v_iald DX9_bringPlaces_183W (s_647 hL) k4 k5 (fun f6 => ?_)
    have h := h f6
    obtain ⟨k7, k8, h⟩ := h
    refine w_iast DX9_bringPlaces_184W (s_633 hL) k7 k8 f6 (fun σ9 eσ9 gσ9 => ?_)
    have h := h σ9 eσ9 gσ9
    refine v_iinc 2 DX9_bringPlaces_185W rfl (by decide) rfl <| v_goto (pc' := 160) DX9_bringPlaces_188W.1 (by decide) <| ?_
    exact v_pick [1, 2, 0] rfl h
theorem sp_X9_bringPlacesW {E : XE} {d : Nat} {σ : Sto} {x1 : Int} (hd : 2 ≤ d) (hL : Lay σ)  (p0 : 0 ≤ x1 ∧ x1 < 130 ∧ x1 < σ.I 555 80) (p1 : σ.I 609 x1 = 7) (p2 : HBD σ) (p3 : WKC σ) : CC E mX9_bringPlaces d [aO 555, aI (x1)] σ (RV (fun τ => (BRP σ τ x1) ∧ (WKC τ) ∧ (KBr σ τ))) := by
  obtain ⟨d, rfl⟩ : ∃ e, d = e + 1 := ⟨d - 1, by omega⟩
  have key : ∀ wa wb wc : Nat, (∀ (x2 : Int) (τ : Sto), SF σ τ → ((KBr σ τ) ∧ (σ.I 649 x1 ≤ x2 ∧ x2 ≤ σ.I 650 x1) ∧ (∀ q, σ.I 649 x1 ≤ q → q < x2 → BR1 σ τ q) ∧ (WKC τ)) → wa = 3 → wb = (6001 - x2).toNat → wc = 100 → VV E mX9_bringPlaces (d + 1) 7 [(0, aO 555), (1, aI (x1)), (2, aI (x2))] [] τ (RV (fun τ => (BRP σ τ x1) ∧ (WKC τ) ∧ (KBr σ τ)))) ∧ (∀ (x2 : Int) (τ : Sto), SF σ τ → ((KBr σ τ) ∧ (σ.I 649 x1 ≤ x2 ∧ x2 ≤ σ.I 650 x1) ∧ (∀ q, σ.I 649 x1 ≤ q → q < σ.I 650 x1 → BR1 σ τ q) ∧ (WKC τ) ∧ (τ.I 631 x1 = σ.I 649 x1 ∧ τ.I 632 x1 = σ.I 650 x1) ∧ (τ.I 555 108 = gxP (σ.I 646) (σ.I 649 x1) (x2 - σ.I 649 x1))) → wa = 2 → wb = (6001 - x2).toNat → wc = 0 → VV E mX9_bringPlaces (d + 1) 123 [(0, aO 555), (1, aI (x1)), (2, aI (x2))] [] τ (RV (fun τ => (BRP σ τ x1) ∧ (WKC τ) ∧ (KBr σ τ)))) ∧ (∀ (x2 : Int) (x3 : Int) (τ : Sto), SF σ τ → ((KBr σ τ) ∧ (0 ≤ x3 ∧ x3 ≤ σ.I 645 x2) ∧ (∀ q, σ.I 649 x1 ≤ q → q < x2 → BR1 σ τ q) ∧ (WKC τ) ∧ ((σ.I 649 x1 ≤ x2) ∧ (x2 < σ.I 650 x1) ∧ (τ.I 629 x2 = σ.I 645 x2)) ∧ (∀ k, 0 ≤ k → k < x3 → τ.I 628 (20 * x2 + k) = σ.I 644 (20 * x2 + k))) → wa = 3 → wb = (6001 - x2).toNat → wc = (30 - x3).toNat → VV E mX9_bringPlaces (d + 1) 31 [(0, aO 555), (1, aI (x1)), (2, aI (x2)), (3, aI (x3))] [] τ (RV (fun τ => (BRP σ τ x1) ∧ (WKC τ) ∧ (KBr σ τ)))) ∧ (∀ (x2 : Int) (τ : Sto), SF σ τ → ((KBr σ τ) ∧ (0 ≤ x2 ∧ x2 ≤ hpl σ x1) ∧ (∀ q, σ.I 649 x1 ≤ q → q < σ.I 650 x1 → BR1 σ τ q) ∧ (WKC τ) ∧ (τ.I 631 x1 = σ.I 649 x1 ∧ τ.I 632 x1 = σ.I 650 x1) ∧ (τ.I 555 108 = hpl σ x1) ∧ (∀ p, 0 ≤ p → p < x2 → τ.I 633 p = σ.I 647 (16 * x1 + p))) → wa = 1 → wb = (20 - x2).toNat → wc = 0 → VV E mX9_bringPlaces (d + 1) 160 [(0, aO 555), (1, aI (x1)), (2, aI (x2))] [] τ (RV (fun τ => (BRP σ τ x1) ∧ (WKC τ) ∧ (KBr σ τ)))) := by
    refine lex3 (fun wa wb wc ih => ?_)
    have ih0 : ∀ (x2 : Int) (τ : Sto), SF σ τ → ((KBr σ τ) ∧ (σ.I 649 x1 ≤ x2 ∧ x2 ≤ σ.I 650 x1) ∧ (∀ q, σ.I 649 x1 ≤ q → q < x2 → BR1 σ τ q) ∧ (WKC τ)) → lt3 3 ((6001 - x2).toNat) 100 wa wb wc → VV E mX9_bringPlaces (d + 1) 7 [(0, aO 555), (1, aI (x1)), (2, aI (x2))] [] τ (RV (fun τ => (BRP σ τ x1) ∧ (WKC τ) ∧ (KBr σ τ))) := fun z0 z1 h0 h1 hlt => (ih _ _ _ hlt).1 z0 z1 h0 h1 rfl rfl rfl
    have ih1 : ∀ (x2 : Int) (τ : Sto), SF σ τ → ((KBr σ τ) ∧ (σ.I 649 x1 ≤ x2 ∧ x2 ≤ σ.I 650 x1) ∧ (∀ q, σ.I 649 x1 ≤ q → q < σ.I 650 x1 → BR1 σ τ q) ∧ (WKC τ) ∧ (τ.I 631 x1 = σ.I 649 x1 ∧ τ.I 632 x1 = σ.I 650 x1) ∧ (τ.I 555 108 = gxP (σ.I 646) (σ.I 649 x1) (x2 - σ.I 649 x1))) → lt3 2 ((6001 - x2).toNat) 0 wa wb wc → VV E mX9_bringPlaces (d + 1) 123 [(0, aO 555), (1, aI (x1)), (2, aI (x2))] [] τ (RV (fun τ => (BRP σ τ x1) ∧ (WKC τ) ∧ (KBr σ τ))) := fun z0 z1 h0 h1 hlt => (ih _ _ _ hlt).2.1 z0 z1 h0 h1 rfl rfl rfl
    have ih2 : ∀ (x2 : Int) (x3 : Int) (τ : Sto), SF σ τ → ((KBr σ τ) ∧ (0 ≤ x3 ∧ x3 ≤ σ.I 645 x2) ∧ (∀ q, σ.I 649 x1 ≤ q → q < x2 → BR1 σ τ q) ∧ (WKC τ) ∧ ((σ.I 649 x1 ≤ x2) ∧ (x2 < σ.I 650 x1) ∧ (τ.I 629 x2 = σ.I 645 x2)) ∧ (∀ k, 0 ≤ k → k < x3 → τ.I 628 (20 * x2 + k) = σ.I 644 (20 * x2 + k))) → lt3 3 ((6001 - x2).toNat) ((30 - x3).toNat) wa wb wc → VV E mX9_bringPlaces (d + 1) 31 [(0, aO 555), (1, aI (x1)), (2, aI (x2)), (3, aI (x3))] [] τ (RV (fun τ => (BRP σ τ x1) ∧ (WKC τ) ∧ (KBr σ τ))) := fun z0 z1 z2 h0 h1 hlt => (ih _ _ _ hlt).2.2.1 z0 z1 z2 h0 h1 rfl rfl rfl
    have ih3 : ∀ (x2 : Int) (τ : Sto), SF σ τ → ((KBr σ τ) ∧ (0 ≤ x2 ∧ x2 ≤ hpl σ x1) ∧ (∀ q, σ.I 649 x1 ≤ q → q < σ.I 650 x1 → BR1 σ τ q) ∧ (WKC τ) ∧ (τ.I 631 x1 = σ.I 649 x1 ∧ τ.I 632 x1 = σ.I 650 x1) ∧ (τ.I 555 108 = hpl σ x1) ∧ (∀ p, 0 ≤ p → p < x2 → τ.I 633 p = σ.I 647 (16 * x1 + p))) → lt3 1 ((20 - x2).toNat) 0 wa wb wc → VV E mX9_bringPlaces (d + 1) 160 [(0, aO 555), (1, aI (x1)), (2, aI (x2))] [] τ (RV (fun τ => (BRP σ τ x1) ∧ (WKC τ) ∧ (KBr σ τ))) := fun z0 z1 h0 h1 hlt => (ih _ _ _ hlt).2.2.2 z0 z1 h0 h1 rfl rfl rfl
    clear ih
    refine ⟨?_, ?_, ?_, ?_⟩
    · rintro x2 τ gτ ⟨i0, i1, i2, i3⟩ ha hb hc
      subst ha hb hc
      have kt : ∀ c i, ¬ wsBr c i → τ.I c i = σ.I c i := i0.2
      have hb := p2.2.2.2.2 x1 p0.1 p0.2.2 p1
      have e649 : τ.I 649 x1 = σ.I 649 x1 := kt _ _ (by unfold wsBr; omega)
      have e650 : τ.I 650 x1 = σ.I 650 x1 := kt _ _ (by unfold wsBr; omega)
      have h6 := hdI (fun (h : x2 < 6000) => p2.1 x2 (by omega) h)
      have h7 := hdI (fun (h : x2 < 6000) => p2.2.1 x2 (by omega) h)
      have e645 : τ.I 645 x2 = σ.I 645 x2 := kt _ _ (by unfold wsBr; omega)
      refine ucX9_bringPlaces_7W  (hL.sf gτ)  ?_
      refine ⟨?_, ?_⟩
      · (first | omega | exact ⟨by omega, by omega⟩ | assumption)
      refine ⟨?_, ?_⟩
      · (first | omega | exact ⟨by omega, by omega⟩ | assumption)
      rintro ⟨f1, f1q⟩
      refine ⟨?_, ?_⟩
      · (first | exact ⟨by omega, by omega⟩ | assumption)
      refine ⟨fun c2 => ?_, fun c3 => ?_⟩
      · refine ⟨?_, ?_⟩
        · (first | omega | exact ⟨by omega, by omega⟩ | assumption)
        refine ⟨?_, ?_⟩
        · (first | omega | exact ⟨by omega, by omega⟩ | assumption)
        rintro ⟨f4, f4q⟩
        refine ⟨?_, ?_⟩
        · (first | omega | exact ⟨by omega, by omega⟩ | assumption)
        refine ⟨?_, ?_⟩
        · (first | omega | exact ⟨by omega, by omega⟩ | assumption)
        intro σ11 eσ11 gσ11
        refine ⟨?_, ?_⟩
        · (first | omega | exact ⟨by omega, by omega⟩ | assumption)
        refine ⟨?_, ?_⟩
        · (first | omega | exact ⟨by omega, by omega⟩ | assumption)
        rintro ⟨f5, f5q⟩
        refine ⟨?_, ?_⟩
        · (first | omega | exact ⟨by omega, by omega⟩ | assumption)
        refine ⟨?_, ?_⟩
        · (first | omega | exact ⟨by omega, by omega⟩ | assumption)
        intro σ17 eσ17 gσ17
        intro σ18 eσ18 gσ18
        have f18 : ∀ c i, ¬ (c = 631 ∧ i = x1) → ¬ (c = 632 ∧ i = x1) → ¬ (c = 555 ∧ i = 108) → σ18.I c i = τ.I c i := fun c i a b d => (by rw [eσ18, I_ot _ _ _ _ _ _ d, eσ17, I_ot _ _ _ _ _ _ b, eσ11, I_ot _ _ _ _ _ _ a])
        have K18 : KBr σ σ18 := Ch.tr i0 (by rw [eσ18, eσ17, eσ11]; exact Ch.wI (Ch.wI (Ch.wI Ch.rf (by unfold wsBr; omega)) (by unfold wsBr; omega)) (by unfold wsBr; omega))
        have h631 : σ18.I 631 x1 = σ.I 649 x1 := (by rw [eσ18, I_ne _ _ _ _ (by decide), eσ17, I_ne _ _ _ _ (by decide), eσ11, I_same, e649])
        have h632 : σ18.I 632 x1 = σ.I 650 x1 := (by rw [eσ18, I_ne _ _ _ _ (by decide), eσ17, I_same, eσ11, I_ne _ _ _ _ (by decide), e650])
        have h108 : σ18.I 555 108 = 0 := (by rw [eσ18, I_same])
        have hr18 : ∀ q, σ.I 649 x1 ≤ q → q < σ.I 650 x1 → BR1 σ σ18 q := fun q a b => (by have z := i2 q a (by omega); exact ⟨by rw [f18 _ _ (by omega) (by omega) (by omega)]; exact z.1, by rw [f18 _ _ (by omega) (by omega) (by omega)]; exact z.2.1, fun k x y => by rw [f18 _ _ (by omega) (by omega) (by omega)]; exact z.2.2 k x y⟩)
        have hw18 : WKC σ18 := ⟨bd_0_15_eq i3.1 (funext fun i => f18 _ _ (by omega) (by omega) (by omega)), bd_0_20_eq i3.2.1 (funext fun i => f18 _ _ (by omega) (by omega) (by omega)), bd_0_500_eq i3.2.2.1 (funext fun i => f18 _ _ (by omega) (by omega) (by omega)), bd_m1_15_eq i3.2.2.2 (funext fun i => f18 _ _ (by omega) (by omega) (by omega))⟩
        refine ⟨?_, ?_⟩
        · (first | omega | exact ⟨by omega, by omega⟩ | assumption)
        refine ⟨?_, ?_⟩
        · (first | omega | exact ⟨by omega, by omega⟩ | assumption)
        rintro ⟨f6, f6q⟩
        refine ih1 _ _ (((gτ.tr gσ11).tr gσ17).tr gσ18) ⟨?_, ?_, ?_, ?_, ?_, ?_⟩ ?_
        · (clear ih0 ih1 ih2 ih3; first | exact K18 | exact K_)
        · (clear ih0 ih1 ih2 ih3; first | (rw [h631]; omega) | omega)
        · (clear ih0 ih1 ih2 ih3; exact hr18)
        · (clear ih0 ih1 ih2 ih3; first | exact hw18 | exact hw27)
        · (clear ih0 ih1 ih2 ih3; exact ⟨h631, h632⟩)
        · (clear ih0 ih1 ih2 ih3; (rw [h108, h631, gxP_0 (by omega)]))
        · (unfold lt3; omega)
      · refine ⟨?_, ?_⟩
        · (first | omega | exact ⟨by omega, by omega⟩ | assumption)
        refine ⟨?_, ?_⟩
        · (first | omega | exact ⟨by omega, by omega⟩ | assumption)
        rintro ⟨f7, f7q⟩
        refine ⟨?_, ?_⟩
        · (first | omega | exact ⟨by omega, by omega⟩ | assumption)
        refine ⟨?_, ?_⟩
        · (first | omega | exact ⟨by omega, by omega⟩ | assumption)
        intro σ27 eσ27 gσ27
        have f_ : ∀ c i, c ≠ 629 → σ27.I c i = τ.I c i := fun c i q => (by rw [eσ27]; exact I_ne _ _ _ _ q)
        have K_ : KBr σ σ27 := Ch.tr i0 (by rw [eσ27]; exact Ch.wI Ch.rf (by unfold wsBr; omega))
        have b27 : ∀ i, σ27.I 629 i = if i = x2 then σ.I 645 x2 else τ.I 629 i := fun i => (by rw [eσ27, I_wI, e645]; by_cases z : i = x2; (rw [if_pos ⟨rfl, z⟩, if_pos z]); (rw [if_neg (fun w => z w.2), if_neg z]))
        have hr27 : ∀ q, σ.I 649 x1 ≤ q → q < x2 → BR1 σ σ27 q := fun q a b => (by have z := i2 q a b; exact ⟨by rw [b27, if_neg (by omega)]; exact z.1, by rw [f_ _ _ (by decide)]; exact z.2.1, fun k x y => by rw [f_ _ _ (by decide)]; exact z.2.2 k x y⟩)
        have hw27 : WKC σ27 := ⟨bd_0_15_eq i3.1 (funext fun i => f_ _ _ (by decide)), (fun i a b => by rw [b27]; by_cases z : i = x2; (rw [if_pos z]; exact (hdO h6) (by omega)); (rw [if_neg z]; exact i3.2.1 i a b)), bd_0_500_eq i3.2.2.1 (funext fun i => f_ _ _ (by decide)), bd_m1_15_eq i3.2.2.2 (funext fun i => f_ _ _ (by decide))⟩
        refine ih2 _ _ _ (gτ.tr gσ27) ⟨?_, ?_, ?_, ?_, ?_, ?_⟩ ?_
        · (clear ih0 ih1 ih2 ih3; first | exact K18 | exact K_)
        · (clear ih0 ih1 ih2 ih3; (have z := (hdO h6) (by omega); omega))
        · (clear ih0 ih1 ih2 ih3; exact hr27)
        · (clear ih0 ih1 ih2 ih3; first | exact hw18 | exact hw27)
        · (clear ih0 ih1 ih2 ih3; first | exact ⟨by omega, by omega, (by rw [b27, if_pos rfl])⟩ | (rw [h631]; omega))
        · (clear ih0 ih1 ih2 ih3; exact (fun k a b => by omega))
        · (unfold lt3; omega)
    · rintro x2 τ gτ ⟨i0, i1, i2, i3, i4, i5⟩ ha hb hc
      subst ha hb hc
      have kt : ∀ c i, ¬ wsBr c i → τ.I c i = σ.I c i := i0.2
      have hb := p2.2.2.2.2 x1 p0.1 p0.2.2 p1
      have e649 : τ.I 649 x1 = σ.I 649 x1 := kt _ _ (by unfold wsBr; omega)
      have e650 : τ.I 650 x1 = σ.I 650 x1 := kt _ _ (by unfold wsBr; omega)
      have hmb := gxP_b (A := σ.I 646) (a := σ.I 649 x1) (n := x2 - σ.I 649 x1) (fun i a b => p2.2.1 (σ.I 649 x1 + i) (by omega) (by omega))
      have hms := gxP_s (A := σ.I 646) (a := σ.I 649 x1) (n := x2 - σ.I 649 x1) (by omega)
      rw [show σ.I 649 x1 + (x2 - σ.I 649 x1) = x2 by omega] at hms
      have h630 := hdI (fun (h : x2 < σ.I 650 x1) => (i2 x2 (by omega) h).2.1)
      have h7 := hdI (fun (h : x2 < 6000) => p2.2.1 x2 (by omega) h)
      refine ucX9_bringPlaces_123W  (hL.sf gτ)  ?_
      refine ⟨?_, ?_⟩
      · (first | omega | exact ⟨by omega, by omega⟩ | assumption)
      refine ⟨?_, ?_⟩
      · (first | omega | exact ⟨by omega, by omega⟩ | assumption)
      rintro ⟨f1, f1q⟩
      refine ⟨?_, ?_⟩
      · (first | exact ⟨by omega, by omega⟩ | assumption)
      refine ⟨fun c2 => ?_, fun c3 => ?_⟩
      · refine ih3 _ _ gτ ⟨?_, ?_, ?_, ?_, ?_, ?_, ?_⟩ ?_
        · (clear ih0 ih1 ih2 ih3; first | exact K11 | exact i0)
        · (clear ih0 ih1 ih2 ih3; (have z := hmb.1; rw [show hpl σ x1 = gxP (σ.I 646) (σ.I 649 x1) (x2 - σ.I 649 x1) from by unfold hpl; rw [show x2 = σ.I 650 x1 by omega]]; omega))
        · (clear ih0 ih1 ih2 ih3; first | exact hr11 | exact i2)
        · (clear ih0 ih1 ih2 ih3; first | exact hw11 | exact i3)
        · (clear ih0 ih1 ih2 ih3; first | exact ⟨(f11 _ _ (by omega)).trans i4.1, (f11 _ _ (by omega)).trans i4.2⟩ | exact i4)
        · (clear ih0 ih1 ih2 ih3; (rw [i5]; unfold hpl; rw [show x2 = σ.I 650 x1 by omega]))
        · (clear ih0 ih1 ih2 ih3; exact (fun p a b => by omega))
        · (unfold lt3; omega)
      · rintro ⟨f4, f4q⟩
        refine ⟨?_, ?_⟩
        · (first | omega | exact ⟨by omega, by omega⟩ | assumption)
        refine ⟨?_, ?_⟩
        · (first | omega | exact ⟨by omega, by omega⟩ | assumption)
        rintro ⟨f5, f5q⟩
        refine ⟨?_, ?_⟩
        · (clear ih0 ih1 ih2 ih3; (have z := (hdO h630) (by omega); have z7 := (hdO h7) (by omega); exact ⟨by omega, by omega⟩))
        intro σ11 eσ11 gσ11
        have f11 : ∀ c i, ¬ (c = 555 ∧ i = 108) → σ11.I c i = τ.I c i := fun c i q => (by rw [eσ11]; exact I_ot _ _ _ _ _ _ q)
        have K11 : KBr σ σ11 := Ch.tr i0 (by rw [eσ11]; exact Ch.wI Ch.rf (by unfold wsBr; omega))
        have hr11 : ∀ q, σ.I 649 x1 ≤ q → q < σ.I 650 x1 → BR1 σ σ11 q := fun q a b => (by have z := i2 q a b; exact ⟨by rw [f11 _ _ (by omega)]; exact z.1, by rw [f11 _ _ (by omega)]; exact z.2.1, fun k x y => by rw [f11 _ _ (by omega)]; exact z.2.2 k x y⟩)
        have hw11 : WKC σ11 := ⟨bd_0_15_eq i3.1 (funext fun i => f11 _ _ (by omega)), bd_0_20_eq i3.2.1 (funext fun i => f11 _ _ (by omega)), bd_0_500_eq i3.2.2.1 (funext fun i => f11 _ _ (by omega)), bd_m1_15_eq i3.2.2.2 (funext fun i => f11 _ _ (by omega))⟩
        have h30 := (hdO h630) (by omega)
        have h108 : σ11.I 555 108 = gxP (σ.I 646) (σ.I 649 x1) (x2 - σ.I 649 x1 + 1) := (by rw [eσ11, I_same, hms, i5, h30])
        refine ih1 _ _ (gτ.tr gσ11) ⟨?_, ?_, ?_, ?_, ?_, ?_⟩ ?_
        · (clear ih0 ih1 ih2 ih3; first | exact K11 | exact i0)
        · (first | omega | exact ⟨by omega, by omega⟩ | assumption)
        · (clear ih0 ih1 ih2 ih3; first | exact hr11 | exact i2)
        · (clear ih0 ih1 ih2 ih3; first | exact hw11 | exact i3)
        · (clear ih0 ih1 ih2 ih3; first | exact ⟨(f11 _ _ (by omega)).trans i4.1, (f11 _ _ (by omega)).trans i4.2⟩ | exact i4)
        · (clear ih0 ih1 ih2 ih3; (rw [h108]; congr 1; omega))
        · (unfold lt3; omega)
    · rintro x2 x3 τ gτ ⟨i0, i1, i2, i3, i4, i5⟩ ha hb hc
      subst ha hb hc
      have kt : ∀ c i, ¬ wsBr c i → τ.I c i = σ.I c i := i0.2
      have hb := p2.2.2.2.2 x1 p0.1 p0.2.2 p1
      have e649 : τ.I 649 x1 = σ.I 649 x1 := kt _ _ (by unfold wsBr; omega)
      have e650 : τ.I 650 x1 = σ.I 650 x1 := kt _ _ (by unfold wsBr; omega)
      have h6 := p2.1 x2 (by omega) (by omega)
      have h7 := p2.2.1 x2 (by omega) (by omega)
      have e646 : τ.I 646 x2 = σ.I 646 x2 := kt _ _ (by unfold wsBr; omega)
      have e644 : τ.I 644 (20 * x2 + x3) = σ.I 644 (20 * x2 + x3) := kt _ _ (by unfold wsBr; omega)
      have h44 := hdI (fun (h : x3 < σ.I 645 x2) => p2.2.2.1 (20 * x2 + x3) (by omega) (by omega))
      refine ucX9_bringPlaces_31W  (hL.sf gτ)  ?_
      refine ⟨?_, ?_⟩
      · (first | omega | exact ⟨by omega, by omega⟩ | assumption)
      refine ⟨?_, ?_⟩
      · (first | omega | exact ⟨by omega, by omega⟩ | assumption)
      rintro ⟨f1, f1q⟩
      refine ⟨?_, ?_⟩
      · (first | exact ⟨by omega, by omega⟩ | assumption)
      refine ⟨fun c2 => ?_, fun c3 => ?_⟩
      · refine ⟨?_, ?_⟩
        · (first | omega | exact ⟨by omega, by omega⟩ | assumption)
        refine ⟨?_, ?_⟩
        · (first | omega | exact ⟨by omega, by omega⟩ | assumption)
        rintro ⟨f4, f4q⟩
        refine ⟨?_, ?_⟩
        · (first | omega | exact ⟨by omega, by omega⟩ | assumption)
        refine ⟨?_, ?_⟩
        · (first | omega | exact ⟨by omega, by omega⟩ | assumption)
        intro σ11 eσ11 gσ11
        have f_ : ∀ c i, c ≠ 630 → σ11.I c i = τ.I c i := fun c i q => (by rw [eσ11]; exact I_ne _ _ _ _ q)
        have K_ : KBr σ σ11 := Ch.tr i0 (by rw [eσ11]; exact Ch.wI Ch.rf (by unfold wsBr; omega))
        have b11 : ∀ i, σ11.I 630 i = if i = x2 then σ.I 646 x2 else τ.I 630 i := fun i => (by rw [eσ11, I_wI, e646]; by_cases z : i = x2; (rw [if_pos ⟨rfl, z⟩, if_pos z]); (rw [if_neg (fun w => z w.2), if_neg z]))
        have hr11 : ∀ q, σ.I 649 x1 ≤ q → q < x2 + 1 → BR1 σ σ11 q := fun q a b => (by rcases (show q < x2 ∨ q = x2 by omega) with y | y; (have z := i2 q a y; exact ⟨by rw [f_ _ _ (by decide)]; exact z.1, by rw [b11, if_neg (by omega)]; exact z.2.1, fun k x y => by rw [f_ _ _ (by decide)]; exact z.2.2 k x y⟩); (rw [y]; exact ⟨by rw [f_ _ _ (by decide)]; exact i4.2.2, by rw [b11, if_pos rfl], fun k x w => by rw [f_ _ _ (by decide)]; exact i5 k x (by omega)⟩))
        have hw11 : WKC σ11 := ⟨(fun i a b => by rw [b11]; by_cases z : i = x2; (rw [if_pos z]; exact h7); (rw [if_neg z]; exact i3.1 i a b)), bd_0_20_eq i3.2.1 (funext fun i => f_ _ _ (by decide)), bd_0_500_eq i3.2.2.1 (funext fun i => f_ _ _ (by decide)), bd_m1_15_eq i3.2.2.2 (funext fun i => f_ _ _ (by decide))⟩
        refine ih0 _ _ (gτ.tr gσ11) ⟨?_, ?_, ?_, ?_⟩ ?_
        · (clear ih0 ih1 ih2 ih3; exact K_)
        · (first | omega | exact ⟨by omega, by omega⟩ | assumption)
        · (clear ih0 ih1 ih2 ih3; first | exact hr17 | exact hr11)
        · (clear ih0 ih1 ih2 ih3; first | exact hw17 | exact hw11)
        · (unfold lt3; omega)
      · refine ⟨?_, ?_⟩
        · (first | omega | exact ⟨by omega, by omega⟩ | assumption)
        refine ⟨?_, ?_⟩
        · (first | omega | exact ⟨by omega, by omega⟩ | assumption)
        rintro ⟨f5, f5q⟩
        refine ⟨?_, ?_⟩
        · (first | omega | exact ⟨by omega, by omega⟩ | assumption)
        refine ⟨?_, ?_⟩
        · (first | omega | exact ⟨by omega, by omega⟩ | assumption)
        intro σ17 eσ17 gσ17
        have f_ : ∀ c i, c ≠ 628 → σ17.I c i = τ.I c i := fun c i q => (by rw [eσ17]; exact I_ne _ _ _ _ q)
        have K_ : KBr σ σ17 := Ch.tr i0 (by rw [eσ17]; exact Ch.wI Ch.rf (by unfold wsBr; omega))
        have s8 : sx8 (τ.I 644 (20 * x2 + x3)) = σ.I 644 (20 * x2 + x3) := (by rw [e644]; exact sx8_id ((hdO h44) (by omega)).1 ((hdO h44) (by omega)).2)
        have b17 : ∀ i, σ17.I 628 i = if i = 20 * x2 + x3 then σ.I 644 (20 * x2 + x3) else τ.I 628 i := fun i => (by rw [eσ17, I_wI, s8]; by_cases z : i = 20 * x2 + x3; (rw [if_pos ⟨rfl, z⟩, if_pos z]); (rw [if_neg (fun w => z w.2), if_neg z]))
        have hr17 : ∀ q, σ.I 649 x1 ≤ q → q < x2 → BR1 σ σ17 q := fun q a b => (by have z := i2 q a b; have z6 := p2.1 q (by omega) (by omega); exact ⟨by rw [f_ _ _ (by decide)]; exact z.1, by rw [f_ _ _ (by decide)]; exact z.2.1, fun k x y => by rw [b17, if_neg (by omega)]; exact z.2.2 k x y⟩)
        have hk17 : ∀ k, 0 ≤ k → k < x3 + 1 → σ17.I 628 (20 * x2 + k) = σ.I 644 (20 * x2 + k) := fun k a b => (by rw [b17]; by_cases z : k = x3; (rw [if_pos (by omega), z]); (rw [if_neg (by omega)]; exact i5 k a (by omega)))
        have hw17 : WKC σ17 := ⟨bd_0_15_eq i3.1 (funext fun i => f_ _ _ (by decide)), bd_0_20_eq i3.2.1 (funext fun i => f_ _ _ (by decide)), bd_0_500_eq i3.2.2.1 (funext fun i => f_ _ _ (by decide)), bd_m1_15_eq i3.2.2.2 (funext fun i => f_ _ _ (by decide))⟩
        refine ih2 _ _ _ (gτ.tr gσ17) ⟨?_, ?_, ?_, ?_, ?_, ?_⟩ ?_
        · (clear ih0 ih1 ih2 ih3; exact K_)
        · (first | omega | exact ⟨by omega, by omega⟩ | assumption)
        · (clear ih0 ih1 ih2 ih3; first | exact hr17 | exact hr11)
        · (clear ih0 ih1 ih2 ih3; first | exact hw17 | exact hw11)
        · (clear ih0 ih1 ih2 ih3; exact ⟨i4.1, i4.2.1, (f_ _ _ (by decide)).trans i4.2.2⟩)
        · (clear ih0 ih1 ih2 ih3; exact hk17)
        · (unfold lt3; omega)
    · rintro x2 τ gτ ⟨i0, i1, i2, i3, i4, i5, i6⟩ ha hb hc
      subst ha hb hc
      have kt : ∀ c i, ¬ wsBr c i → τ.I c i = σ.I c i := i0.2
      have hb := p2.2.2.2.2 x1 p0.1 p0.2.2 p1
      have e649 : τ.I 649 x1 = σ.I 649 x1 := kt _ _ (by unfold wsBr; omega)
      have e650 : τ.I 650 x1 = σ.I 650 x1 := kt _ _ (by unfold wsBr; omega)
      have hmb := gxP_b (A := σ.I 646) (a := σ.I 649 x1) (n := σ.I 650 x1 - σ.I 649 x1) (fun i a b => p2.2.1 (σ.I 649 x1 + i) (by omega) (by omega))
      have e647 : τ.I 647 (16 * x1 + x2) = σ.I 647 (16 * x1 + x2) := kt _ _ (by unfold wsBr; omega)
      have hmb1 := hmb.1
      have hpe : hpl σ x1 = gxP (σ.I 646) (σ.I 649 x1) (σ.I 650 x1 - σ.I 649 x1) := rfl
      refine ucX9_bringPlaces_160W  (hL.sf gτ)  ?_
      rintro ⟨f1, f1q⟩
      refine ⟨?_, ?_⟩
      · (first | exact ⟨by omega, by omega⟩ | assumption)
      refine ⟨fun c2 => ?_, fun c3 => ?_⟩
      · refine RV_mk ?_
        · refine ⟨?_, ?_, ?_⟩
          · (clear ih0 ih1 ih2 ih3; exact ⟨i2, i4, i5, fun p a b => i6 p a (by omega)⟩)
          · (clear ih0 ih1 ih2 ih3; first | exact hw9 | exact i3)
          · (clear ih0 ih1 ih2 ih3; first | exact K_ | exact i0)
      · refine ⟨?_, ?_⟩
        · (first | omega | exact ⟨by omega, by omega⟩ | assumption)
        refine ⟨?_, ?_⟩
        · (first | omega | exact ⟨by omega, by omega⟩ | assumption)
        rintro ⟨f4, f4q⟩
        refine ⟨?_, ?_⟩
        · (first | omega | exact ⟨by omega, by omega⟩ | assumption)
        refine ⟨?_, ?_⟩
        · (first | omega | exact ⟨by omega, by omega⟩ | assumption)
        intro σ9 eσ9 gσ9
        have f_ : ∀ c i, c ≠ 633 → σ9.I c i = τ.I c i := fun c i q => (by rw [eσ9]; exact I_ne _ _ _ _ q)
        have K_ : KBr σ σ9 := Ch.tr i0 (by rw [eσ9]; exact Ch.wI Ch.rf (by unfold wsBr; omega))
        have b9 : ∀ i, σ9.I 633 i = if i = x2 then σ.I 647 (16 * x1 + x2) else τ.I 633 i := fun i => (by rw [eσ9, I_wI, e647]; by_cases z : i = x2; (rw [if_pos ⟨rfl, z⟩, if_pos z]); (rw [if_neg (fun w => z w.2), if_neg z]))
        have hr9 : ∀ q, σ.I 649 x1 ≤ q → q < σ.I 650 x1 → BR1 σ σ9 q := fun q a b => (by have z := i2 q a b; exact ⟨by rw [f_ _ _ (by decide)]; exact z.1, by rw [f_ _ _ (by decide)]; exact z.2.1, fun k x y => by rw [f_ _ _ (by decide)]; exact z.2.2 k x y⟩)
        have hw9 : WKC σ9 := ⟨bd_0_15_eq i3.1 (funext fun i => f_ _ _ (by decide)), bd_0_20_eq i3.2.1 (funext fun i => f_ _ _ (by decide)), (fun i a b => by rw [b9]; by_cases z : i = x2; (rw [if_pos z]; exact p2.2.2.2.1 _ (by omega) (by omega)); (rw [if_neg z]; exact i3.2.2.1 i a b)), bd_m1_15_eq i3.2.2.2 (funext fun i => f_ _ _ (by decide))⟩
        have h633 : ∀ p, 0 ≤ p → p < x2 + 1 → σ9.I 633 p = σ.I 647 (16 * x1 + p) := fun p a b => (by rw [b9]; by_cases z : p = x2; (rw [if_pos z, z]); (rw [if_neg z]; exact i6 p a (by omega)))
        refine ih3 _ _ (gτ.tr gσ9) ⟨?_, ?_, ?_, ?_, ?_, ?_, ?_⟩ ?_
        · (clear ih0 ih1 ih2 ih3; first | exact K_ | exact i0)
        · (first | omega | exact ⟨by omega, by omega⟩ | assumption)
        · (clear ih0 ih1 ih2 ih3; exact hr9)
        · (clear ih0 ih1 ih2 ih3; first | exact hw9 | exact i3)
        · (clear ih0 ih1 ih2 ih3; exact ⟨(f_ _ _ (by decide)).trans i4.1, (f_ _ _ (by decide)).trans i4.2⟩)
        · (clear ih0 ih1 ih2 ih3; exact (f_ _ _ (by decide)).trans i5)
        · (clear ih0 ih1 ih2 ih3; exact h633)
        · (unfold lt3; omega)
  have k0_ : ∀ (x2 : Int) (τ : Sto), SF σ τ → ((KBr σ τ) ∧ (σ.I 649 x1 ≤ x2 ∧ x2 ≤ σ.I 650 x1) ∧ (∀ q, σ.I 649 x1 ≤ q → q < x2 → BR1 σ τ q) ∧ (WKC τ)) → VV E mX9_bringPlaces (d + 1) 7 [(0, aO 555), (1, aI (x1)), (2, aI (x2))] [] τ (RV (fun τ => (BRP σ τ x1) ∧ (WKC τ) ∧ (KBr σ τ))) := fun z0 z1 h0 h1 => (key _ _ _).1 z0 z1 h0 h1 rfl rfl rfl
  have k1_ : ∀ (x2 : Int) (τ : Sto), SF σ τ → ((KBr σ τ) ∧ (σ.I 649 x1 ≤ x2 ∧ x2 ≤ σ.I 650 x1) ∧ (∀ q, σ.I 649 x1 ≤ q → q < σ.I 650 x1 → BR1 σ τ q) ∧ (WKC τ) ∧ (τ.I 631 x1 = σ.I 649 x1 ∧ τ.I 632 x1 = σ.I 650 x1) ∧ (τ.I 555 108 = gxP (σ.I 646) (σ.I 649 x1) (x2 - σ.I 649 x1))) → VV E mX9_bringPlaces (d + 1) 123 [(0, aO 555), (1, aI (x1)), (2, aI (x2))] [] τ (RV (fun τ => (BRP σ τ x1) ∧ (WKC τ) ∧ (KBr σ τ))) := fun z0 z1 h0 h1 => (key _ _ _).2.1 z0 z1 h0 h1 rfl rfl rfl
  have k2_ : ∀ (x2 : Int) (x3 : Int) (τ : Sto), SF σ τ → ((KBr σ τ) ∧ (0 ≤ x3 ∧ x3 ≤ σ.I 645 x2) ∧ (∀ q, σ.I 649 x1 ≤ q → q < x2 → BR1 σ τ q) ∧ (WKC τ) ∧ ((σ.I 649 x1 ≤ x2) ∧ (x2 < σ.I 650 x1) ∧ (τ.I 629 x2 = σ.I 645 x2)) ∧ (∀ k, 0 ≤ k → k < x3 → τ.I 628 (20 * x2 + k) = σ.I 644 (20 * x2 + k))) → VV E mX9_bringPlaces (d + 1) 31 [(0, aO 555), (1, aI (x1)), (2, aI (x2)), (3, aI (x3))] [] τ (RV (fun τ => (BRP σ τ x1) ∧ (WKC τ) ∧ (KBr σ τ))) := fun z0 z1 z2 h0 h1 => (key _ _ _).2.2.1 z0 z1 z2 h0 h1 rfl rfl rfl
  have k3_ : ∀ (x2 : Int) (τ : Sto), SF σ τ → ((KBr σ τ) ∧ (0 ≤ x2 ∧ x2 ≤ hpl σ x1) ∧ (∀ q, σ.I 649 x1 ≤ q → q < σ.I 650 x1 → BR1 σ τ q) ∧ (WKC τ) ∧ (τ.I 631 x1 = σ.I 649 x1 ∧ τ.I 632 x1 = σ.I 650 x1) ∧ (τ.I 555 108 = hpl σ x1) ∧ (∀ p, 0 ≤ p → p < x2 → τ.I 633 p = σ.I 647 (16 * x1 + p))) → VV E mX9_bringPlaces (d + 1) 160 [(0, aO 555), (1, aI (x1)), (2, aI (x2))] [] τ (RV (fun τ => (BRP σ τ x1) ∧ (WKC τ) ∧ (KBr σ τ))) := fun z0 z1 h0 h1 => (key _ _ _).2.2.2 z0 z1 h0 h1 rfl rfl rfl
  clear key
  refine ucX9_bringPlaces_0W  hL  ?_
  refine ⟨?_, ?_⟩
  · (clear k0_ k1_ k2_ k3_; (have hb := p2.2.2.2.2 x1 p0.1 p0.2.2 p1; omega))
  refine ⟨?_, ?_⟩
  · (first | omega | exact ⟨by omega, by omega⟩ | assumption)
  rintro ⟨f1, f1q⟩
  refine k0_ _ _ SF.rf ⟨?_, ?_, ?_, ?_⟩
  · (clear k0_ k1_ k2_ k3_; exact Ch.rf)
  · (clear k0_ k1_ k2_ k3_; (have hb := p2.2.2.2.2 x1 p0.1 p0.2.2 p1; omega))
  · (clear k0_ k1_ k2_ k3_; exact (fun q a b => by omega))
  · (clear k0_ k1_ k2_ k3_; exact p3)
