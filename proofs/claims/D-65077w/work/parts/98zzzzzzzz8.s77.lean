set_option maxRecDepth 100000
set_option maxHeartbeats 1200000
theorem DX0_facet_0W : DD cX0_facet 0 1 1 (.aload_n 0) := ⟨by decide +kernel, rfl⟩
theorem DX0_facet_1W : DD cX0_facet 1 1 2 (.iload_n 1) := ⟨by decide +kernel, rfl⟩
theorem DX0_facet_2W : DD cX0_facet 2 1 3 (.iconst 1) := ⟨by decide +kernel, rfl⟩
theorem DX0_facet_3W : DD cX0_facet 3 3 6 (.invokevirtual 388) := ⟨by decide +kernel, rfl⟩
theorem DX0_facet_6W : DD cX0_facet 6 3 9 (.ifCond .ne 5) := ⟨by decide +kernel, rfl⟩
theorem DX0_facet_9W : DD cX0_facet 9 1 10 (.iconst (-1)) := ⟨by decide +kernel, rfl⟩
theorem DX0_facet_10W : DD cX0_facet 10 1 11 (.ireturn) := ⟨by decide +kernel, rfl⟩
theorem DX0_facet_11W : DD cX0_facet 11 1 12 (.aload_n 0) := ⟨by decide +kernel, rfl⟩
theorem DX0_facet_12W : DD cX0_facet 12 1 13 (.iconst 0) := ⟨by decide +kernel, rfl⟩
theorem DX0_facet_13W : DD cX0_facet 13 3 16 (.putfield 559) := ⟨by decide +kernel, rfl⟩
theorem DX0_facet_16W : DD cX0_facet 16 1 17 (.aload_n 0) := ⟨by decide +kernel, rfl⟩
theorem DX0_facet_17W : DD cX0_facet 17 1 18 (.iconst 1) := ⟨by decide +kernel, rfl⟩
theorem DX0_facet_18W : DD cX0_facet 18 3 21 (.putfield 642) := ⟨by decide +kernel, rfl⟩
theorem DX0_facet_21W : DD cX0_facet 21 1 22 (.aload_n 0) := ⟨by decide +kernel, rfl⟩
theorem DX0_facet_22W : DD cX0_facet 22 3 25 (.getfield 268) := ⟨by decide +kernel, rfl⟩
theorem DX0_facet_25W : DD cX0_facet 25 3 28 (.getfield 568) := ⟨by decide +kernel, rfl⟩
theorem DX0_facet_28W : DD cX0_facet 28 1 29 (.iload_n 1) := ⟨by decide +kernel, rfl⟩
theorem DX0_facet_29W : DD cX0_facet 29 3 32 (.invokevirtual 619) := ⟨by decide +kernel, rfl⟩
theorem DX0_facet_32W : DD cX0_facet 32 3 35 (.ifCond .ne 5) := ⟨by decide +kernel, rfl⟩
theorem DX0_facet_35W : DD cX0_facet 35 1 36 (.iconst 0) := ⟨by decide +kernel, rfl⟩
theorem DX0_facet_36W : DD cX0_facet 36 1 37 (.ireturn) := ⟨by decide +kernel, rfl⟩
theorem DX0_facet_37W : DD cX0_facet 37 1 38 (.iconst 0) := ⟨by decide +kernel, rfl⟩
theorem DX0_facet_38W : DD cX0_facet 38 1 39 (.istore_n 2) := ⟨by decide +kernel, rfl⟩
theorem DX0_facet_39W : DD cX0_facet 39 1 40 (.iload_n 2) := ⟨by decide +kernel, rfl⟩
theorem DX0_facet_40W : DD cX0_facet 40 1 41 (.aload_n 0) := ⟨by decide +kernel, rfl⟩
theorem DX0_facet_41W : DD cX0_facet 41 3 44 (.getfield 547) := ⟨by decide +kernel, rfl⟩
theorem DX0_facet_44W : DD cX0_facet 44 3 47 (.if_icmp .ge 71) := ⟨by decide +kernel, rfl⟩
theorem DX0_facet_47W : DD cX0_facet 47 1 48 (.aload_n 0) := ⟨by decide +kernel, rfl⟩
theorem DX0_facet_48W : DD cX0_facet 48 3 51 (.getfield 281) := ⟨by decide +kernel, rfl⟩
theorem DX0_facet_51W : DD cX0_facet 51 1 52 (.iload_n 2) := ⟨by decide +kernel, rfl⟩
theorem DX0_facet_52W : DD cX0_facet 52 1 53 (.iaload) := ⟨by decide +kernel, rfl⟩
theorem DX0_facet_53W : DD cX0_facet 53 1 54 (.istore_n 3) := ⟨by decide +kernel, rfl⟩
theorem DX0_facet_54W : DD cX0_facet 54 1 55 (.aload_n 0) := ⟨by decide +kernel, rfl⟩
theorem DX0_facet_55W : DD cX0_facet 55 3 58 (.getfield 194) := ⟨by decide +kernel, rfl⟩
theorem DX0_facet_58W : DD cX0_facet 58 1 59 (.iload_n 3) := ⟨by decide +kernel, rfl⟩
theorem DX0_facet_59W : DD cX0_facet 59 1 60 (.iaload) := ⟨by decide +kernel, rfl⟩
theorem DX0_facet_60W : DD cX0_facet 60 2 62 (.istore 4) := ⟨by decide +kernel, rfl⟩
theorem DX0_facet_62W : DD cX0_facet 62 2 64 (.iload 4) := ⟨by decide +kernel, rfl⟩
theorem DX0_facet_64W : DD cX0_facet 64 1 65 (.aload_n 0) := ⟨by decide +kernel, rfl⟩
theorem DX0_facet_65W : DD cX0_facet 65 3 68 (.getfield 194) := ⟨by decide +kernel, rfl⟩
theorem DX0_facet_68W : DD cX0_facet 68 1 69 (.iload_n 3) := ⟨by decide +kernel, rfl⟩
theorem DX0_facet_69W : DD cX0_facet 69 1 70 (.iaload) := ⟨by decide +kernel, rfl⟩
theorem DX0_facet_70W : DD cX0_facet 70 1 71 (.aload_n 0) := ⟨by decide +kernel, rfl⟩
theorem DX0_facet_71W : DD cX0_facet 71 3 74 (.getfield 197) := ⟨by decide +kernel, rfl⟩
theorem DX0_facet_74W : DD cX0_facet 74 1 75 (.iload_n 3) := ⟨by decide +kernel, rfl⟩
theorem DX0_facet_75W : DD cX0_facet 75 1 76 (.iaload) := ⟨by decide +kernel, rfl⟩
theorem DX0_facet_76W : DD cX0_facet 76 1 77 (.iadd) := ⟨by decide +kernel, rfl⟩
theorem DX0_facet_77W : DD cX0_facet 77 3 80 (.if_icmp .ge 32) := ⟨by decide +kernel, rfl⟩
theorem DX0_facet_80W : DD cX0_facet 80 1 81 (.aload_n 0) := ⟨by decide +kernel, rfl⟩
theorem DX0_facet_81W : DD cX0_facet 81 3 84 (.getfield 143) := ⟨by decide +kernel, rfl⟩
theorem DX0_facet_84W : DD cX0_facet 84 2 86 (.iload 4) := ⟨by decide +kernel, rfl⟩
theorem DX0_facet_86W : DD cX0_facet 86 1 87 (.baload) := ⟨by decide +kernel, rfl⟩
theorem DX0_facet_87W : DD cX0_facet 87 1 88 (.iload_n 1) := ⟨by decide +kernel, rfl⟩
theorem DX0_facet_88W : DD cX0_facet 88 3 91 (.if_icmp .ne 15) := ⟨by decide +kernel, rfl⟩
theorem DX0_facet_91W : DD cX0_facet 91 1 92 (.aload_n 0) := ⟨by decide +kernel, rfl⟩
theorem DX0_facet_92W : DD cX0_facet 92 1 93 (.aload_n 0) := ⟨by decide +kernel, rfl⟩
theorem DX0_facet_93W : DD cX0_facet 93 3 96 (.getfield 166) := ⟨by decide +kernel, rfl⟩
theorem DX0_facet_96W : DD cX0_facet 96 2 98 (.iload 4) := ⟨by decide +kernel, rfl⟩
theorem DX0_facet_98W : DD cX0_facet 98 1 99 (.iaload) := ⟨by decide +kernel, rfl⟩
theorem DX0_facet_99W : DD cX0_facet 99 1 100 (.iload_n 2) := ⟨by decide +kernel, rfl⟩
theorem DX0_facet_100W : DD cX0_facet 100 3 103 (.invokevirtual 645) := ⟨by decide +kernel, rfl⟩
theorem DX0_facet_103W : DD cX0_facet 103 3 106 (.iinc 4 1) := ⟨by decide +kernel, rfl⟩
theorem DX0_facet_106W : DD cX0_facet 106 3 109 (.goto (-44)) := ⟨by decide +kernel, rfl⟩
theorem DX0_facet_109W : DD cX0_facet 109 3 112 (.iinc 2 1) := ⟨by decide +kernel, rfl⟩
theorem DX0_facet_112W : DD cX0_facet 112 3 115 (.goto (-73)) := ⟨by decide +kernel, rfl⟩
theorem DX0_facet_115W : DD cX0_facet 115 1 116 (.iconst 0) := ⟨by decide +kernel, rfl⟩
theorem DX0_facet_116W : DD cX0_facet 116 1 117 (.istore_n 2) := ⟨by decide +kernel, rfl⟩
theorem DX0_facet_117W : DD cX0_facet 117 1 118 (.iload_n 2) := ⟨by decide +kernel, rfl⟩
theorem DX0_facet_118W : DD cX0_facet 118 1 119 (.aload_n 0) := ⟨by decide +kernel, rfl⟩
theorem DX0_facet_119W : DD cX0_facet 119 3 122 (.getfield 559) := ⟨by decide +kernel, rfl⟩
theorem DX0_facet_122W : DD cX0_facet 122 3 125 (.if_icmp .ge 22) := ⟨by decide +kernel, rfl⟩
theorem DX0_facet_125W : DD cX0_facet 125 1 126 (.aload_n 0) := ⟨by decide +kernel, rfl⟩
theorem DX0_facet_126W : DD cX0_facet 126 3 129 (.getfield 311) := ⟨by decide +kernel, rfl⟩
theorem DX0_facet_129W : DD cX0_facet 129 1 130 (.aload_n 0) := ⟨by decide +kernel, rfl⟩
theorem DX0_facet_130W : DD cX0_facet 130 3 133 (.getfield 302) := ⟨by decide +kernel, rfl⟩
theorem DX0_facet_133W : DD cX0_facet 133 1 134 (.iload_n 2) := ⟨by decide +kernel, rfl⟩
theorem DX0_facet_134W : DD cX0_facet 134 1 135 (.laload) := ⟨by decide +kernel, rfl⟩
theorem DX0_facet_135W : DD cX0_facet 135 1 136 (.l2i) := ⟨by decide +kernel, rfl⟩
theorem DX0_facet_136W : DD cX0_facet 136 1 137 (.iconst 0) := ⟨by decide +kernel, rfl⟩
theorem DX0_facet_137W : DD cX0_facet 137 1 138 (.iastore) := ⟨by decide +kernel, rfl⟩
theorem DX0_facet_138W : DD cX0_facet 138 3 141 (.iinc 2 1) := ⟨by decide +kernel, rfl⟩
theorem DX0_facet_141W : DD cX0_facet 141 3 144 (.goto (-24)) := ⟨by decide +kernel, rfl⟩
theorem DX0_facet_144W : DD cX0_facet 144 1 145 (.aload_n 0) := ⟨by decide +kernel, rfl⟩
theorem DX0_facet_145W : DD cX0_facet 145 3 148 (.invokevirtual 648) := ⟨by decide +kernel, rfl⟩
theorem DX0_facet_148W : DD cX0_facet 148 1 149 (.aload_n 0) := ⟨by decide +kernel, rfl⟩
theorem DX0_facet_149W : DD cX0_facet 149 3 152 (.getfield 559) := ⟨by decide +kernel, rfl⟩
theorem DX0_facet_152W : DD cX0_facet 152 1 153 (.ireturn) := ⟨by decide +kernel, rfl⟩
theorem ucX0_facet_0W {E : XE} {d : Nat} {σ : Sto} {Q : Res → Sto → Prop} {x1 : Int} (hL : Lay σ)  (h : 3 ≤ d ∧ (inR x1) ∧ (inR (1 : Int)) ∧ (0 ≤ σ.I 0 9 ∧ σ.I 0 9 ≤ 12) ∧ (((0 ≤ x1 ∧ x1 < σ.I 0 9) ∧ σ.I 16 x1 = (1 : Int)) → (∀ σ7 : Sto, σ7 = σ.wI 0 79 0 → SF σ σ7 → (∀ σ8 : Sto, σ8 = σ7.wI 0 80 1 → SF σ7 σ8 → 1 ≤ d ∧ (0 ≤ x1 ∧ x1 < 12) ∧ ((¬ bt32 (σ8.I 102 1) x1) → VV E mX0_facet (d + 1) 39 [(0, aO 0), (1, aI (x1)), (2, aI (0))] [] σ8 Q) ∧ (¬ (¬ bt32 (σ8.I 102 1) x1) → Q (.inl (some (aI 0))) σ8)))) ∧ (¬ ((0 ≤ x1 ∧ x1 < σ.I 0 9) ∧ σ.I 16 x1 = (1 : Int)) → Q (.inl (some (aI (-1)))) σ)) : VV E mX0_facet (d + 1) 0 [(0, aO 0), (1, aI (x1))] [] σ Q := by
  refine v_aload_n 0 DX0_facet_0W rfl rfl <| v_iload_n 1 DX0_facet_1W rfl rfl <| v_iconst DX0_facet_2W <| ?_
  obtain ⟨k1, h⟩ := h
  obtain ⟨k2, k3, k4, h⟩ := h
  refine v_invV (ci := 0) (as := [aI (x1), aI (1)]) (st := []) DX0_facet_3W rfl okX0_isKind (Or.inl q1363) q1365 (s_0 hL) rfl qs16 npX0_isKind (sp_X0_isKind (σ := σ) (x1 := x1) (x2 := (1 : Int)) k1 hL k2 k3 k4) (Nat.le_of_ble_eq_true rfl) (Nat.le_refl _) (Nat.le_of_ble_eq_true rfl) (RZ_ret (fun c5 => ?_) (fun c5 => ?_)) RZ_thr
  · have h := h.1 c5
    refine v_if_ne (tg := 11) DX0_facet_6W (by decide) ⟨by decide, by decide⟩ (fun c6 => ?_) (fun c6 => absurd c6 (by decide))
    refine v_aload_n 0 DX0_facet_11W rfl rfl <| v_iconst DX0_facet_12W <| ?_
    refine w_putI (ci := 0) (kf := 79) (kz := 79) DX0_facet_13W (s_0 hL) rfl (by decide) rfl (Or.inl ⟨rfl, q1125⟩) (fun _ _ => rfl) ⟨by decide, by decide⟩ rfl rfl (fun σ7 eσ7 gσ7 => ?_)
    have h := h σ7 eσ7 gσ7
    refine v_aload_n 0 DX0_facet_16W rfl rfl <| v_iconst DX0_facet_17W <| ?_
    refine w_putI (ci := 0) (kf := 80) (kz := 80) DX0_facet_18W (s_0 (hL.sf gσ7)) rfl (by decide) rfl (Or.inl ⟨rfl, q1126⟩) (fun _ _ => rfl) ⟨by decide, by decide⟩ (narZ ⟨by decide, by decide⟩) (fitZ ⟨by decide, by decide⟩) (fun σ8 eσ8 gσ8 => ?_)
    have h := h σ8 eσ8 gσ8
    refine v_aload_n 0 DX0_facet_21W rfl rfl <| w_getR (ci := 0) (kf := 60) (kz := 60) DX0_facet_22W (s_0 ((hL.sf gσ7).sf gσ8)) rfl (by decide) rfl (Or.inl q1106) (fun _ _ => rfl) (r_0_60 ((hL.sf gσ7).sf gσ8)) <| w_getR (ci := 5) (kf := 1) (kz := 1) DX0_facet_25W (s_87 ((hL.sf gσ7).sf gσ8)) rfl (by decide) rfl (Or.inr ⟨_, q888⟩) (fun _ _ => rfl) (r_87_1 ((hL.sf gσ7).sf gσ8)) <| v_iload_n 1 DX0_facet_28W rfl rfl <| ?_
    obtain ⟨k9, h⟩ := h
    obtain ⟨k10, h⟩ := h
    refine v_invV (ci := 6) (as := [aI (x1)]) (st := []) DX0_facet_29W rfl okX6_shows (Or.inl q1907) q1764 (s_102 ((hL.sf gσ7).sf gσ8)) rfl q1765 npX6_shows (sp_X6_shows (σ := σ8) (o0 := 102) (x1 := x1) k9 ((hL.sf gσ7).sf gσ8) (lat_102 ((hL.sf gσ7).sf gσ8)) k10) (Nat.le_of_ble_eq_true rfl) (Nat.le_refl _) (Nat.le_of_ble_eq_true rfl) (RZ_ret (fun c11 => ?_) (fun c11 => ?_)) RZ_thr
    · have h := h.1 c11
      refine v_if_ne (tg := 37) DX0_facet_32W (by decide) ⟨by decide, by decide⟩ (fun c12 => ?_) (fun c12 => absurd c12 (by decide))
      refine v_iconst DX0_facet_37W <| v_istore_n DX0_facet_38W rfl (by decide) rfl <| ?_
      exact v_pick [1, 2, 0] rfl h
    · have h := h.2 c11
      refine v_if_ne (tg := 37) DX0_facet_32W (by decide) ⟨by decide, by decide⟩ (fun c13 => absurd c13 (by decide)) (fun c13 => ?_)
      refine v_iconst DX0_facet_35W <| ?_
      exact v_iret DX0_facet_36W rfl rfl h
  · have h := h.2 c5
    refine v_if_ne (tg := 11) DX0_facet_6W (by decide) ⟨by decide, by decide⟩ (fun c14 => absurd c14 (by decide)) (fun c14 => ?_)
    refine v_iconst DX0_facet_9W <| ?_
    exact v_iret DX0_facet_10W rfl rfl h
theorem ucX0_facet_39W {E : XE} {d : Nat} {σ : Sto} {Q : Res → Sto → Prop} {x1 : Int} {x2 : Int} (hL : Lay σ)  (h : (inR (σ.I 0 70) → inR x2 ∧ ((σ.I 0 70) ≤ x2 → VV E mX0_facet (d + 1) 117 [(0, aO 0), (2, aI (0))] [] σ Q) ∧ (x2 < (σ.I 0 70) → 0 ≤ x2 ∧ x2 < 600 ∧ (inR (σ.I 189 x2) → 0 ≤ (σ.I 189 x2) ∧ (σ.I 189 x2) < 601 ∧ (inR (σ.I 42 (σ.I 189 x2)) → VV E mX0_facet (d + 1) 62 [(0, aO 0), (1, aI (x1)), (2, aI (x2)), (3, aI (σ.I 189 x2)), (4, aI (σ.I 42 (σ.I 189 x2)))] [] σ Q))))) : VV E mX0_facet (d + 1) 39 [(0, aO 0), (1, aI (x1)), (2, aI (x2))] [] σ Q := by
  refine v_iload_n 2 DX0_facet_39W rfl rfl <| v_aload_n 0 DX0_facet_40W rfl rfl <| ?_
  refine w_getI (ci := 0) (kf := 70) (kz := 70) DX0_facet_41W (s_0 hL) rfl (by decide) rfl (Or.inl q1116) (fun _ _ => rfl) (fun f1 => ?_)
  have h := h f1
  obtain ⟨k2, h⟩ := h
  refine v_icmp_ge (tg := 115) DX0_facet_44W (by decide) k2 f1 (fun c3 => ?_) (fun c3 => ?_)
  · have h := h.1 c3
    refine v_iconst DX0_facet_115W <| v_istore_n DX0_facet_116W rfl (by decide) rfl <| ?_
    exact v_pick [1, 0] rfl h
  · have h := h.2 c3
    refine v_aload_n 0 DX0_facet_47W rfl rfl <| w_getR (ci := 0) (kf := 66) (kz := 66) DX0_facet_48W (s_0 hL) rfl (by decide) rfl (Or.inl q1112) (fun _ _ => rfl) (r_0_66 hL) <| v_iload_n 2 DX0_facet_51W rfl rfl <| ?_
    obtain ⟨k4, k5, h⟩ := h
    refine v_iald DX0_facet_52W (s_189 hL) k4 k5 (fun f6 => ?_)
    have h := h f6
    refine v_istore_n DX0_facet_53W rfl (by decide) rfl <| v_aload_n 1 DX0_facet_54W rfl rfl <| w_getR (ci := 0) (kf := 33) (kz := 33) DX0_facet_55W (s_0 hL) rfl (by decide) rfl (Or.inl q1061) (fun _ _ => rfl) (r_0_33 hL) <| v_iload_n 0 DX0_facet_58W rfl rfl <| ?_
    obtain ⟨k7, k8, h⟩ := h
    refine v_iald DX0_facet_59W (s_42 hL) k7 k8 (fun f9 => ?_)
    have h := h f9
    refine v_istore DX0_facet_60W (by decide) rfl <| ?_
    exact v_pick [2, 3, 4, 1, 0] rfl h
theorem ucX0_facet_117W {E : XE} {d : Nat} {σ : Sto} {Q : Res → Sto → Prop} {x2 : Int} (hL : Lay σ)  (h : (inR (σ.I 0 79) → inR x2 ∧ ((σ.I 0 79) ≤ x2 → 5 ≤ d ∧ (0 ≤ σ.I 0 79 ∧ σ.I 0 79 ≤ 6000) ∧ (bd_0_20 σ 21 36500) ∧ (GRB σ (σ.I 0 79)) ∧ (∀ σ8 : Sto, SF σ σ8 → ((∃ p, PRM (σ.I 0 79) p ∧ RWG σ σ8 (σ.I 0 79) p ∧ ∀ a b, 0 ≤ a → a < b → b < (σ.I 0 79) → ¬ gbX σ (p b) (p a)) ∧ (KSg σ σ8)) → (inR (σ8.I 0 79) → Q (.inl (some (aI (σ8.I 0 79)))) σ8))) ∧ (x2 < (σ.I 0 79) → 0 ≤ x2 ∧ x2 < 6000 ∧ (inL (σ.I 196 x2) → 0 ≤ (w32 (σ.I 196 x2)) ∧ (w32 (σ.I 196 x2)) < 36500 ∧ (∀ σ15 : Sto, σ15 = σ.wI 199 (w32 (σ.I 196 x2)) 0 → SF σ σ15 → VV E mX0_facet (d + 1) 117 [(0, aO 0), (2, aI (x2 + 1))] [] σ15 Q))))) : VV E mX0_facet (d + 1) 117 [(0, aO 0), (2, aI (x2))] [] σ Q := by
  refine v_iload_n 1 DX0_facet_117W rfl rfl <| v_aload_n 0 DX0_facet_118W rfl rfl <| ?_
  refine w_getI (ci := 0) (kf := 79) (kz := 79) DX0_facet_119W (s_0 hL) rfl (by decide) rfl (Or.inl q1125) (fun _ _ => rfl) (fun f1 => ?_)
  have h := h f1
  obtain ⟨k2, h⟩ := h
  refine v_icmp_ge (tg := 144) DX0_facet_122W (by decide) k2 f1 (fun c3 => ?_) (fun c3 => ?_)
  · have h := h.1 c3
    refine v_aload_n 0 DX0_facet_144W rfl rfl <| ?_
    obtain ⟨k4, h⟩ := h
    obtain ⟨k5, k6, k7, h⟩ := h
    refine v_invV (ci := 0) (as := []) (st := []) DX0_facet_145W rfl okX0_sortGroups (Or.inl q1970) q1972 (s_0 hL) rfl qs87 npX0_sortGroups (sp_X0_sortGroups (σ := σ)  k4 hL k5 k6 k7) (Nat.le_of_ble_eq_true rfl) (Nat.le_refl _) (Nat.le_of_ble_eq_true rfl) (RV_ret (fun σ8 gσ8 eσ8 => ?_)) RV_thr
    have h := h σ8 gσ8 eσ8
    refine v_aload_n 0 DX0_facet_148W rfl rfl <| ?_
    refine w_getI (ci := 0) (kf := 79) (kz := 79) DX0_facet_149W (s_0 (hL.sf gσ8)) rfl (by decide) rfl (Or.inl q1125) (fun _ _ => rfl) (fun f9 => ?_)
    have h := h f9
    exact v_iret DX0_facet_152W rfl rfl h
  · have h := h.2 c3
    refine v_aload_n 0 DX0_facet_125W rfl rfl <| w_getR (ci := 0) (kf := 81) (kz := 81) DX0_facet_126W (s_0 hL) rfl (by decide) rfl (Or.inl q1127) (fun _ _ => rfl) (r_0_81 hL) <| v_aload_n 0 DX0_facet_129W rfl rfl <| w_getR (ci := 0) (kf := 76) (kz := 76) DX0_facet_130W (s_0 hL) rfl (by decide) rfl (Or.inl q1122) (fun _ _ => rfl) (r_0_76 hL) <| v_iload_n 1 DX0_facet_133W rfl rfl <| ?_
    obtain ⟨k10, k11, h⟩ := h
    refine v_lald DX0_facet_134W (s_196 hL) k10 k11 (fun f12 => ?_)
    have h := h f12
    refine v_l2i DX0_facet_135W <| v_w32 <| v_iconst DX0_facet_136W <| ?_
    obtain ⟨k13, k14, h⟩ := h
    refine w_iast DX0_facet_137W (s_199 hL) k13 k14 ⟨by decide, by decide⟩ (fun σ15 eσ15 gσ15 => ?_)
    have h := h σ15 eσ15 gσ15
    refine v_iinc 1 DX0_facet_138W rfl (by decide) rfl <| v_goto (pc' := 117) DX0_facet_141W.1 (by decide) <| ?_
    exact v_pick [1, 0] rfl h
theorem ucX0_facet_62W {E : XE} {d : Nat} {σ : Sto} {Q : Res → Sto → Prop} {x1 : Int} {x2 : Int} {x3 : Int} {x4 : Int} (hL : Lay σ)  (h : 0 ≤ x3 ∧ x3 < 601 ∧ (inR (σ.I 42 x3) → 0 ≤ x3 ∧ x3 < 601 ∧ (inR (σ.I 43 x3) → inR x4 ∧ inR ((σ.I 42 x3) + (σ.I 43 x3)) ∧ (((σ.I 42 x3) + (σ.I 43 x3)) ≤ x4 → VV E mX0_facet (d + 1) 39 [(0, aO 0), (1, aI (x1)), (2, aI (x2 + 1))] [] σ Q) ∧ (x4 < ((σ.I 42 x3) + (σ.I 43 x3)) → 0 ≤ x4 ∧ x4 < 6000 ∧ (-128 ≤ σ.I 26 x4 ∧ σ.I 26 x4 ≤ 127 → inR x1 ∧ ((σ.I 26 x4) ≠ x1 → VV E mX0_facet (d + 1) 62 [(0, aO 0), (1, aI (x1)), (2, aI (x2)), (3, aI (x3)), (4, aI (x4 + 1))] [] σ Q) ∧ ((σ.I 26 x4) = x1 → 0 ≤ x4 ∧ x4 < 6000 ∧ (inR (σ.I 33 x4) → 1 ≤ d ∧ (0 ≤ (σ.I 33 x4) ∧ (σ.I 33 x4) < 36500) ∧ (0 ≤ x2 ∧ x2 < 600) ∧ (0 ≤ σ.I 0 79 ∧ σ.I 0 79 < 6000) ∧ (GOF σ) ∧ (∀ i, 0 ≤ i → i < σ.I 0 79 → 1 ≤ σ.I 197 i ∧ σ.I 197 i ≤ 600) ∧ (∀ σ24 : Sto, SF σ σ24 → ((gsX σ24 = gjn (fun a b => a = b) (gsX σ) x2 (σ.I 33 x4)) ∧ (GOF σ24) ∧ (KGx σ σ24)) → VV E mX0_facet (d + 1) 62 [(0, aO 0), (1, aI (x1)), (2, aI (x2)), (3, aI (x3)), (4, aI (x4 + 1))] [] σ24 Q)))))))) : VV E mX0_facet (d + 1) 62 [(0, aO 0), (1, aI (x1)), (2, aI (x2)), (3, aI (x3)), (4, aI (x4))] [] σ Q := by
  refine v_iload 4 DX0_facet_62W rfl <| v_aload_n 0 DX0_facet_64W rfl rfl <| w_getR (ci := 0) (kf := 33) (kz := 33) DX0_facet_65W (s_0 hL) rfl (by decide) rfl (Or.inl q1061) (fun _ _ => rfl) (r_0_33 hL) <| v_iload_n 3 DX0_facet_68W rfl rfl <| ?_
  obtain ⟨k1, k2, h⟩ := h
  refine v_iald DX0_facet_69W (s_42 hL) k1 k2 (fun f3 => ?_)
  have h := h f3
  refine v_aload_n 0 DX0_facet_70W rfl rfl <| w_getR (ci := 0) (kf := 34) (kz := 34) DX0_facet_71W (s_0 hL) rfl (by decide) rfl (Or.inl q1065) (fun _ _ => rfl) (r_0_34 hL) <| v_iload_n 3 DX0_facet_74W rfl rfl <| ?_
  obtain ⟨k4, k5, h⟩ := h
  refine v_iald DX0_facet_75W (s_43 hL) k4 k5 (fun f6 => ?_)
  have h := h f6
  refine v_iadd DX0_facet_76W <| ?_
  obtain ⟨k7, k8, h⟩ := h
  refine v_icmp_ge (tg := 109) DX0_facet_77W (by decide) k7 k8 (fun c9 => ?_) (fun c9 => ?_)
  · have h := h.1 c9
    refine v_iinc 2 DX0_facet_109W rfl (by decide) rfl <| v_goto (pc' := 39) DX0_facet_112W.1 (by decide) <| ?_
    exact v_pick [1, 2, 0] rfl h
  · have h := h.2 c9
    refine v_aload_n 0 DX0_facet_80W rfl rfl <| w_getR (ci := 0) (kf := 11) (kz := 11) DX0_facet_81W (s_0 hL) rfl (by decide) rfl (Or.inl q1016) (fun _ _ => rfl) (r_0_11 hL) <| v_iload 4 DX0_facet_84W rfl <| ?_
    obtain ⟨k10, k11, h⟩ := h
    refine v_bald DX0_facet_86W (s_26 hL) k10 k11 (fun f12 => ?_)
    have h := h f12
    refine v_iload_n 1 DX0_facet_87W rfl rfl <| ?_
    obtain ⟨k13, h⟩ := h
    refine v_icmp_ne (tg := 103) DX0_facet_88W (by decide) (inR_b f12) k13 (fun c14 => ?_) (fun c14 => ?_)
    · have h := h.1 c14
      refine v_iinc 4 DX0_facet_103W rfl (by decide) rfl <| v_goto (pc' := 62) DX0_facet_106W.1 (by decide) <| ?_
      exact v_pick [1, 2, 3, 4, 0] rfl h
    · have h := h.2 c14
      refine v_aload_n 0 DX0_facet_91W rfl rfl <| v_aload_n 0 DX0_facet_92W rfl rfl <| w_getR (ci := 0) (kf := 18) (kz := 18) DX0_facet_93W (s_0 hL) rfl (by decide) rfl (Or.inl q1030) (fun _ _ => rfl) (r_0_18 hL) <| v_iload 4 DX0_facet_96W rfl <| ?_
      obtain ⟨k15, k16, h⟩ := h
      refine v_iald DX0_facet_98W (s_33 hL) k15 k16 (fun f17 => ?_)
      have h := h f17
      refine v_iload_n 2 DX0_facet_99W rfl rfl <| ?_
      obtain ⟨k18, h⟩ := h
      obtain ⟨k19, k20, k21, k22, k23, h⟩ := h
      refine v_invV (ci := 0) (as := [aI (σ.I 33 x4), aI (x2)]) (st := []) DX0_facet_100W rfl okX0_addTo (Or.inl q1966) q1968 (s_0 hL) rfl qs86 npX0_addTo (sp_X0_addTo (σ := σ) (x1 := σ.I 33 x4) (x2 := x2) k18 hL k19 k20 k21 k22 k23) (Nat.le_of_ble_eq_true rfl) (Nat.le_refl _) (Nat.le_of_ble_eq_true rfl) (RV_ret (fun σ24 gσ24 eσ24 => ?_)) RV_thr
      have h := h σ24 gσ24 eσ24
      refine v_iinc 4 DX0_facet_103W rfl (by decide) rfl <| v_goto (pc' := 62) DX0_facet_106W.1 (by decide) <| ?_
      exact v_pick [1, 2, 3, 4, 0] rfl h
theorem sp_X0_facetW {E : XE} {d : Nat} {σ : Sto} {x1 : Int} (hd : 6 ≤ d) (hL : Lay σ)  (p0 : inR x1) (p1 : 0 ≤ σ.I 0 9 ∧ σ.I 0 9 ≤ 12) (p2 : 0 ≤ σ.I 0 70 ∧ σ.I 0 70 ≤ 600) (p3 : ∀ k, 0 ≤ k → k < σ.I 0 70 → 0 ≤ σ.I 189 k ∧ σ.I 189 k < 601) (p4 : OB σ 42 43) (p5 : SCX σ (σ.I 0 70) ≤ 6000) (p6 : bd_0_20 σ 21 36500) (p7 : ∀ t, 0 ≤ t → t < 36500 → σ.I 199 t = 0) (p8 : ∀ k j, 0 ≤ k → k < σ.I 0 70 → 0 ≤ j → j < σ.I 43 (σ.I 189 k) → σ.I 26 (σ.I 42 (σ.I 189 k) + j) = x1 → σ.I 16 x1 = 1 → 0 ≤ σ.I 33 (σ.I 42 (σ.I 189 k) + j) ∧ σ.I 33 (σ.I 42 (σ.I 189 k) + j) < 36500) : CC E mX0_facet d [aO 0, aI (x1)] σ (RVI (fun y τ => ((¬ ((0 ≤ x1 ∧ x1 < σ.I 0 9) ∧ σ.I 16 x1 = (1 : Int)) → y = -1 ∧ τ = σ) ∧ (((0 ≤ x1 ∧ x1 < σ.I 0 9) ∧ σ.I 16 x1 = (1 : Int)) → y = τ.I 0 79 ∧ τ.I 0 80 = 1 ∧ (0 ≤ τ.I 0 79 ∧ τ.I 0 79 ≤ 6000) ∧ GRX σ τ x1)) ∧ (∀ t, 0 ≤ t → t < 36500 → τ.I 199 t = 0) ∧ (KFx σ τ))) := by
  obtain ⟨d, rfl⟩ : ∃ e, d = e + 1 := ⟨d - 1, by omega⟩
  have p0a := p0.1; have p0b := p0.2
  have key : ∀ wa wb wc : Nat, (∀ (x2 : Int) (τ : Sto), SF σ τ → ((KFx σ τ) ∧ (τ.I 0 80 = 1) ∧ (((0 ≤ x1 ∧ x1 < σ.I 0 9) ∧ σ.I 16 x1 = (1 : Int))) ∧ (¬ bt32 (σ.I 102 1) x1) ∧ (0 ≤ x2 ∧ x2 ≤ σ.I 0 70) ∧ (GIV DX (fun a b => a = b) (gsX τ) (PGX σ (σ.I 33) x1 x2 0) x2) ∧ (τ.I 0 79 ≤ SCX σ x2) ∧ (GOF τ)) → wa = (1000 - x2).toNat → wb = 10000 → wc = 0 → VV E mX0_facet (d + 1) 39 [(0, aO 0), (1, aI (x1)), (2, aI (x2))] [] τ (RVI (fun y τ => ((¬ ((0 ≤ x1 ∧ x1 < σ.I 0 9) ∧ σ.I 16 x1 = (1 : Int)) → y = -1 ∧ τ = σ) ∧ (((0 ≤ x1 ∧ x1 < σ.I 0 9) ∧ σ.I 16 x1 = (1 : Int)) → y = τ.I 0 79 ∧ τ.I 0 80 = 1 ∧ (0 ≤ τ.I 0 79 ∧ τ.I 0 79 ≤ 6000) ∧ GRX σ τ x1)) ∧ (∀ t, 0 ≤ t → t < 36500 → τ.I 199 t = 0) ∧ (KFx σ τ)))) ∧ (∀ (x2 : Int) (τ : Sto), SF σ τ → ((KFx σ τ) ∧ (τ.I 0 80 = 1) ∧ (((0 ≤ x1 ∧ x1 < σ.I 0 9) ∧ σ.I 16 x1 = (1 : Int))) ∧ (GIV DX (fun a b => a = b) (gsX τ) (PGX σ (σ.I 33) x1 (σ.I 0 70) 0) (σ.I 0 70)) ∧ (0 ≤ τ.I 0 79 ∧ τ.I 0 79 ≤ 6000) ∧ (0 ≤ x2 ∧ x2 ≤ τ.I 0 79) ∧ (CLRg τ x2)) → wa = 0 → wb = (6000 - x2).toNat → wc = 0 → VV E mX0_facet (d + 1) 117 [(0, aO 0), (2, aI (x2))] [] τ (RVI (fun y τ => ((¬ ((0 ≤ x1 ∧ x1 < σ.I 0 9) ∧ σ.I 16 x1 = (1 : Int)) → y = -1 ∧ τ = σ) ∧ (((0 ≤ x1 ∧ x1 < σ.I 0 9) ∧ σ.I 16 x1 = (1 : Int)) → y = τ.I 0 79 ∧ τ.I 0 80 = 1 ∧ (0 ≤ τ.I 0 79 ∧ τ.I 0 79 ≤ 6000) ∧ GRX σ τ x1)) ∧ (∀ t, 0 ≤ t → t < 36500 → τ.I 199 t = 0) ∧ (KFx σ τ)))) ∧ (∀ (x2 : Int) (x3 : Int) (x4 : Int) (τ : Sto), SF σ τ → ((KFx σ τ) ∧ (τ.I 0 80 = 1) ∧ (((0 ≤ x1 ∧ x1 < σ.I 0 9) ∧ σ.I 16 x1 = (1 : Int))) ∧ (¬ bt32 (σ.I 102 1) x1) ∧ (τ.I 0 79 ≤ SCX σ x2 + (x4 - σ.I 42 (σ.I 189 x2))) ∧ (0 ≤ x2 ∧ x2 < σ.I 0 70 ∧ x3 = σ.I 189 x2) ∧ (0 ≤ (x4 - σ.I 42 (σ.I 189 x2)) ∧ (x4 - σ.I 42 (σ.I 189 x2)) ≤ σ.I 43 (σ.I 189 x2)) ∧ (GIV DX (fun a b => a = b) (gsX τ) (PGX σ (σ.I 33) x1 x2 (x4 - σ.I 42 (σ.I 189 x2))) (x2 + 1)) ∧ (GOF τ)) → wa = (1000 - x2).toNat → wb = (6001 - x4).toNat → wc = 0 → VV E mX0_facet (d + 1) 62 [(0, aO 0), (1, aI (x1)), (2, aI (x2)), (3, aI (x3)), (4, aI (x4))] [] τ (RVI (fun y τ => ((¬ ((0 ≤ x1 ∧ x1 < σ.I 0 9) ∧ σ.I 16 x1 = (1 : Int)) → y = -1 ∧ τ = σ) ∧ (((0 ≤ x1 ∧ x1 < σ.I 0 9) ∧ σ.I 16 x1 = (1 : Int)) → y = τ.I 0 79 ∧ τ.I 0 80 = 1 ∧ (0 ≤ τ.I 0 79 ∧ τ.I 0 79 ≤ 6000) ∧ GRX σ τ x1)) ∧ (∀ t, 0 ≤ t → t < 36500 → τ.I 199 t = 0) ∧ (KFx σ τ)))) := by
    refine lex3 (fun wa wb wc ih => ?_)
    have ih0 : ∀ (x2 : Int) (τ : Sto), SF σ τ → ((KFx σ τ) ∧ (τ.I 0 80 = 1) ∧ (((0 ≤ x1 ∧ x1 < σ.I 0 9) ∧ σ.I 16 x1 = (1 : Int))) ∧ (¬ bt32 (σ.I 102 1) x1) ∧ (0 ≤ x2 ∧ x2 ≤ σ.I 0 70) ∧ (GIV DX (fun a b => a = b) (gsX τ) (PGX σ (σ.I 33) x1 x2 0) x2) ∧ (τ.I 0 79 ≤ SCX σ x2) ∧ (GOF τ)) → lt3 ((1000 - x2).toNat) 10000 0 wa wb wc → VV E mX0_facet (d + 1) 39 [(0, aO 0), (1, aI (x1)), (2, aI (x2))] [] τ (RVI (fun y τ => ((¬ ((0 ≤ x1 ∧ x1 < σ.I 0 9) ∧ σ.I 16 x1 = (1 : Int)) → y = -1 ∧ τ = σ) ∧ (((0 ≤ x1 ∧ x1 < σ.I 0 9) ∧ σ.I 16 x1 = (1 : Int)) → y = τ.I 0 79 ∧ τ.I 0 80 = 1 ∧ (0 ≤ τ.I 0 79 ∧ τ.I 0 79 ≤ 6000) ∧ GRX σ τ x1)) ∧ (∀ t, 0 ≤ t → t < 36500 → τ.I 199 t = 0) ∧ (KFx σ τ))) := fun z0 z1 h0 h1 hlt => (ih _ _ _ hlt).1 z0 z1 h0 h1 rfl rfl rfl
    have ih1 : ∀ (x2 : Int) (τ : Sto), SF σ τ → ((KFx σ τ) ∧ (τ.I 0 80 = 1) ∧ (((0 ≤ x1 ∧ x1 < σ.I 0 9) ∧ σ.I 16 x1 = (1 : Int))) ∧ (GIV DX (fun a b => a = b) (gsX τ) (PGX σ (σ.I 33) x1 (σ.I 0 70) 0) (σ.I 0 70)) ∧ (0 ≤ τ.I 0 79 ∧ τ.I 0 79 ≤ 6000) ∧ (0 ≤ x2 ∧ x2 ≤ τ.I 0 79) ∧ (CLRg τ x2)) → lt3 0 ((6000 - x2).toNat) 0 wa wb wc → VV E mX0_facet (d + 1) 117 [(0, aO 0), (2, aI (x2))] [] τ (RVI (fun y τ => ((¬ ((0 ≤ x1 ∧ x1 < σ.I 0 9) ∧ σ.I 16 x1 = (1 : Int)) → y = -1 ∧ τ = σ) ∧ (((0 ≤ x1 ∧ x1 < σ.I 0 9) ∧ σ.I 16 x1 = (1 : Int)) → y = τ.I 0 79 ∧ τ.I 0 80 = 1 ∧ (0 ≤ τ.I 0 79 ∧ τ.I 0 79 ≤ 6000) ∧ GRX σ τ x1)) ∧ (∀ t, 0 ≤ t → t < 36500 → τ.I 199 t = 0) ∧ (KFx σ τ))) := fun z0 z1 h0 h1 hlt => (ih _ _ _ hlt).2.1 z0 z1 h0 h1 rfl rfl rfl
    have ih2 : ∀ (x2 : Int) (x3 : Int) (x4 : Int) (τ : Sto), SF σ τ → ((KFx σ τ) ∧ (τ.I 0 80 = 1) ∧ (((0 ≤ x1 ∧ x1 < σ.I 0 9) ∧ σ.I 16 x1 = (1 : Int))) ∧ (¬ bt32 (σ.I 102 1) x1) ∧ (τ.I 0 79 ≤ SCX σ x2 + (x4 - σ.I 42 (σ.I 189 x2))) ∧ (0 ≤ x2 ∧ x2 < σ.I 0 70 ∧ x3 = σ.I 189 x2) ∧ (0 ≤ (x4 - σ.I 42 (σ.I 189 x2)) ∧ (x4 - σ.I 42 (σ.I 189 x2)) ≤ σ.I 43 (σ.I 189 x2)) ∧ (GIV DX (fun a b => a = b) (gsX τ) (PGX σ (σ.I 33) x1 x2 (x4 - σ.I 42 (σ.I 189 x2))) (x2 + 1)) ∧ (GOF τ)) → lt3 ((1000 - x2).toNat) ((6001 - x4).toNat) 0 wa wb wc → VV E mX0_facet (d + 1) 62 [(0, aO 0), (1, aI (x1)), (2, aI (x2)), (3, aI (x3)), (4, aI (x4))] [] τ (RVI (fun y τ => ((¬ ((0 ≤ x1 ∧ x1 < σ.I 0 9) ∧ σ.I 16 x1 = (1 : Int)) → y = -1 ∧ τ = σ) ∧ (((0 ≤ x1 ∧ x1 < σ.I 0 9) ∧ σ.I 16 x1 = (1 : Int)) → y = τ.I 0 79 ∧ τ.I 0 80 = 1 ∧ (0 ≤ τ.I 0 79 ∧ τ.I 0 79 ≤ 6000) ∧ GRX σ τ x1)) ∧ (∀ t, 0 ≤ t → t < 36500 → τ.I 199 t = 0) ∧ (KFx σ τ))) := fun z0 z1 z2 z3 h0 h1 hlt => (ih _ _ _ hlt).2.2 z0 z1 z2 z3 h0 h1 rfl rfl rfl
    clear ih
    refine ⟨?_, ?_, ?_⟩
    · rintro x2 τ gτ ⟨i0, i1, i2, i3, i4, i5, i6, i7⟩ ha hb hc
      subst ha hb hc
      have hk := fun (c : Nat) (q : c ≠ 0 ∧ (c < 196 ∨ 200 < c)) => kfx i0 q
      have c70 : τ.I 0 70 = σ.I 0 70 := Ch.at i0 (by unfold wsFx; omega)
      have hTS : bd_0_20 τ 21 36500 := bd_0_20_eq p6 (hk 21 (by decide))
      have hSC := SCX_le (σ := σ) (a := x2) (b := σ.I 0 70) (by omega) (fun k a b => (p4 _ (p3 k a b).1 (p3 k a b).2).2.1) (by omega)
      have h37 := congrFun (hk 189 (by decide)) x2
      have h3 := hdI (fun (h : x2 < σ.I 0 70) => p3 x2 (by omega) h)
      have hg0 : 0 ≤ τ.I 0 79 := i5.1
      have h4 := hdI (fun (h : x2 < σ.I 0 70) => p4 _ ((hdO h3) h).1 ((hdO h3) h).2)
      have h95 : τ.I 42 (τ.I 189 x2) = σ.I 42 (σ.I 189 x2) := (by rw [hk 42 (by decide), h37])
      refine ucX0_facet_39W  (hL.sf gτ)  ?_
      rintro ⟨f1, f1q⟩
      refine ⟨?_, ?_⟩
      · (first | exact ⟨by omega, by omega⟩ | assumption)
      refine ⟨fun c2 => ?_, fun c3 => ?_⟩
      · refine ih1 _ _ gτ ⟨?_, ?_, ?_, ?_, ?_, ?_, ?_⟩ ?_
        · exact i0
        · (clear ih0 ih1 ih2; first | exact i1 | omega | (rw [eσ8, I_same]))
        · (clear ih0 ih1 ih2; first | assumption | exact i2)
        · (clear ih0 ih1 ih2; (have z : τ.I 42 (τ.I 189 x2) - σ.I 42 (σ.I 189 x2) = 0 := (by omega); first | (rw [z]; exact GIV_next i5 i4.1) | (have y : x2 = σ.I 0 70 := (by omega); rw [← y]; exact i5)))
        · (first | omega | exact ⟨by omega, by omega⟩ | assumption)
        · (first | omega | exact ⟨by omega, by omega⟩ | assumption)
        · (clear ih0 ih1 ih2; exact CLRg_0 i7)
        · (unfold lt3; first | omega | (have z := (hdO h4) (by omega); omega))
      · refine ⟨?_, ?_⟩
        · (first | omega | exact ⟨by omega, by omega⟩ | assumption)
        refine ⟨?_, ?_⟩
        · (first | omega | exact ⟨by omega, by omega⟩ | assumption)
        rintro ⟨f4, f4q⟩
        refine ⟨?_, ?_⟩
        · (clear ih0 ih1 ih2; (have z := (hdO h3) (by omega); omega))
        refine ⟨?_, ?_⟩
        · (clear ih0 ih1 ih2; (have z := (hdO h3) (by omega); omega))
        rintro ⟨f5, f5q⟩
        refine ih2 _ _ _ _ gτ ⟨?_, ?_, ?_, ?_, ?_, ?_, ?_, ?_, ?_⟩ ?_
        · exact i0
        · (clear ih0 ih1 ih2; first | exact i1 | omega | (rw [eσ8, I_same]))
        · (clear ih0 ih1 ih2; first | assumption | exact i2)
        · (clear ih0 ih1 ih2; first | exact i3 | (rw [show σ.I 102 1 = σ8.I 102 1 from (Ch.at (Ch.tr kσ7 kσ8) (by unfold wsFx; omega)).symm]; assumption))
        · (first | omega | exact ⟨by omega, by omega⟩ | assumption)
        · (first | omega | exact ⟨by omega, by omega⟩ | assumption)
        · (clear ih0 ih1 ih2; (have z := (hdO h4) (by omega); omega))
        · (clear ih0 ih1 ih2; (have z : τ.I 42 (τ.I 189 x2) - σ.I 42 (σ.I 189 x2) = 0 := (by omega); first | (rw [z]; exact GIV_next i5 i4.1) | (have y : x2 = σ.I 0 70 := (by omega); rw [← y]; exact i5)))
        · (clear ih0 ih1 ih2; exact i7)
        · (unfold lt3; first | omega | (have z := (hdO h4) (by omega); omega))
    · rintro x2 τ gτ ⟨i0, i1, i2, i3, i4, i5, i6⟩ ha hb hc
      subst ha hb hc
      have hk := fun (c : Nat) (q : c ≠ 0 ∧ (c < 196 ∨ 200 < c)) => kfx i0 q
      have c70 : τ.I 0 70 = σ.I 0 70 := Ch.at i0 (by unfold wsFx; omega)
      have hTS : bd_0_20 τ 21 36500 := bd_0_20_eq p6 (hk 21 (by decide))
      have hgd := hdI (fun (h : x2 < τ.I 0 79) => GIV_D i3 (i := x2) i5.1 h)
      have hgx : (gsX τ).2.1 x2 = τ.I 196 x2 := rfl
      have hw3 := hdI (fun (h : x2 < τ.I 0 79) => (show (0 ≤ τ.I 196 x2 ∧ τ.I 196 x2 < 36500) ∧ w32 (τ.I 196 x2) = τ.I 196 x2 from (by have z := (hdO hgd) h; rw [hgx] at z; exact ⟨z, w32_i _ (by have w := z.1; omega) (by have w := z.2; omega)⟩)))
      have hGRB : GRB τ (τ.I 0 79) := fun _ i a b => (GIV_D i3 (i := i) a b)
      refine ucX0_facet_117W  (hL.sf gτ)  ?_
      rintro ⟨f1, f1q⟩
      refine ⟨?_, ?_⟩
      · (first | exact ⟨by omega, by omega⟩ | assumption)
      refine ⟨fun c2 => ?_, fun c3 => ?_⟩
      · refine ⟨?_, ?_⟩
        · omega
        refine ⟨?_, ?_⟩
        · (first | omega | exact ⟨by omega, by omega⟩ | assumption)
        refine ⟨?_, ?_⟩
        · (clear ih0 ih1 ih2; exact hTS)
        refine ⟨?_, ?_⟩
        · (clear ih0 ih1 ih2; exact hGRB)
        rintro σ8 gσ8 ⟨eσ8_0, eσ8_1⟩
        have kσ8 : KFx τ σ8 := KFx_of_KSg eσ8_1
        have kσ8r := eσ8_1.1.1
        have h8 : σ8.I 0 80 = τ.I 0 80 := Ch.at eσ8_1 (by unfold wsSg; omega)
        have h79 : σ8.I 0 79 = τ.I 0 79 := Ch.at eσ8_1 (by unfold wsSg; omega)
        have h199 : σ8.I 199 = τ.I 199 := ksg eσ8_1 (by decide)
        have hcl := CLRg_e (by have z : x2 = τ.I 0 79 := (by omega); rw [z] at i6; exact i6) i4.1
        have hGR : GRX σ σ8 x1 := (by obtain ⟨p, a, b, c⟩ := eσ8_0; exact ⟨gsX τ, i3, h79.symm, p, a, fun i i0 i1 => b i i0 i1, fun u v u0 uv v1 z => c u v u0 uv v1 ((gbX_s i0 i1).mpr z)⟩)
        rintro ⟨f4, f4q⟩
        refine RVI_mk ?_ ?_
        · (first | exact ⟨by omega, by omega⟩ | assumption)
        · refine ⟨?_, ?_, ?_⟩
          · (clear ih0 ih1 ih2; exact ⟨fun z => absurd i2 z, fun _ => ⟨rfl, by omega, by omega, hGR⟩⟩)
          · (clear ih0 ih1 ih2; (intro t a b; rw [h199]; exact hcl t a b))
          · exact (Ch.tr i0 kσ8)
      · refine ⟨?_, ?_⟩
        · (first | omega | exact ⟨by omega, by omega⟩ | assumption)
        refine ⟨?_, ?_⟩
        · (first | omega | exact ⟨by omega, by omega⟩ | assumption)
        rintro ⟨f5, f5q⟩
        refine ⟨?_, ?_⟩
        · (clear ih0 ih1 ih2; (have z := (hdO hw3) (by omega); rw [z.2]; omega))
        refine ⟨?_, ?_⟩
        · (clear ih0 ih1 ih2; (have z := (hdO hw3) (by omega); rw [z.2]; omega))
        intro σ15 eσ15 gσ15
        have kσ15 : KFx τ σ15 := KFx_w eσ15 (by unfold wsFx; omega)
        have c15 : σ15.I 0 = τ.I 0 := wI_diff eσ15 (by decide)
        have c80 := congrFun c15 80
        have c79 := congrFun c15 79
        refine ih1 _ _ (gτ.tr gσ15) ⟨?_, ?_, ?_, ?_, ?_, ?_, ?_⟩ ?_
        · exact (Ch.tr i0 kσ15)
        · (clear ih0 ih1 ih2; first | exact i1 | omega | (rw [eσ8, I_same]))
        · (clear ih0 ih1 ih2; first | assumption | exact i2)
        · (clear ih0 ih1 ih2; (have z : gsX σ15 = gsX τ := (by unfold gsX; rw [wI_diff (c := 0) eσ15 (by decide), wI_diff (c := 196) eσ15 (by decide), wI_diff (c := 197) eσ15 (by decide), wI_diff (c := 198) eσ15 (by decide), wI_diff (c := 200) eσ15 (by decide)]); rw [z]; exact i3))
        · (first | omega | exact ⟨by omega, by omega⟩ | assumption)
        · (first | omega | exact ⟨by omega, by omega⟩ | assumption)
        · (clear ih0 ih1 ih2; exact CLRg_s i6 i3 (by omega) (by rw [eσ15, ((hdO hw3) (by omega)).2]))
        · (unfold lt3; omega)
    · rintro x2 x3 x4 τ gτ ⟨i0, i1, i2, i3, i4, i5, i6, i7, i8⟩ ha hb hc
      subst ha hb hc
      have hk := fun (c : Nat) (q : c ≠ 0 ∧ (c < 196 ∨ 200 < c)) => kfx i0 q
      have c70 : τ.I 0 70 = σ.I 0 70 := Ch.at i0 (by unfold wsFx; omega)
      have hTS : bd_0_20 τ 21 36500 := bd_0_20_eq p6 (hk 21 (by decide))
      have e5 : τ.I 42 x3 = σ.I 42 (σ.I 189 x2) := (by rw [hk 42 (by decide), i5.2.2])
      have e6 : τ.I 43 x3 = σ.I 43 (σ.I 189 x2) := (by rw [hk 43 (by decide), i5.2.2])
      have hh4 := p3 x2 i5.1 i5.2.1
      have hob := p4 _ hh4.1 hh4.2
      have hle := SCX_le (σ := σ) (a := x2 + 1) (b := σ.I 0 70) (by omega) (fun k a b => (p4 _ (p3 k a b).1 (p3 k a b).2).2.1) (by omega)
      have hse := SCX_s (σ := σ) (n := x2) i5.1
      have e26 := congrFun (hk 26 (by decide)) x4
      have e33 := congrFun (hk 33 (by decide)) x4
      have hx4 : σ.I 42 (σ.I 189 x2) + (x4 - σ.I 42 (σ.I 189 x2)) = x4 := (by omega)
      have hJn : x4 + 1 - σ.I 42 (σ.I 189 x2) = (x4 - σ.I 42 (σ.I 189 x2)) + 1 := (by omega)
      have hg0 : 0 ≤ τ.I 0 79 := i7.1
      have hgc : ∀ i, 0 ≤ i → i < τ.I 0 79 → 1 ≤ τ.I 197 i ∧ τ.I 197 i ≤ 600 := fun i a b => (by have z := GIV_c i7 EQV_eq (i := i) a b; have w : (gsX τ).2.2.1 i = τ.I 197 i := rfl; rw [w] at z; omega)
      have hgc := hdI hgc
      have h8 := hdI (fun (a : (x4 - σ.I 42 (σ.I 189 x2)) < σ.I 43 (σ.I 189 x2)) (b : σ.I 26 x4 = x1) => (by have z := p8 x2 (x4 - σ.I 42 (σ.I 189 x2)) i5.1 i5.2.1 (by omega) a; rw [hx4] at z; exact z b i2.2))
      refine ucX0_facet_62W  (hL.sf gτ)  ?_
      refine ⟨?_, ?_⟩
      · (first | omega | exact ⟨by omega, by omega⟩ | assumption)
      refine ⟨?_, ?_⟩
      · (first | omega | exact ⟨by omega, by omega⟩ | assumption)
      rintro ⟨f1, f1q⟩
      refine ⟨?_, ?_⟩
      · (first | omega | exact ⟨by omega, by omega⟩ | assumption)
      refine ⟨?_, ?_⟩
      · (first | omega | exact ⟨by omega, by omega⟩ | assumption)
      rintro ⟨f2, f2q⟩
      refine ⟨?_, ?_⟩
      · (first | exact ⟨by omega, by omega⟩ | assumption)
      refine ⟨?_, ?_⟩
      · (first | exact ⟨by omega, by omega⟩ | assumption)
      refine ⟨fun c3 => ?_, fun c4 => ?_⟩
      · refine ih0 _ _ gτ ⟨?_, ?_, ?_, ?_, ?_, ?_, ?_, ?_⟩ ?_
        · exact i0
        · (clear ih0 ih1 ih2; first | exact i1 | omega | (rw [eσ8, I_same]))
        · (clear ih0 ih1 ih2; first | assumption | exact i2)
        · (clear ih0 ih1 ih2; first | exact i3 | (rw [show σ.I 102 1 = σ8.I 102 1 from (Ch.at (Ch.tr kσ7 kσ8) (by unfold wsFx; omega)).symm]; assumption))
        · (first | omega | exact ⟨by omega, by omega⟩ | assumption)
        · (clear ih0 ih1 ih2; first | exact GIV_iff i7 (fun k v => by rw [hJn]; exact PGg_f (fun z => by have w := z.1; rw [hx4, ← e26] at w; contradiction)) | (refine GIV_iff hG (fun k v => ?_); rw [hJn]; have w := PGg_t (H := σ.I 189) (Fi := σ.I 42) (Co := σ.I 43) (Vf := σ.I 26) (κ := σ.I 33) (sh := ¬ bt32 (σ.I 102 1) x1) (f := x1) (n := x2) (m := x4 - σ.I 42 (σ.I 189 x2)) (k := k) (u := v) (by omega) ⟨by rw [hx4]; omega, i3⟩; rw [hx4, show x2 + 1 - 1 = x2 by omega, ← e33] at w; exact w) | (refine GIV_iff i7 (fun k v => ?_); have w := PGg_n (H := σ.I 189) (Fi := σ.I 42) (Co := σ.I 43) (Vf := σ.I 26) (κ := σ.I 33) (sh := ¬ bt32 (σ.I 102 1) x1) (f := x1) (n := x2) (k := k) (u := v) i5.1; rw [show σ.I 43 (σ.I 189 x2) = x4 - σ.I 42 (σ.I 189 x2) by omega] at w; exact w))
        · (first | omega | exact ⟨by omega, by omega⟩ | assumption)
        · (clear ih0 ih1 ih2; first | exact i8 | exact eσ24_1)
        · (unfold lt3; omega)
      · refine ⟨?_, ?_⟩
        · (first | omega | exact ⟨by omega, by omega⟩ | assumption)
        refine ⟨?_, ?_⟩
        · (first | omega | exact ⟨by omega, by omega⟩ | assumption)
        rintro ⟨f5, f5q⟩
        refine ⟨?_, ?_⟩
        · (first | exact ⟨by omega, by omega⟩ | assumption)
        refine ⟨fun c6 => ?_, fun c7 => ?_⟩
        · refine ih2 _ _ _ _ gτ ⟨?_, ?_, ?_, ?_, ?_, ?_, ?_, ?_, ?_⟩ ?_
          · exact i0
          · (clear ih0 ih1 ih2; first | exact i1 | omega | (rw [eσ8, I_same]))
          · (clear ih0 ih1 ih2; first | assumption | exact i2)
          · (clear ih0 ih1 ih2; first | exact i3 | (rw [show σ.I 102 1 = σ8.I 102 1 from (Ch.at (Ch.tr kσ7 kσ8) (by unfold wsFx; omega)).symm]; assumption))
          · (first | omega | exact ⟨by omega, by omega⟩ | assumption)
          · (first | omega | exact ⟨by omega, by omega⟩ | assumption)
          · (first | omega | exact ⟨by omega, by omega⟩ | assumption)
          · (clear ih0 ih1 ih2; first | exact GIV_iff i7 (fun k v => by rw [hJn]; exact PGg_f (fun z => by have w := z.1; rw [hx4, ← e26] at w; contradiction)) | (refine GIV_iff hG (fun k v => ?_); rw [hJn]; have w := PGg_t (H := σ.I 189) (Fi := σ.I 42) (Co := σ.I 43) (Vf := σ.I 26) (κ := σ.I 33) (sh := ¬ bt32 (σ.I 102 1) x1) (f := x1) (n := x2) (m := x4 - σ.I 42 (σ.I 189 x2)) (k := k) (u := v) (by omega) ⟨by rw [hx4]; omega, i3⟩; rw [hx4, show x2 + 1 - 1 = x2 by omega, ← e33] at w; exact w) | (refine GIV_iff i7 (fun k v => ?_); have w := PGg_n (H := σ.I 189) (Fi := σ.I 42) (Co := σ.I 43) (Vf := σ.I 26) (κ := σ.I 33) (sh := ¬ bt32 (σ.I 102 1) x1) (f := x1) (n := x2) (k := k) (u := v) i5.1; rw [show σ.I 43 (σ.I 189 x2) = x4 - σ.I 42 (σ.I 189 x2) by omega] at w; exact w))
          · (clear ih0 ih1 ih2; first | exact i8 | exact eσ24_1)
          · (unfold lt3; omega)
        · refine ⟨?_, ?_⟩
          · (first | omega | exact ⟨by omega, by omega⟩ | assumption)
          refine ⟨?_, ?_⟩
          · (first | omega | exact ⟨by omega, by omega⟩ | assumption)
          rintro ⟨f8, f8q⟩
          refine ⟨?_, ?_⟩
          · omega
          refine ⟨?_, ?_⟩
          · (clear ih0 ih1 ih2; (have z := (hdO h8) (by omega) (by omega); omega))
          refine ⟨?_, ?_⟩
          · (first | omega | exact ⟨by omega, by omega⟩ | assumption)
          refine ⟨?_, ?_⟩
          · (first | omega | exact ⟨by omega, by omega⟩ | assumption)
          refine ⟨?_, ?_⟩
          · (clear ih0 ih1 ih2; exact i8)
          refine ⟨?_, ?_⟩
          · (clear ih0 ih1 ih2; exact hdO hgc)
          rintro σ24 gσ24 ⟨eσ24_0, eσ24_1, eσ24_2⟩
          have kσ24 : KFx τ σ24 := KFx_of_KGx eσ24_2
          have kσ24r := eσ24_2.1.1
          have hgn : σ24.I 0 79 = τ.I 0 79 ∨ σ24.I 0 79 = τ.I 0 79 + 1 := (by have z := gjn_le (E := fun a b => a = b) (s := gsX τ) (hit := x2) (key := τ.I 33 x4); rw [← eσ24_0] at z; exact z)
          have h80 : σ24.I 0 80 = τ.I 0 80 := Ch.at eσ24_2 (by unfold wsGx; omega)
          have hv := (hdO h8) (by omega) (by omega)
          have hG := GIV_add (u := σ.I 33 x4) i7 EQV_eq (by omega) hv
          rw [show x2 + 1 - 1 = x2 by omega, ← e33, ← eσ24_0] at hG
          refine ih2 _ _ _ _ (gτ.tr gσ24) ⟨?_, ?_, ?_, ?_, ?_, ?_, ?_, ?_, ?_⟩ ?_
          · exact (Ch.tr i0 kσ24)
          · (clear ih0 ih1 ih2; first | exact i1 | omega | (rw [eσ8, I_same]))
          · (clear ih0 ih1 ih2; first | assumption | exact i2)
          · (clear ih0 ih1 ih2; first | exact i3 | (rw [show σ.I 102 1 = σ8.I 102 1 from (Ch.at (Ch.tr kσ7 kσ8) (by unfold wsFx; omega)).symm]; assumption))
          · (first | omega | exact ⟨by omega, by omega⟩ | assumption)
          · (first | omega | exact ⟨by omega, by omega⟩ | assumption)
          · (first | omega | exact ⟨by omega, by omega⟩ | assumption)
          · (clear ih0 ih1 ih2; first | exact GIV_iff i7 (fun k v => by rw [hJn]; exact PGg_f (fun z => by have w := z.1; rw [hx4, ← e26] at w; contradiction)) | (refine GIV_iff hG (fun k v => ?_); rw [hJn]; have w := PGg_t (H := σ.I 189) (Fi := σ.I 42) (Co := σ.I 43) (Vf := σ.I 26) (κ := σ.I 33) (sh := ¬ bt32 (σ.I 102 1) x1) (f := x1) (n := x2) (m := x4 - σ.I 42 (σ.I 189 x2)) (k := k) (u := v) (by omega) ⟨by rw [hx4]; omega, i3⟩; rw [hx4, show x2 + 1 - 1 = x2 by omega, ← e33] at w; exact w) | (refine GIV_iff i7 (fun k v => ?_); have w := PGg_n (H := σ.I 189) (Fi := σ.I 42) (Co := σ.I 43) (Vf := σ.I 26) (κ := σ.I 33) (sh := ¬ bt32 (σ.I 102 1) x1) (f := x1) (n := x2) (k := k) (u := v) i5.1; rw [show σ.I 43 (σ.I 189 x2) = x4 - σ.I 42 (σ.I 189 x2) by omega] at w; exact w))
          · (clear ih0 ih1 ih2; first | exact i8 | exact eσ24_1)
          · (unfold lt3; omega)
  have k0_ : ∀ (x2 : Int) (τ : Sto), SF σ τ → ((KFx σ τ) ∧ (τ.I 0 80 = 1) ∧ (((0 ≤ x1 ∧ x1 < σ.I 0 9) ∧ σ.I 16 x1 = (1 : Int))) ∧ (¬ bt32 (σ.I 102 1) x1) ∧ (0 ≤ x2 ∧ x2 ≤ σ.I 0 70) ∧ (GIV DX (fun a b => a = b) (gsX τ) (PGX σ (σ.I 33) x1 x2 0) x2) ∧ (τ.I 0 79 ≤ SCX σ x2) ∧ (GOF τ)) → VV E mX0_facet (d + 1) 39 [(0, aO 0), (1, aI (x1)), (2, aI (x2))] [] τ (RVI (fun y τ => ((¬ ((0 ≤ x1 ∧ x1 < σ.I 0 9) ∧ σ.I 16 x1 = (1 : Int)) → y = -1 ∧ τ = σ) ∧ (((0 ≤ x1 ∧ x1 < σ.I 0 9) ∧ σ.I 16 x1 = (1 : Int)) → y = τ.I 0 79 ∧ τ.I 0 80 = 1 ∧ (0 ≤ τ.I 0 79 ∧ τ.I 0 79 ≤ 6000) ∧ GRX σ τ x1)) ∧ (∀ t, 0 ≤ t → t < 36500 → τ.I 199 t = 0) ∧ (KFx σ τ))) := fun z0 z1 h0 h1 => (key _ _ _).1 z0 z1 h0 h1 rfl rfl rfl
  have k1_ : ∀ (x2 : Int) (τ : Sto), SF σ τ → ((KFx σ τ) ∧ (τ.I 0 80 = 1) ∧ (((0 ≤ x1 ∧ x1 < σ.I 0 9) ∧ σ.I 16 x1 = (1 : Int))) ∧ (GIV DX (fun a b => a = b) (gsX τ) (PGX σ (σ.I 33) x1 (σ.I 0 70) 0) (σ.I 0 70)) ∧ (0 ≤ τ.I 0 79 ∧ τ.I 0 79 ≤ 6000) ∧ (0 ≤ x2 ∧ x2 ≤ τ.I 0 79) ∧ (CLRg τ x2)) → VV E mX0_facet (d + 1) 117 [(0, aO 0), (2, aI (x2))] [] τ (RVI (fun y τ => ((¬ ((0 ≤ x1 ∧ x1 < σ.I 0 9) ∧ σ.I 16 x1 = (1 : Int)) → y = -1 ∧ τ = σ) ∧ (((0 ≤ x1 ∧ x1 < σ.I 0 9) ∧ σ.I 16 x1 = (1 : Int)) → y = τ.I 0 79 ∧ τ.I 0 80 = 1 ∧ (0 ≤ τ.I 0 79 ∧ τ.I 0 79 ≤ 6000) ∧ GRX σ τ x1)) ∧ (∀ t, 0 ≤ t → t < 36500 → τ.I 199 t = 0) ∧ (KFx σ τ))) := fun z0 z1 h0 h1 => (key _ _ _).2.1 z0 z1 h0 h1 rfl rfl rfl
  have k2_ : ∀ (x2 : Int) (x3 : Int) (x4 : Int) (τ : Sto), SF σ τ → ((KFx σ τ) ∧ (τ.I 0 80 = 1) ∧ (((0 ≤ x1 ∧ x1 < σ.I 0 9) ∧ σ.I 16 x1 = (1 : Int))) ∧ (¬ bt32 (σ.I 102 1) x1) ∧ (τ.I 0 79 ≤ SCX σ x2 + (x4 - σ.I 42 (σ.I 189 x2))) ∧ (0 ≤ x2 ∧ x2 < σ.I 0 70 ∧ x3 = σ.I 189 x2) ∧ (0 ≤ (x4 - σ.I 42 (σ.I 189 x2)) ∧ (x4 - σ.I 42 (σ.I 189 x2)) ≤ σ.I 43 (σ.I 189 x2)) ∧ (GIV DX (fun a b => a = b) (gsX τ) (PGX σ (σ.I 33) x1 x2 (x4 - σ.I 42 (σ.I 189 x2))) (x2 + 1)) ∧ (GOF τ)) → VV E mX0_facet (d + 1) 62 [(0, aO 0), (1, aI (x1)), (2, aI (x2)), (3, aI (x3)), (4, aI (x4))] [] τ (RVI (fun y τ => ((¬ ((0 ≤ x1 ∧ x1 < σ.I 0 9) ∧ σ.I 16 x1 = (1 : Int)) → y = -1 ∧ τ = σ) ∧ (((0 ≤ x1 ∧ x1 < σ.I 0 9) ∧ σ.I 16 x1 = (1 : Int)) → y = τ.I 0 79 ∧ τ.I 0 80 = 1 ∧ (0 ≤ τ.I 0 79 ∧ τ.I 0 79 ≤ 6000) ∧ GRX σ τ x1)) ∧ (∀ t, 0 ≤ t → t < 36500 → τ.I 199 t = 0) ∧ (KFx σ τ))) := fun z0 z1 z2 z3 h0 h1 => (key _ _ _).2.2 z0 z1 z2 z3 h0 h1 rfl rfl rfl
  clear key
  refine ucX0_facet_0W  hL  ?_
  refine ⟨?_, ?_⟩
  · omega
  refine ⟨?_, ?_⟩
  · (first | omega | exact ⟨by omega, by omega⟩ | assumption)
  refine ⟨?_, ?_⟩
  · (first | omega | exact ⟨by omega, by omega⟩ | assumption)
  refine ⟨?_, ?_⟩
  · (first | omega | exact ⟨by omega, by omega⟩ | assumption)
  refine ⟨fun c1 => ?_, fun c2 => ?_⟩
  · intro σ7 eσ7 gσ7
    have kσ7 : KFx σ σ7 := KFx_w eσ7 (by unfold wsFx; omega)
    intro σ8 eσ8 gσ8
    have kσ8 : KFx σ7 σ8 := KFx_w eσ8 (by unfold wsFx; omega)
    refine ⟨?_, ?_⟩
    · omega
    refine ⟨?_, ?_⟩
    · (first | omega | exact ⟨by omega, by omega⟩ | assumption)
    refine ⟨fun c3 => ?_, fun c4 => ?_⟩
    · refine k0_ _ _ (gσ7.tr gσ8) ⟨?_, ?_, ?_, ?_, ?_, ?_, ?_, ?_⟩
      · exact (Ch.tr kσ7 kσ8)
      · (clear k0_ k1_ k2_; first | exact i1 | omega | (rw [eσ8, I_same]))
      · (clear k0_ k1_ k2_; first | assumption | exact i2)
      · (clear k0_ k1_ k2_; first | exact i3 | (rw [show σ.I 102 1 = σ8.I 102 1 from (Ch.at (Ch.tr kσ7 kσ8) (by unfold wsFx; omega)).symm]; assumption))
      · (first | omega | exact ⟨by omega, by omega⟩ | assumption)
      · (clear k0_ k1_ k2_; (refine GIV_iff (GIV_0 ?_) (fun k v => PGg_0); show σ8.I 0 79 = 0; rw [eσ8, I_nj _ _ _ _ (by decide), eσ7, I_same]))
      · (clear k0_ k1_ k2_; (have z : SCX σ 0 = 0 := smP_0 _ _ _ (Int.le_refl _); have y : σ8.I 0 79 = 0 := (by rw [eσ8, I_nj _ _ _ _ (by decide), eσ7, I_same]); omega))
      · (clear k0_ k1_ k2_; (intro t a b; have h79 : σ8.I 0 79 = 0 := (by rw [eσ8, I_nj _ _ _ _ (by decide), eσ7, I_same]); rw [wI_diff (c := 199) eσ8 (by decide), wI_diff (c := 199) eσ7 (by decide), h79, fsF_e _ _ _ (by omega), p7 t a b]; rfl))
    · refine RVI_mk ?_ ?_
      · (first | exact ⟨by omega, by omega⟩ | assumption)
      · refine ⟨?_, ?_, ?_⟩
        · (clear k0_ k1_ k2_; first | exact ⟨fun _ => ⟨rfl, rfl⟩, fun z => absurd z (by assumption)⟩ | (have h79 : σ8.I 0 79 = 0 := (by rw [eσ8, I_nj _ _ _ _ (by decide), eσ7, I_same]); exact ⟨fun z => absurd (by assumption) z, fun _ => ⟨h79.symm, (by rw [eσ8, I_same]), by omega, ⟨gsX σ8, GIV_iff (n := σ.I 0 70) ⟨by show 0 ≤ σ8.I 0 79; omega, fun k u z => z.elim, fun i a b => by have w : i < σ8.I 0 79 := b; omega, fun k u z => z.elim, fun i j a b c => by have w : j < σ8.I 0 79 := c; omega, fun i a b => by have w : i < σ8.I 0 79 := b; omega⟩ (fun k v => PGg_no (by rw [show σ.I 102 1 = σ8.I 102 1 from (Ch.at (Ch.tr kσ7 kσ8) (by unfold wsFx; omega)).symm]; assumption)), rfl, fun i => i, PRM_id, fun i a b => ⟨rfl, rfl, rfl⟩, fun a b a0 ab b1 => by have w : b < σ8.I 0 79 := b1; omega⟩⟩⟩))
        · (clear k0_ k1_ k2_; first | exact p7 | (intro t a b; rw [wI_diff (c := 199) eσ8 (by decide), wI_diff (c := 199) eσ7 (by decide)]; exact p7 t a b))
        · exact (Ch.tr kσ7 kσ8)
  · refine RVI_mk ?_ ?_
    · (first | exact ⟨by omega, by omega⟩ | assumption)
    · refine ⟨?_, ?_, ?_⟩
      · (clear k0_ k1_ k2_; first | exact ⟨fun _ => ⟨rfl, rfl⟩, fun z => absurd z (by assumption)⟩ | (have h79 : σ8.I 0 79 = 0 := (by rw [eσ8, I_nj _ _ _ _ (by decide), eσ7, I_same]); exact ⟨fun z => absurd (by assumption) z, fun _ => ⟨h79.symm, (by rw [eσ8, I_same]), by omega, ⟨gsX σ8, GIV_iff (n := σ.I 0 70) ⟨by show 0 ≤ σ8.I 0 79; omega, fun k u z => z.elim, fun i a b => by have w : i < σ8.I 0 79 := b; omega, fun k u z => z.elim, fun i j a b c => by have w : j < σ8.I 0 79 := c; omega, fun i a b => by have w : i < σ8.I 0 79 := b; omega⟩ (fun k v => PGg_no (by rw [show σ.I 102 1 = σ8.I 102 1 from (Ch.at (Ch.tr kσ7 kσ8) (by unfold wsFx; omega)).symm]; assumption)), rfl, fun i => i, PRM_id, fun i a b => ⟨rfl, rfl, rfl⟩, fun a b a0 ab b1 => by have w : b < σ8.I 0 79 := b1; omega⟩⟩⟩))
      · (clear k0_ k1_ k2_; first | exact p7 | (intro t a b; rw [wI_diff (c := 199) eσ8 (by decide), wI_diff (c := 199) eσ7 (by decide)]; exact p7 t a b))
      · exact KFx_rf
