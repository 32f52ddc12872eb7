set_option maxRecDepth 100000
set_option maxHeartbeats 4000000
theorem DX9_analyse_0W : DD cX9_analyse 0 1 1 (.aload_n 0) := ⟨by decide +kernel, rfl⟩
theorem DX9_analyse_1W : DD cX9_analyse 1 3 4 (.invokevirtual 412) := ⟨by decide +kernel, rfl⟩
theorem DX9_analyse_4W : DD cX9_analyse 4 1 5 (.istore_n 2) := ⟨by decide +kernel, rfl⟩
theorem DX9_analyse_5W : DD cX9_analyse 5 1 6 (.aload_n 0) := ⟨by decide +kernel, rfl⟩
theorem DX9_analyse_6W : DD cX9_analyse 6 1 7 (.iload_n 1) := ⟨by decide +kernel, rfl⟩
theorem DX9_analyse_7W : DD cX9_analyse 7 3 10 (.invokevirtual 416) := ⟨by decide +kernel, rfl⟩
theorem DX9_analyse_10W : DD cX9_analyse 10 3 13 (.ifCond .ne 5) := ⟨by decide +kernel, rfl⟩
theorem DX9_analyse_13W : DD cX9_analyse 13 1 14 (.iconst (-1)) := ⟨by decide +kernel, rfl⟩
theorem DX9_analyse_14W : DD cX9_analyse 14 1 15 (.ireturn) := ⟨by decide +kernel, rfl⟩
theorem DX9_analyse_15W : DD cX9_analyse 15 1 16 (.aload_n 0) := ⟨by decide +kernel, rfl⟩
theorem DX9_analyse_16W : DD cX9_analyse 16 1 17 (.iload_n 1) := ⟨by decide +kernel, rfl⟩
theorem DX9_analyse_17W : DD cX9_analyse 17 1 18 (.aload_n 0) := ⟨by decide +kernel, rfl⟩
theorem DX9_analyse_18W : DD cX9_analyse 18 3 21 (.getfield 21) := ⟨by decide +kernel, rfl⟩
theorem DX9_analyse_21W : DD cX9_analyse 21 1 22 (.iconst 0) := ⟨by decide +kernel, rfl⟩
theorem DX9_analyse_22W : DD cX9_analyse 22 1 23 (.iload_n 2) := ⟨by decide +kernel, rfl⟩
theorem DX9_analyse_23W : DD cX9_analyse 23 3 26 (.invokevirtual 559) := ⟨by decide +kernel, rfl⟩
theorem DX9_analyse_26W : DD cX9_analyse 26 1 27 (.aload_n 0) := ⟨by decide +kernel, rfl⟩
theorem DX9_analyse_27W : DD cX9_analyse 27 1 28 (.aload_n 0) := ⟨by decide +kernel, rfl⟩
theorem DX9_analyse_28W : DD cX9_analyse 28 3 31 (.getfield 549) := ⟨by decide +kernel, rfl⟩
theorem DX9_analyse_31W : DD cX9_analyse 31 3 34 (.putfield 562) := ⟨by decide +kernel, rfl⟩
theorem DX9_analyse_34W : DD cX9_analyse 34 1 35 (.iconst 0) := ⟨by decide +kernel, rfl⟩
theorem DX9_analyse_35W : DD cX9_analyse 35 1 36 (.istore_n 3) := ⟨by decide +kernel, rfl⟩
theorem DX9_analyse_36W : DD cX9_analyse 36 1 37 (.iload_n 3) := ⟨by decide +kernel, rfl⟩
theorem DX9_analyse_37W : DD cX9_analyse 37 1 38 (.aload_n 0) := ⟨by decide +kernel, rfl⟩
theorem DX9_analyse_38W : DD cX9_analyse 38 3 41 (.getfield 549) := ⟨by decide +kernel, rfl⟩
theorem DX9_analyse_41W : DD cX9_analyse 41 3 44 (.if_icmp .ge 111) := ⟨by decide +kernel, rfl⟩
theorem DX9_analyse_44W : DD cX9_analyse 44 1 45 (.aload_n 0) := ⟨by decide +kernel, rfl⟩
theorem DX9_analyse_45W : DD cX9_analyse 45 3 48 (.getfield 78) := ⟨by decide +kernel, rfl⟩
theorem DX9_analyse_48W : DD cX9_analyse 48 1 49 (.iconst 4) := ⟨by decide +kernel, rfl⟩
theorem DX9_analyse_49W : DD cX9_analyse 49 1 50 (.iload_n 3) := ⟨by decide +kernel, rfl⟩
theorem DX9_analyse_50W : DD cX9_analyse 50 1 51 (.imul) := ⟨by decide +kernel, rfl⟩
theorem DX9_analyse_51W : DD cX9_analyse 51 1 52 (.aload_n 0) := ⟨by decide +kernel, rfl⟩
theorem DX9_analyse_52W : DD cX9_analyse 52 3 55 (.getfield 60) := ⟨by decide +kernel, rfl⟩
theorem DX9_analyse_55W : DD cX9_analyse 55 1 56 (.iload_n 3) := ⟨by decide +kernel, rfl⟩
theorem DX9_analyse_56W : DD cX9_analyse 56 1 57 (.iaload) := ⟨by decide +kernel, rfl⟩
theorem DX9_analyse_57W : DD cX9_analyse 57 1 58 (.iastore) := ⟨by decide +kernel, rfl⟩
theorem DX9_analyse_58W : DD cX9_analyse 58 1 59 (.aload_n 0) := ⟨by decide +kernel, rfl⟩
theorem DX9_analyse_59W : DD cX9_analyse 59 3 62 (.getfield 78) := ⟨by decide +kernel, rfl⟩
theorem DX9_analyse_62W : DD cX9_analyse 62 1 63 (.iconst 4) := ⟨by decide +kernel, rfl⟩
theorem DX9_analyse_63W : DD cX9_analyse 63 1 64 (.iload_n 3) := ⟨by decide +kernel, rfl⟩
theorem DX9_analyse_64W : DD cX9_analyse 64 1 65 (.imul) := ⟨by decide +kernel, rfl⟩
theorem DX9_analyse_65W : DD cX9_analyse 65 1 66 (.iconst 1) := ⟨by decide +kernel, rfl⟩
theorem DX9_analyse_66W : DD cX9_analyse 66 1 67 (.iadd) := ⟨by decide +kernel, rfl⟩
theorem DX9_analyse_67W : DD cX9_analyse 67 1 68 (.aload_n 0) := ⟨by decide +kernel, rfl⟩
theorem DX9_analyse_68W : DD cX9_analyse 68 3 71 (.getfield 63) := ⟨by decide +kernel, rfl⟩
theorem DX9_analyse_71W : DD cX9_analyse 71 1 72 (.iload_n 3) := ⟨by decide +kernel, rfl⟩
theorem DX9_analyse_72W : DD cX9_analyse 72 1 73 (.iaload) := ⟨by decide +kernel, rfl⟩
theorem DX9_analyse_73W : DD cX9_analyse 73 1 74 (.iastore) := ⟨by decide +kernel, rfl⟩
theorem DX9_analyse_74W : DD cX9_analyse 74 1 75 (.aload_n 0) := ⟨by decide +kernel, rfl⟩
theorem DX9_analyse_75W : DD cX9_analyse 75 3 78 (.getfield 78) := ⟨by decide +kernel, rfl⟩
theorem DX9_analyse_78W : DD cX9_analyse 78 1 79 (.iconst 4) := ⟨by decide +kernel, rfl⟩
theorem DX9_analyse_79W : DD cX9_analyse 79 1 80 (.iload_n 3) := ⟨by decide +kernel, rfl⟩
theorem DX9_analyse_80W : DD cX9_analyse 80 1 81 (.imul) := ⟨by decide +kernel, rfl⟩
theorem DX9_analyse_81W : DD cX9_analyse 81 1 82 (.iconst 2) := ⟨by decide +kernel, rfl⟩
theorem DX9_analyse_82W : DD cX9_analyse 82 1 83 (.iadd) := ⟨by decide +kernel, rfl⟩
theorem DX9_analyse_83W : DD cX9_analyse 83 1 84 (.aload_n 0) := ⟨by decide +kernel, rfl⟩
theorem DX9_analyse_84W : DD cX9_analyse 84 3 87 (.getfield 66) := ⟨by decide +kernel, rfl⟩
theorem DX9_analyse_87W : DD cX9_analyse 87 1 88 (.iload_n 3) := ⟨by decide +kernel, rfl⟩
theorem DX9_analyse_88W : DD cX9_analyse 88 1 89 (.iaload) := ⟨by decide +kernel, rfl⟩
theorem DX9_analyse_89W : DD cX9_analyse 89 1 90 (.iastore) := ⟨by decide +kernel, rfl⟩
theorem DX9_analyse_90W : DD cX9_analyse 90 1 91 (.aload_n 0) := ⟨by decide +kernel, rfl⟩
theorem DX9_analyse_91W : DD cX9_analyse 91 3 94 (.getfield 78) := ⟨by decide +kernel, rfl⟩
theorem DX9_analyse_94W : DD cX9_analyse 94 1 95 (.iconst 4) := ⟨by decide +kernel, rfl⟩
theorem DX9_analyse_95W : DD cX9_analyse 95 1 96 (.iload_n 3) := ⟨by decide +kernel, rfl⟩
theorem DX9_analyse_96W : DD cX9_analyse 96 1 97 (.imul) := ⟨by decide +kernel, rfl⟩
theorem DX9_analyse_97W : DD cX9_analyse 97 1 98 (.iconst 3) := ⟨by decide +kernel, rfl⟩
theorem DX9_analyse_98W : DD cX9_analyse 98 1 99 (.iadd) := ⟨by decide +kernel, rfl⟩
theorem DX9_analyse_99W : DD cX9_analyse 99 1 100 (.aload_n 0) := ⟨by decide +kernel, rfl⟩
theorem DX9_analyse_100W : DD cX9_analyse 100 3 103 (.getfield 57) := ⟨by decide +kernel, rfl⟩
theorem DX9_analyse_103W : DD cX9_analyse 103 1 104 (.iload_n 3) := ⟨by decide +kernel, rfl⟩
theorem DX9_analyse_104W : DD cX9_analyse 104 1 105 (.iaload) := ⟨by decide +kernel, rfl⟩
theorem DX9_analyse_105W : DD cX9_analyse 105 1 106 (.iastore) := ⟨by decide +kernel, rfl⟩
theorem DX9_analyse_106W : DD cX9_analyse 106 1 107 (.iconst 0) := ⟨by decide +kernel, rfl⟩
theorem DX9_analyse_107W : DD cX9_analyse 107 2 109 (.istore 4) := ⟨by decide +kernel, rfl⟩
theorem DX9_analyse_109W : DD cX9_analyse 109 2 111 (.iload 4) := ⟨by decide +kernel, rfl⟩
theorem DX9_analyse_111W : DD cX9_analyse 111 2 113 (.bipush 20) := ⟨by decide +kernel, rfl⟩
theorem DX9_analyse_113W : DD cX9_analyse 113 3 116 (.if_icmp .ge 33) := ⟨by decide +kernel, rfl⟩
theorem DX9_analyse_116W : DD cX9_analyse 116 1 117 (.aload_n 0) := ⟨by decide +kernel, rfl⟩
theorem DX9_analyse_117W : DD cX9_analyse 117 3 120 (.getfield 81) := ⟨by decide +kernel, rfl⟩
theorem DX9_analyse_120W : DD cX9_analyse 120 2 122 (.bipush 20) := ⟨by decide +kernel, rfl⟩
theorem DX9_analyse_122W : DD cX9_analyse 122 1 123 (.iload_n 3) := ⟨by decide +kernel, rfl⟩
theorem DX9_analyse_123W : DD cX9_analyse 123 1 124 (.imul) := ⟨by decide +kernel, rfl⟩
theorem DX9_analyse_124W : DD cX9_analyse 124 2 126 (.iload 4) := ⟨by decide +kernel, rfl⟩
theorem DX9_analyse_126W : DD cX9_analyse 126 1 127 (.iadd) := ⟨by decide +kernel, rfl⟩
theorem DX9_analyse_127W : DD cX9_analyse 127 1 128 (.aload_n 0) := ⟨by decide +kernel, rfl⟩
theorem DX9_analyse_128W : DD cX9_analyse 128 3 131 (.getfield 54) := ⟨by decide +kernel, rfl⟩
theorem DX9_analyse_131W : DD cX9_analyse 131 2 133 (.bipush 20) := ⟨by decide +kernel, rfl⟩
theorem DX9_analyse_133W : DD cX9_analyse 133 1 134 (.iload_n 3) := ⟨by decide +kernel, rfl⟩
theorem DX9_analyse_134W : DD cX9_analyse 134 1 135 (.imul) := ⟨by decide +kernel, rfl⟩
theorem DX9_analyse_135W : DD cX9_analyse 135 2 137 (.iload 4) := ⟨by decide +kernel, rfl⟩
theorem DX9_analyse_137W : DD cX9_analyse 137 1 138 (.iadd) := ⟨by decide +kernel, rfl⟩
theorem DX9_analyse_138W : DD cX9_analyse 138 1 139 (.baload) := ⟨by decide +kernel, rfl⟩
theorem DX9_analyse_139W : DD cX9_analyse 139 1 140 (.bastore) := ⟨by decide +kernel, rfl⟩
theorem DX9_analyse_140W : DD cX9_analyse 140 3 143 (.iinc 4 1) := ⟨by decide +kernel, rfl⟩
theorem DX9_analyse_143W : DD cX9_analyse 143 3 146 (.goto (-34)) := ⟨by decide +kernel, rfl⟩
theorem DX9_analyse_146W : DD cX9_analyse 146 3 149 (.iinc 3 1) := ⟨by decide +kernel, rfl⟩
theorem DX9_analyse_149W : DD cX9_analyse 149 3 152 (.goto (-113)) := ⟨by decide +kernel, rfl⟩
theorem DX9_analyse_152W : DD cX9_analyse 152 1 153 (.aload_n 0) := ⟨by decide +kernel, rfl⟩
theorem DX9_analyse_153W : DD cX9_analyse 153 3 156 (.getfield 549) := ⟨by decide +kernel, rfl⟩
theorem DX9_analyse_156W : DD cX9_analyse 156 1 157 (.ireturn) := ⟨by decide +kernel, rfl⟩
theorem ucX9_analyse_0W {E : XE} {d : Nat} {σ : Sto} {Q : Res → Sto → Prop} {x1 : Int} (hL : Lay σ)  (h : 1 ≤ d ∧ (∀ (y3 : Int) (σ2 : Sto), inR y3 → SF σ σ2 → ((y3 = σ.I 555 2) ∧ (Ch (fun c i => at2 c i 555 2) σ σ2) ∧ (σ2.I 555 2 = 0)) → 1 ≤ d ∧ (inR x1) ∧ ((0 ≤ x1 ∧ x1 < σ2.I 555 3) → 16 ≤ d ∧ (0 ≤ x1 ∧ x1 < 6) ∧ (0 ≤ (0 : Int) ∧ (0 : Int) ≤ y3 ∧ y3 ≤ 30032 ∧ y3 ≤ (0 : Int) + 30000) ∧ (557 = 557 ∨ (603 ≤ 557 ∧ 557 ≤ 607) ∨ 557 = 640) ∧ (AC σ2) ∧ (bd_0_20 σ2 573 300) ∧ ((30032 : Int) ≤ 1000000) ∧ (∀ σ15 : Sto, SF σ2 σ15 → ((TLM σ15 (tk σ2 x1 (σ2.I 557) (0 : Int) y3 (0 : Int) 0 tl0)) ∧ (bd_0_20 σ15 573 300) ∧ (KB σ2 σ15)) → (inR (σ15.I 555 19) → (∀ σ17 : Sto, σ17 = σ15.wI 555 24 (σ15.I 555 19) → SF σ15 σ17 → VV E mX9_analyse (d + 1) 36 [(0, aO 555), (3, aI (0))] [] σ17 Q)))) ∧ (¬ (0 ≤ x1 ∧ x1 < σ2.I 555 3) → Q (.inl (some (aI (-1)))) σ2))) : VV E mX9_analyse (d + 1) 0 [(0, aO 555), (1, aI (x1))] [] σ Q := by
  refine v_aload_n 0 DX9_analyse_0W rfl rfl <| ?_
  obtain ⟨k1, h⟩ := h
  refine v_invV (ci := 9) (as := []) (st := []) DX9_analyse_1W rfl okX9_taken (Or.inl q2739) q2741 (s_555 hL) rfl qs111 npX9_taken (sp_X9_taken (σ := σ)  k1 hL ) (Nat.le_of_ble_eq_true rfl) (Nat.le_refl _) (Nat.le_of_ble_eq_true rfl) (RVI_ret (fun y3 σ2 y3f gσ2 eσ2 => ?_)) RVI_thr
  have h := h y3 σ2 y3f gσ2 eσ2
  refine v_istore_n DX9_analyse_4W rfl (by decide) rfl <| v_aload_n 1 DX9_analyse_5W rfl rfl <| v_iload_n 2 DX9_analyse_6W rfl rfl <| ?_
  obtain ⟨k4, h⟩ := h
  obtain ⟨k5, h⟩ := h
  refine v_invV (ci := 9) (as := [aI (x1)]) (st := []) DX9_analyse_7W rfl okX9_isAnalyser (Or.inl q2743) q2745 (s_555 (hL.sf gσ2)) rfl qs112 npX9_isAnalyser (sp_X9_isAnalyser (σ := σ2) (x1 := x1) k4 (hL.sf gσ2) k5) (Nat.le_of_ble_eq_true rfl) (Nat.le_refl _) (Nat.le_of_ble_eq_true rfl) (RZ_ret (fun c6 => ?_) (fun c6 => ?_)) RZ_thr
  · have h := h.1 c6
    refine v_if_ne (tg := 15) DX9_analyse_10W (by decide) ⟨by decide, by decide⟩ (fun c7 => ?_) (fun c7 => absurd c7 (by decide))
    refine v_aload_n 1 DX9_analyse_15W rfl rfl <| v_iload_n 2 DX9_analyse_16W rfl rfl <| v_aload_n 1 DX9_analyse_17W rfl rfl <| w_getR (ci := 9) (kf := 1) (kz := 1) DX9_analyse_18W (s_555 (hL.sf gσ2)) rfl (by decide) rfl (Or.inl q2225) (fun _ _ => rfl) (r_555_1 (hL.sf gσ2)) <| v_iconst DX9_analyse_21W <| v_iload_n 0 DX9_analyse_22W rfl rfl <| ?_
    obtain ⟨k8, h⟩ := h
    obtain ⟨k9, k10, k11, k12, k13, k14, h⟩ := h
    refine v_invV (ci := 9) (as := [aI (x1), aO 557, aI (0), aI (y3)]) (st := []) DX9_analyse_23W rfl okX9_analyseRow (Or.inl q2779) q2781 (s_555 (hL.sf gσ2)) rfl qs116 npX9_analyseRow (sp_X9_analyseRow (σ := σ2) (x1 := x1) (o2 := 557) (n2 := 30032) (x3 := (0 : Int)) (x4 := y3) k8 (hL.sf gσ2) (s_557 (hL.sf gσ2)) k9 k10 k11 k12 k13 k14) (Nat.le_of_ble_eq_true rfl) (Nat.le_refl _) (Nat.le_of_ble_eq_true rfl) (RV_ret (fun σ15 gσ15 eσ15 => ?_)) RV_thr
    have h := h σ15 gσ15 eσ15
    refine v_aload_n 1 DX9_analyse_26W rfl rfl <| v_aload_n 1 DX9_analyse_27W rfl rfl <| ?_
    refine w_getI (ci := 9) (kf := 19) (kz := 19) DX9_analyse_28W (s_555 ((hL.sf gσ2).sf gσ15)) rfl (by decide) rfl (Or.inl q2243) (fun _ _ => rfl) (fun f16 => ?_)
    have h := h f16
    refine w_putI (ci := 9) (kf := 24) (kz := 24) DX9_analyse_31W (s_555 ((hL.sf gσ2).sf gσ15)) rfl (by decide) rfl (Or.inl ⟨rfl, q2248⟩) (fun _ _ => rfl) f16 rfl rfl (fun σ17 eσ17 gσ17 => ?_)
    have h := h σ17 eσ17 gσ17
    refine v_iconst DX9_analyse_34W <| v_istore_n DX9_analyse_35W rfl (by decide) rfl <| ?_
    exact v_pick [2, 0] rfl h
  · have h := h.2 c6
    refine v_if_ne (tg := 15) DX9_analyse_10W (by decide) ⟨by decide, by decide⟩ (fun c18 => absurd c18 (by decide)) (fun c18 => ?_)
    refine v_iconst DX9_analyse_13W <| ?_
    exact v_iret DX9_analyse_14W rfl rfl h
theorem ucX9_analyse_36W {E : XE} {d : Nat} {σ : Sto} {Q : Res → Sto → Prop} {x3 : Int} (hL : Lay σ)  (h : (inR (σ.I 555 19) → inR x3 ∧ ((σ.I 555 19) ≤ x3 → Q (.inl (some (aI (σ.I 555 19)))) σ) ∧ (x3 < (σ.I 555 19) → 0 ≤ x3 ∧ x3 < 300 ∧ (inR (σ.I 569 x3) → 0 ≤ (4 * x3) ∧ (4 * x3) < 1200 ∧ (∀ σ9 : Sto, σ9 = σ.wI 575 (4 * x3) (σ.I 569 x3) → SF σ σ9 → 0 ≤ x3 ∧ x3 < 300 ∧ (inR (σ9.I 570 x3) → 0 ≤ ((4 * x3) + 1) ∧ ((4 * x3) + 1) < 1200 ∧ (∀ σ15 : Sto, σ15 = σ9.wI 575 ((4 * x3) + 1) (σ9.I 570 x3) → SF σ9 σ15 → 0 ≤ x3 ∧ x3 < 300 ∧ (inR (σ15.I 571 x3) → 0 ≤ ((4 * x3) + 2) ∧ ((4 * x3) + 2) < 1200 ∧ (∀ σ21 : Sto, σ21 = σ15.wI 575 ((4 * x3) + 2) (σ15.I 571 x3) → SF σ15 σ21 → 0 ≤ x3 ∧ x3 < 300 ∧ (inR (σ21.I 568 x3) → 0 ≤ ((4 * x3) + 3) ∧ ((4 * x3) + 3) < 1200 ∧ (∀ σ27 : Sto, σ27 = σ21.wI 575 ((4 * x3) + 3) (σ21.I 568 x3) → SF σ21 σ27 → VV E mX9_analyse (d + 1) 109 [(0, aO 555), (3, aI (x3)), (4, aI (0))] [] σ27 Q))))))))))) : VV E mX9_analyse (d + 1) 36 [(0, aO 555), (3, aI (x3))] [] σ Q := by
  refine v_iload_n 1 DX9_analyse_36W rfl rfl <| v_aload_n 0 DX9_analyse_37W rfl rfl <| ?_
  refine w_getI (ci := 9) (kf := 19) (kz := 19) DX9_analyse_38W (s_555 hL) rfl (by decide) rfl (Or.inl q2243) (fun _ _ => rfl) (fun f1 => ?_)
  have h := h f1
  obtain ⟨k2, h⟩ := h
  refine v_icmp_ge (tg := 152) DX9_analyse_41W (by decide) k2 f1 (fun c3 => ?_) (fun c3 => ?_)
  · have h := h.1 c3
    refine v_aload_n 0 DX9_analyse_152W rfl rfl <| ?_
    refine w_getI (ci := 9) (kf := 19) (kz := 19) DX9_analyse_153W (s_555 hL) rfl (by decide) rfl (Or.inl q2243) (fun _ _ => rfl) (fun _ => ?_)
    exact v_iret DX9_analyse_156W rfl rfl h
  · have h := h.2 c3
    refine v_aload_n 0 DX9_analyse_44W rfl rfl <| w_getR (ci := 9) (kf := 25) (kz := 25) DX9_analyse_45W (s_555 hL) rfl (by decide) rfl (Or.inl q2249) (fun _ _ => rfl) (r_555_25 hL) <| v_iconst DX9_analyse_48W <| v_iload_n 1 DX9_analyse_49W rfl rfl <| v_imul DX9_analyse_50W <| v_aload_n 0 DX9_analyse_51W rfl rfl <| w_getR (ci := 9) (kf := 16) (kz := 16) DX9_analyse_52W (s_555 hL) rfl (by decide) rfl (Or.inl q2240) (fun _ _ => rfl) (r_555_16 hL) <| v_iload_n 1 DX9_analyse_55W rfl rfl <| ?_
    obtain ⟨k4, k5, h⟩ := h
    refine v_iald DX9_analyse_56W (s_569 hL) k4 k5 (fun f6 => ?_)
    have h := h f6
    obtain ⟨k7, k8, h⟩ := h
    refine w_iast DX9_analyse_57W (s_575 hL) k7 k8 f6 (fun σ9 eσ9 gσ9 => ?_)
    have h := h σ9 eσ9 gσ9
    refine v_aload_n 0 DX9_analyse_58W rfl rfl <| w_getR (ci := 9) (kf := 25) (kz := 25) DX9_analyse_59W (s_555 (hL.sf gσ9)) rfl (by decide) rfl (Or.inl q2249) (fun _ _ => rfl) (r_555_25 (hL.sf gσ9)) <| v_iconst DX9_analyse_62W <| v_iload_n 1 DX9_analyse_63W rfl rfl <| v_imul DX9_analyse_64W <| v_iconst DX9_analyse_65W <| v_iadd DX9_analyse_66W <| v_aload_n 0 DX9_analyse_67W rfl rfl <| w_getR (ci := 9) (kf := 17) (kz := 17) DX9_analyse_68W (s_555 (hL.sf gσ9)) rfl (by decide) rfl (Or.inl q2241) (fun _ _ => rfl) (r_555_17 (hL.sf gσ9)) <| v_iload_n 1 DX9_analyse_71W rfl rfl <| ?_
    obtain ⟨k10, k11, h⟩ := h
    refine v_iald DX9_analyse_72W (s_570 (hL.sf gσ9)) k10 k11 (fun f12 => ?_)
    have h := h f12
    obtain ⟨k13, k14, h⟩ := h
    refine w_iast DX9_analyse_73W (s_575 (hL.sf gσ9)) k13 k14 f12 (fun σ15 eσ15 gσ15 => ?_)
    have h := h σ15 eσ15 gσ15
    refine v_aload_n 0 DX9_analyse_74W rfl rfl <| w_getR (ci := 9) (kf := 25) (kz := 25) DX9_analyse_75W (s_555 ((hL.sf gσ9).sf gσ15)) rfl (by decide) rfl (Or.inl q2249) (fun _ _ => rfl) (r_555_25 ((hL.sf gσ9).sf gσ15)) <| v_iconst DX9_analyse_78W <| v_iload_n 1 DX9_analyse_79W rfl rfl <| v_imul DX9_analyse_80W <| v_iconst DX9_analyse_81W <| v_iadd DX9_analyse_82W <| v_aload_n 0 DX9_analyse_83W rfl rfl <| w_getR (ci := 9) (kf := 18) (kz := 18) DX9_analyse_84W (s_555 ((hL.sf gσ9).sf gσ15)) rfl (by decide) rfl (Or.inl q2242) (fun _ _ => rfl) (r_555_18 ((hL.sf gσ9).sf gσ15)) <| v_iload_n 1 DX9_analyse_87W rfl rfl <| ?_
    obtain ⟨k16, k17, h⟩ := h
    refine v_iald DX9_analyse_88W (s_571 ((hL.sf gσ9).sf gσ15)) k16 k17 (fun f18 => ?_)
    have h := h f18
    obtain ⟨k19, k20, h⟩ := h
    refine w_iast DX9_analyse_89W (s_575 ((hL.sf gσ9).sf gσ15)) k19 k20 f18 (fun σ21 eσ21 gσ21 => ?_)
    have h := h σ21 eσ21 gσ21
    refine v_aload_n 0 DX9_analyse_90W rfl rfl <| w_getR (ci := 9) (kf := 25) (kz := 25) DX9_analyse_91W (s_555 (((hL.sf gσ9).sf gσ15).sf gσ21)) rfl (by decide) rfl (Or.inl q2249) (fun _ _ => rfl) (r_555_25 (((hL.sf gσ9).sf gσ15).sf gσ21)) <| v_iconst DX9_analyse_94W <| v_iload_n 1 DX9_analyse_95W rfl rfl <| v_imul DX9_analyse_96W <| v_iconst DX9_analyse_97W <| v_iadd DX9_analyse_98W <| v_aload_n 0 DX9_analyse_99W rfl rfl <| w_getR (ci := 9) (kf := 15) (kz := 15) DX9_analyse_100W (s_555 (((hL.sf gσ9).sf gσ15).sf gσ21)) rfl (by decide) rfl (Or.inl q2239) (fun _ _ => rfl) (r_555_15 (((hL.sf gσ9).sf gσ15).sf gσ21)) <| v_iload_n 1 DX9_analyse_103W rfl rfl <| ?_
    obtain ⟨k22, k23, h⟩ := h
    refine v_iald DX9_analyse_104W (s_568 (((hL.sf gσ9).sf gσ15).sf gσ21)) k22 k23 (fun f24 => ?_)
    have h := h f24
    obtain ⟨k25, k26, h⟩ := h
    refine w_iast DX9_analyse_105W (s_575 (((hL.sf gσ9).sf gσ15).sf gσ21)) k25 k26 f24 (fun σ27 eσ27 gσ27 => ?_)
    have h := h σ27 eσ27 gσ27
    refine v_iconst DX9_analyse_106W <| v_istore DX9_analyse_107W (by decide) rfl <| ?_
    exact v_pick [1, 2, 0] rfl h
theorem ucX9_analyse_109W {E : XE} {d : Nat} {σ : Sto} {Q : Res → Sto → Prop} {x3 : Int} {x4 : Int} (hL : Lay σ)  (h : inR x4 ∧ (20 ≤ x4 → VV E mX9_analyse (d + 1) 36 [(0, aO 555), (3, aI (x3 + 1))] [] σ Q) ∧ (x4 < 20 → 0 ≤ ((20 * x3) + x4) ∧ ((20 * x3) + x4) < 6000 ∧ (-128 ≤ σ.I 567 ((20 * x3) + x4) ∧ σ.I 567 ((20 * x3) + x4) ≤ 127 → 0 ≤ ((20 * x3) + x4) ∧ ((20 * x3) + x4) < 6000 ∧ (∀ σ8 : Sto, σ8 = σ.wI 576 ((20 * x3) + x4) (sx8 (σ.I 567 ((20 * x3) + x4))) → SF σ σ8 → VV E mX9_analyse (d + 1) 109 [(0, aO 555), (3, aI (x3)), (4, aI (x4 + 1))] [] σ8 Q)))) : VV E mX9_analyse (d + 1) 109 [(0, aO 555), (3, aI (x3)), (4, aI (x4))] [] σ Q := by
  refine v_iload 2 DX9_analyse_109W rfl <| v_bipush DX9_analyse_111W ⟨by decide, by decide⟩ <| ?_
  obtain ⟨k1, h⟩ := h
  refine v_icmp_ge (tg := 146) DX9_analyse_113W (by decide) k1 ⟨by decide, by decide⟩ (fun c2 => ?_) (fun c2 => ?_)
  · have h := h.1 c2
    refine v_iinc 1 DX9_analyse_146W rfl (by decide) rfl <| v_goto (pc' := 36) DX9_analyse_149W.1 (by decide) <| ?_
    exact v_pick [1, 0] rfl h
  · have h := h.2 c2
    refine v_aload_n 0 DX9_analyse_116W rfl rfl <| w_getR (ci := 9) (kf := 26) (kz := 26) DX9_analyse_117W (s_555 hL) rfl (by decide) rfl (Or.inl q2250) (fun _ _ => rfl) (r_555_26 hL) <| v_bipush DX9_analyse_120W ⟨by decide, by decide⟩ <| v_iload_n 1 DX9_analyse_122W rfl rfl <| v_imul DX9_analyse_123W <| v_iload 2 DX9_analyse_124W rfl <| v_iadd DX9_analyse_126W <| v_aload_n 0 DX9_analyse_127W rfl rfl <| w_getR (ci := 9) (kf := 14) (kz := 14) DX9_analyse_128W (s_555 hL) rfl (by decide) rfl (Or.inl q2238) (fun _ _ => rfl) (r_555_14 hL) <| v_bipush DX9_analyse_131W ⟨by decide, by decide⟩ <| v_iload_n 1 DX9_analyse_133W rfl rfl <| v_imul DX9_analyse_134W <| v_iload 2 DX9_analyse_135W rfl <| v_iadd DX9_analyse_137W <| ?_
    obtain ⟨k3, k4, h⟩ := h
    refine v_bald DX9_analyse_138W (s_567 hL) k3 k4 (fun f5 => ?_)
    have h := h f5
    obtain ⟨k6, k7, h⟩ := h
    refine w_bast DX9_analyse_139W (s_576 hL) k6 k7 (fun σ8 eσ8 gσ8 => ?_)
    have h := h σ8 eσ8 gσ8
    refine v_iinc 2 DX9_analyse_140W rfl (by decide) rfl <| v_goto (pc' := 109) DX9_analyse_143W.1 (by decide) <| ?_
    exact v_pick [1, 2, 0] rfl h
theorem sp_X9_analyseW {E : XE} {d : Nat} {σ : Sto} {x1 : Int} (hd : 20 ≤ d) (hL : Lay σ)  (p0 : inR x1) (p1 : 0 ≤ σ.I 555 2 ∧ σ.I 555 2 ≤ 30000) (p2 : 0 ≤ σ.I 555 3 ∧ σ.I 555 3 ≤ 6) (p3 : AC σ) (p4 : bd_0_20 σ 573 300) : CC E mX9_analyse d [aO 555, aI (x1)] σ (RVI (fun y τ => ((¬ (0 ≤ x1 ∧ x1 < σ.I 555 3) ∧ y = -1 ∧ KSh σ τ ∧ τ.I 555 24 = σ.I 555 24 ∧ τ.I 575 = σ.I 575 ∧ τ.I 576 = σ.I 576 ∧ τ.I 555 2 = 0) ∨ ((0 ≤ x1 ∧ x1 < σ.I 555 3) ∧ y = (tk σ x1 (σ.I 557) 0 (σ.I 555 2) 0 0 tl0).1 ∧ KSh σ τ ∧ τ.I 555 24 = (tk σ x1 (σ.I 557) 0 (σ.I 555 2) 0 0 tl0).1 ∧ SHN τ (tk σ x1 (σ.I 557) 0 (σ.I 555 2) 0 0 tl0) (tk σ x1 (σ.I 557) 0 (σ.I 555 2) 0 0 tl0).1 ∧ τ.I 555 2 = 0)) ∧ (KSh σ τ) ∧ (bd_0_20 τ 573 300))) := by
  obtain ⟨d, rfl⟩ : ∃ e, d = e + 1 := ⟨d - 1, by omega⟩
  have p0a := p0.1; have p0b := p0.2
  have key : ∀ wa wb wc : Nat, (∀ (x3 : Int) (τ : Sto), SF σ τ → ((KSh σ τ) ∧ ((0 ≤ x1 ∧ x1 < σ.I 555 3)) ∧ (TLM τ (tk σ x1 (σ.I 557) 0 (σ.I 555 2) 0 0 tl0)) ∧ (τ.I 555 24 = (tk σ x1 (σ.I 557) 0 (σ.I 555 2) 0 0 tl0).1) ∧ (0 ≤ x3 ∧ x3 ≤ (tk σ x1 (σ.I 557) 0 (σ.I 555 2) 0 0 tl0).1) ∧ (SHN τ (tk σ x1 (σ.I 557) 0 (σ.I 555 2) 0 0 tl0) x3) ∧ (τ.I 555 2 = 0) ∧ (bd_0_20 τ 573 300)) → wa = ((tk σ x1 (σ.I 557) 0 (σ.I 555 2) 0 0 tl0).1 - x3).toNat → wb = 100 → wc = 0 → VV E mX9_analyse (d + 1) 36 [(0, aO 555), (3, aI (x3))] [] τ (RVI (fun y τ => ((¬ (0 ≤ x1 ∧ x1 < σ.I 555 3) ∧ y = -1 ∧ KSh σ τ ∧ τ.I 555 24 = σ.I 555 24 ∧ τ.I 575 = σ.I 575 ∧ τ.I 576 = σ.I 576 ∧ τ.I 555 2 = 0) ∨ ((0 ≤ x1 ∧ x1 < σ.I 555 3) ∧ y = (tk σ x1 (σ.I 557) 0 (σ.I 555 2) 0 0 tl0).1 ∧ KSh σ τ ∧ τ.I 555 24 = (tk σ x1 (σ.I 557) 0 (σ.I 555 2) 0 0 tl0).1 ∧ SHN τ (tk σ x1 (σ.I 557) 0 (σ.I 555 2) 0 0 tl0) (tk σ x1 (σ.I 557) 0 (σ.I 555 2) 0 0 tl0).1 ∧ τ.I 555 2 = 0)) ∧ (KSh σ τ) ∧ (bd_0_20 τ 573 300)))) ∧ (∀ (x3 : Int) (x4 : Int) (τ : Sto), SF σ τ → ((KSh σ τ) ∧ ((0 ≤ x1 ∧ x1 < σ.I 555 3)) ∧ (TLM τ (tk σ x1 (σ.I 557) 0 (σ.I 555 2) 0 0 tl0)) ∧ (τ.I 555 24 = (tk σ x1 (σ.I 557) 0 (σ.I 555 2) 0 0 tl0).1) ∧ (0 ≤ x3 ∧ x3 < (tk σ x1 (σ.I 557) 0 (σ.I 555 2) 0 0 tl0).1) ∧ (SHN τ (tk σ x1 (σ.I 557) 0 (σ.I 555 2) 0 0 tl0) x3) ∧ (τ.I 555 2 = 0) ∧ (τ.I 575 (4 * x3) = τ.I 569 x3 ∧ τ.I 575 (4 * x3 + 1) = τ.I 570 x3 ∧ τ.I 575 (4 * x3 + 2) = τ.I 571 x3 ∧ τ.I 575 (4 * x3 + 3) = τ.I 568 x3) ∧ (0 ≤ x4 ∧ x4 ≤ 20) ∧ (alN (fun k => τ.I 576 (20 * x3 + k) = τ.I 567 (20 * x3 + k)) x4) ∧ (bd_0_20 τ 573 300)) → wa = ((tk σ x1 (σ.I 557) 0 (σ.I 555 2) 0 0 tl0).1 - x3).toNat → wb = (20 - x4).toNat → wc = 0 → VV E mX9_analyse (d + 1) 109 [(0, aO 555), (3, aI (x3)), (4, aI (x4))] [] τ (RVI (fun y τ => ((¬ (0 ≤ x1 ∧ x1 < σ.I 555 3) ∧ y = -1 ∧ KSh σ τ ∧ τ.I 555 24 = σ.I 555 24 ∧ τ.I 575 = σ.I 575 ∧ τ.I 576 = σ.I 576 ∧ τ.I 555 2 = 0) ∨ ((0 ≤ x1 ∧ x1 < σ.I 555 3) ∧ y = (tk σ x1 (σ.I 557) 0 (σ.I 555 2) 0 0 tl0).1 ∧ KSh σ τ ∧ τ.I 555 24 = (tk σ x1 (σ.I 557) 0 (σ.I 555 2) 0 0 tl0).1 ∧ SHN τ (tk σ x1 (σ.I 557) 0 (σ.I 555 2) 0 0 tl0) (tk σ x1 (σ.I 557) 0 (σ.I 555 2) 0 0 tl0).1 ∧ τ.I 555 2 = 0)) ∧ (KSh σ τ) ∧ (bd_0_20 τ 573 300)))) := by
    refine lex3 (fun wa wb wc ih => ?_)
    have ih0 : ∀ (x3 : Int) (τ : Sto), SF σ τ → ((KSh σ τ) ∧ ((0 ≤ x1 ∧ x1 < σ.I 555 3)) ∧ (TLM τ (tk σ x1 (σ.I 557) 0 (σ.I 555 2) 0 0 tl0)) ∧ (τ.I 555 24 = (tk σ x1 (σ.I 557) 0 (σ.I 555 2) 0 0 tl0).1) ∧ (0 ≤ x3 ∧ x3 ≤ (tk σ x1 (σ.I 557) 0 (σ.I 555 2) 0 0 tl0).1) ∧ (SHN τ (tk σ x1 (σ.I 557) 0 (σ.I 555 2) 0 0 tl0) x3) ∧ (τ.I 555 2 = 0) ∧ (bd_0_20 τ 573 300)) → lt3 (((tk σ x1 (σ.I 557) 0 (σ.I 555 2) 0 0 tl0).1 - x3).toNat) 100 0 wa wb wc → VV E mX9_analyse (d + 1) 36 [(0, aO 555), (3, aI (x3))] [] τ (RVI (fun y τ => ((¬ (0 ≤ x1 ∧ x1 < σ.I 555 3) ∧ y = -1 ∧ KSh σ τ ∧ τ.I 555 24 = σ.I 555 24 ∧ τ.I 575 = σ.I 575 ∧ τ.I 576 = σ.I 576 ∧ τ.I 555 2 = 0) ∨ ((0 ≤ x1 ∧ x1 < σ.I 555 3) ∧ y = (tk σ x1 (σ.I 557) 0 (σ.I 555 2) 0 0 tl0).1 ∧ KSh σ τ ∧ τ.I 555 24 = (tk σ x1 (σ.I 557) 0 (σ.I 555 2) 0 0 tl0).1 ∧ SHN τ (tk σ x1 (σ.I 557) 0 (σ.I 555 2) 0 0 tl0) (tk σ x1 (σ.I 557) 0 (σ.I 555 2) 0 0 tl0).1 ∧ τ.I 555 2 = 0)) ∧ (KSh σ τ) ∧ (bd_0_20 τ 573 300))) := fun z0 z1 h0 h1 hlt => (ih _ _ _ hlt).1 z0 z1 h0 h1 rfl rfl rfl
    have ih1 : ∀ (x3 : Int) (x4 : Int) (τ : Sto), SF σ τ → ((KSh σ τ) ∧ ((0 ≤ x1 ∧ x1 < σ.I 555 3)) ∧ (TLM τ (tk σ x1 (σ.I 557) 0 (σ.I 555 2) 0 0 tl0)) ∧ (τ.I 555 24 = (tk σ x1 (σ.I 557) 0 (σ.I 555 2) 0 0 tl0).1) ∧ (0 ≤ x3 ∧ x3 < (tk σ x1 (σ.I 557) 0 (σ.I 555 2) 0 0 tl0).1) ∧ (SHN τ (tk σ x1 (σ.I 557) 0 (σ.I 555 2) 0 0 tl0) x3) ∧ (τ.I 555 2 = 0) ∧ (τ.I 575 (4 * x3) = τ.I 569 x3 ∧ τ.I 575 (4 * x3 + 1) = τ.I 570 x3 ∧ τ.I 575 (4 * x3 + 2) = τ.I 571 x3 ∧ τ.I 575 (4 * x3 + 3) = τ.I 568 x3) ∧ (0 ≤ x4 ∧ x4 ≤ 20) ∧ (alN (fun k => τ.I 576 (20 * x3 + k) = τ.I 567 (20 * x3 + k)) x4) ∧ (bd_0_20 τ 573 300)) → lt3 (((tk σ x1 (σ.I 557) 0 (σ.I 555 2) 0 0 tl0).1 - x3).toNat) ((20 - x4).toNat) 0 wa wb wc → VV E mX9_analyse (d + 1) 109 [(0, aO 555), (3, aI (x3)), (4, aI (x4))] [] τ (RVI (fun y τ => ((¬ (0 ≤ x1 ∧ x1 < σ.I 555 3) ∧ y = -1 ∧ KSh σ τ ∧ τ.I 555 24 = σ.I 555 24 ∧ τ.I 575 = σ.I 575 ∧ τ.I 576 = σ.I 576 ∧ τ.I 555 2 = 0) ∨ ((0 ≤ x1 ∧ x1 < σ.I 555 3) ∧ y = (tk σ x1 (σ.I 557) 0 (σ.I 555 2) 0 0 tl0).1 ∧ KSh σ τ ∧ τ.I 555 24 = (tk σ x1 (σ.I 557) 0 (σ.I 555 2) 0 0 tl0).1 ∧ SHN τ (tk σ x1 (σ.I 557) 0 (σ.I 555 2) 0 0 tl0) (tk σ x1 (σ.I 557) 0 (σ.I 555 2) 0 0 tl0).1 ∧ τ.I 555 2 = 0)) ∧ (KSh σ τ) ∧ (bd_0_20 τ 573 300))) := fun z0 z1 z2 h0 h1 hlt => (ih _ _ _ hlt).2 z0 z1 z2 h0 h1 rfl rfl rfl
    clear ih
    refine ⟨?_, ?_⟩
    · rintro x3 τ gτ ⟨i0, i1, i2, i3, i4, i5, i6, i7⟩ ha hb hc
      subst ha hb hc
      have hlb := i2.2.1
      have htc := i2.1
      refine ucX9_analyse_36W  (hL.sf gτ)  ?_
      rintro ⟨f1, f1q⟩
      refine ⟨?_, ?_⟩
      · (first | exact ⟨by omega, by omega⟩ | (clear ih0 ih1; grind (splits := 16) (ematch := 30) (gen := 30) [-Prod, inR, inL, bd_0_20_at, bd_0_1_at, bd_0_2_at, bd_0_5_at, = fI_wI, = sx8_sx8, = R_wI, = sh_wI, = n_wI]))
      refine ⟨fun c2 => ?_, fun c3 => ?_⟩
      · refine RVI_mk ?_ ?_
        · (first | exact ⟨by omega, by omega⟩ | (clear ih0 ih1; grind (splits := 16) (ematch := 30) (gen := 30) [-Prod, inR, inL, bd_0_20_at, bd_0_1_at, bd_0_2_at, bd_0_5_at, = fI_wI, = sx8_sx8, = R_wI, = sh_wI, = n_wI]))
        · refine ⟨?_, ?_, ?_⟩
          · (clear ih0 ih1; exact Or.inr ⟨i1, i2.1, i0, i3, (by have hx : (tk σ x1 (σ.I 557) 0 (σ.I 555 2) 0 0 tl0).1 = x3 := (by have h9 := i2.1; omega); rw [hx]; exact i5), i6⟩)
          · exact i0
          · (clear ih0 ih1; first | exact i7 | exact bd_0_20_eq i7 (funext fun i => hk _ i (by decide)))
      · refine ⟨?_, ?_⟩
        · (first | omega | (clear ih0 ih1; grind (splits := 16) (ematch := 30) (gen := 30) [-Prod, inR, inL, bd_0_20_at, bd_0_1_at, bd_0_2_at, bd_0_5_at, = fI_wI, = sx8_sx8, = R_wI, = sh_wI, = n_wI]))
        refine ⟨?_, ?_⟩
        · (first | omega | (clear ih0 ih1; grind (splits := 16) (ematch := 30) (gen := 30) [-Prod, inR, inL, bd_0_20_at, bd_0_1_at, bd_0_2_at, bd_0_5_at, = fI_wI, = sx8_sx8, = R_wI, = sh_wI, = n_wI]))
        rintro ⟨f4, f4q⟩
        refine ⟨?_, ?_⟩
        · (first | omega | (clear ih0 ih1; grind (splits := 16) (ematch := 30) (gen := 30) [-Prod, inR, inL, bd_0_20_at, bd_0_1_at, bd_0_2_at, bd_0_5_at, = fI_wI, = sx8_sx8, = R_wI, = sh_wI, = n_wI]))
        refine ⟨?_, ?_⟩
        · (first | omega | (clear ih0 ih1; grind (splits := 16) (ematch := 30) (gen := 30) [-Prod, inR, inL, bd_0_20_at, bd_0_1_at, bd_0_2_at, bd_0_5_at, = fI_wI, = sx8_sx8, = R_wI, = sh_wI, = n_wI]))
        intro σ9 eσ9 gσ9
        have kσ9 : KSh τ σ9 := KSh_w eσ9 (by unfold wsSh; omega)
        refine ⟨?_, ?_⟩
        · (first | omega | (clear ih0 ih1; grind (splits := 16) (ematch := 30) (gen := 30) [-Prod, inR, inL, bd_0_20_at, bd_0_1_at, bd_0_2_at, bd_0_5_at, = fI_wI, = sx8_sx8, = R_wI, = sh_wI, = n_wI]))
        refine ⟨?_, ?_⟩
        · (first | omega | (clear ih0 ih1; grind (splits := 16) (ematch := 30) (gen := 30) [-Prod, inR, inL, bd_0_20_at, bd_0_1_at, bd_0_2_at, bd_0_5_at, = fI_wI, = sx8_sx8, = R_wI, = sh_wI, = n_wI]))
        rintro ⟨f5, f5q⟩
        refine ⟨?_, ?_⟩
        · (first | omega | (clear ih0 ih1; grind (splits := 16) (ematch := 30) (gen := 30) [-Prod, inR, inL, bd_0_20_at, bd_0_1_at, bd_0_2_at, bd_0_5_at, = fI_wI, = sx8_sx8, = R_wI, = sh_wI, = n_wI]))
        refine ⟨?_, ?_⟩
        · (first | omega | (clear ih0 ih1; grind (splits := 16) (ematch := 30) (gen := 30) [-Prod, inR, inL, bd_0_20_at, bd_0_1_at, bd_0_2_at, bd_0_5_at, = fI_wI, = sx8_sx8, = R_wI, = sh_wI, = n_wI]))
        intro σ15 eσ15 gσ15
        have kσ15 : KSh σ9 σ15 := KSh_w eσ15 (by unfold wsSh; omega)
        refine ⟨?_, ?_⟩
        · (first | omega | (clear ih0 ih1; grind (splits := 16) (ematch := 30) (gen := 30) [-Prod, inR, inL, bd_0_20_at, bd_0_1_at, bd_0_2_at, bd_0_5_at, = fI_wI, = sx8_sx8, = R_wI, = sh_wI, = n_wI]))
        refine ⟨?_, ?_⟩
        · (first | omega | (clear ih0 ih1; grind (splits := 16) (ematch := 30) (gen := 30) [-Prod, inR, inL, bd_0_20_at, bd_0_1_at, bd_0_2_at, bd_0_5_at, = fI_wI, = sx8_sx8, = R_wI, = sh_wI, = n_wI]))
        rintro ⟨f6, f6q⟩
        refine ⟨?_, ?_⟩
        · (first | omega | (clear ih0 ih1; grind (splits := 16) (ematch := 30) (gen := 30) [-Prod, inR, inL, bd_0_20_at, bd_0_1_at, bd_0_2_at, bd_0_5_at, = fI_wI, = sx8_sx8, = R_wI, = sh_wI, = n_wI]))
        refine ⟨?_, ?_⟩
        · (first | omega | (clear ih0 ih1; grind (splits := 16) (ematch := 30) (gen := 30) [-Prod, inR, inL, bd_0_20_at, bd_0_1_at, bd_0_2_at, bd_0_5_at, = fI_wI, = sx8_sx8, = R_wI, = sh_wI, = n_wI]))
        intro σ21 eσ21 gσ21
        have kσ21 : KSh σ15 σ21 := KSh_w eσ21 (by unfold wsSh; omega)
        refine ⟨?_, ?_⟩
        · (first | omega | (clear ih0 ih1; grind (splits := 16) (ematch := 30) (gen := 30) [-Prod, inR, inL, bd_0_20_at, bd_0_1_at, bd_0_2_at, bd_0_5_at, = fI_wI, = sx8_sx8, = R_wI, = sh_wI, = n_wI]))
        refine ⟨?_, ?_⟩
        · (first | omega | (clear ih0 ih1; grind (splits := 16) (ematch := 30) (gen := 30) [-Prod, inR, inL, bd_0_20_at, bd_0_1_at, bd_0_2_at, bd_0_5_at, = fI_wI, = sx8_sx8, = R_wI, = sh_wI, = n_wI]))
        rintro ⟨f7, f7q⟩
        refine ⟨?_, ?_⟩
        · (first | omega | (clear ih0 ih1; grind (splits := 16) (ematch := 30) (gen := 30) [-Prod, inR, inL, bd_0_20_at, bd_0_1_at, bd_0_2_at, bd_0_5_at, = fI_wI, = sx8_sx8, = R_wI, = sh_wI, = n_wI]))
        refine ⟨?_, ?_⟩
        · (first | omega | (clear ih0 ih1; grind (splits := 16) (ematch := 30) (gen := 30) [-Prod, inR, inL, bd_0_20_at, bd_0_1_at, bd_0_2_at, bd_0_5_at, = fI_wI, = sx8_sx8, = R_wI, = sh_wI, = n_wI]))
        intro σ27 eσ27 gσ27
        have kσ27 : KSh σ21 σ27 := KSh_w eσ27 (by unfold wsSh; omega)
        have hk : ∀ c i, c ≠ 575 → σ27.I c i = τ.I c i := fun c i q => (by rw [eσ27, I_ne _ _ _ _ q, eσ21, I_ne _ _ _ _ q, eσ15, I_ne _ _ _ _ q, eσ9, I_ne _ _ _ _ q])
        refine ih1 _ _ _ ((((gτ.tr gσ9).tr gσ15).tr gσ21).tr gσ27) ⟨?_, ?_, ?_, ?_, ?_, ?_, ?_, ?_, ?_, ?_, ?_⟩ ?_
        · exact (Ch.tr (Ch.tr (Ch.tr (Ch.tr i0 kσ9) kσ15) kσ21) kσ27)
        · (first | omega | (clear ih0 ih1; grind (splits := 16) (ematch := 30) (gen := 30) [-Prod, inR, inL, bd_0_20_at, bd_0_1_at, bd_0_2_at, bd_0_5_at, = fI_wI, = sx8_sx8, = R_wI, = sh_wI, = n_wI]))
        · (clear ih0 ih1; exact TLM_fr i2 (hk _ _ (by decide)) (fun c a b => funext fun i => hk _ _ (by omega)))
        · (clear ih0 ih1; first | exact i3 | exact (hk _ _ (by decide)).trans i3 | (rw [eσ8]; exact (I_ne _ _ _ _ (by decide)).trans i3) | (rw [eσ17, I_same]; exact eσ15_0.1))
        · (first | omega | (clear ih0 ih1; grind (splits := 16) (ematch := 30) (gen := 30) [-Prod, inR, inL, bd_0_20_at, bd_0_1_at, bd_0_2_at, bd_0_5_at, = fI_wI, = sx8_sx8, = R_wI, = sh_wI, = n_wI]))
        · (clear ih0 ih1; (intro t t0 t1; obtain ⟨h1, h2, h3, h4, h5⟩ := i5 t t0 t1; have ht : ∀ j, (j < 4 * x3) → σ27.I 575 j = τ.I 575 j := (fun j q => by rw [eσ27, I_nj _ _ _ _ (by omega), eσ21, I_nj _ _ _ _ (by omega), eσ15, I_nj _ _ _ _ (by omega), eσ9, I_nj _ _ _ _ (by omega)]); exact ⟨(ht _ (by omega)).trans h1, (ht _ (by omega)).trans h2, (ht _ (by omega)).trans h3, (ht _ (by omega)).trans h4, fun k k0 k1 => (hk _ _ (by decide)).trans (h5 k k0 k1)⟩))
        · (clear ih0 ih1; first | exact i6 | exact (hk _ _ (by decide)).trans i6 | (rw [eσ8]; exact (I_ne _ _ _ _ (by decide)).trans i6) | (rw [eσ17, I_nj _ _ _ _ (by decide)]; exact (Ch.at eσ15_2 (by unfold wsB; omega)).trans eσ2_2))
        · (clear ih0 ih1; first | (refine ⟨?_, ?_, ?_, ?_⟩ <;> grind (splits := 16) (ematch := 30) (gen := 30) [-Prod, inR, inL, bd_0_20_at, bd_0_1_at, bd_0_2_at, bd_0_5_at, = fI_wI, = sx8_sx8, = R_wI, = sh_wI, = n_wI]) | exact i7)
        · (first | omega | (clear ih0 ih1; grind (splits := 16) (ematch := 30) (gen := 30) [-Prod, inR, inL, bd_0_20_at, bd_0_1_at, bd_0_2_at, bd_0_5_at, = fI_wI, = sx8_sx8, = R_wI, = sh_wI, = n_wI]))
        · (clear ih0 ih1; exact alN_0 _ _ (Int.le_refl _))
        · (clear ih0 ih1; first | exact i7 | exact bd_0_20_eq i7 (funext fun i => hk _ i (by decide)))
        · (unfold lt3; first | omega | (clear ih0 ih1; grind (splits := 16) (ematch := 30) (gen := 30) [-Prod, inR, inL, bd_0_20_at, bd_0_1_at, bd_0_2_at, bd_0_5_at, = fI_wI, = sx8_sx8, = R_wI, = sh_wI, = n_wI]))
    · rintro x3 x4 τ gτ ⟨i0, i1, i2, i3, i4, i5, i6, i7, i8, i9, i10⟩ ha hb hc
      subst ha hb hc
      have hlb := i2.2.1
      have hsz := (i2.2.2 x3 i4.1 i4.2).1
      refine ucX9_analyse_109W  (hL.sf gτ)  ?_
      refine ⟨?_, ?_⟩
      · (first | exact ⟨by omega, by omega⟩ | (clear ih0 ih1; grind (splits := 16) (ematch := 30) (gen := 30) [-Prod, inR, inL, bd_0_20_at, bd_0_1_at, bd_0_2_at, bd_0_5_at, = fI_wI, = sx8_sx8, = R_wI, = sh_wI, = n_wI]))
      refine ⟨fun c1 => ?_, fun c2 => ?_⟩
      · refine ih0 _ _ gτ ⟨?_, ?_, ?_, ?_, ?_, ?_, ?_, ?_⟩ ?_
        · exact i0
        · (first | omega | (clear ih0 ih1; grind (splits := 16) (ematch := 30) (gen := 30) [-Prod, inR, inL, bd_0_20_at, bd_0_1_at, bd_0_2_at, bd_0_5_at, = fI_wI, = sx8_sx8, = R_wI, = sh_wI, = n_wI]))
        · (clear ih0 ih1; first | exact i2 | exact TLM_fr i2 (by rw [eσ8]; exact I_ne _ _ _ _ (by decide)) (fun c a b => funext fun i => (by rw [eσ8]; exact I_ne _ _ _ _ (by omega))))
        · (clear ih0 ih1; first | exact i3 | exact (hk _ _ (by decide)).trans i3 | (rw [eσ8]; exact (I_ne _ _ _ _ (by decide)).trans i3) | (rw [eσ17, I_same]; exact eσ15_0.1))
        · (first | omega | (clear ih0 ih1; grind (splits := 16) (ematch := 30) (gen := 30) [-Prod, inR, inL, bd_0_20_at, bd_0_1_at, bd_0_2_at, bd_0_5_at, = fI_wI, = sx8_sx8, = R_wI, = sh_wI, = n_wI]))
        · (clear ih0 ih1; first | (intro t t0 t1; rcases (show t < x3 ∨ t = x3 by omega) with q | q; (exact i5 t t0 q); (subst q; obtain ⟨⟨a1, a2, a3⟩, ⟨b1, b2, b3⟩, c9⟩ := i2.2.2 t t0 (by omega); exact ⟨i7.1.trans b1, i7.2.1.trans b2, i7.2.2.1.trans b3, i7.2.2.2.trans a1, fun k k0 k1 => (i9 k k0 (by omega)).trans (c9 k k0 k1)⟩)) | (intro t t0 t1; obtain ⟨h1, h2, h3, h4, h5⟩ := i5 t t0 t1; have hz := (i2.2.2 t t0 (by omega)).1.2.2; exact ⟨(by rw [eσ8, I_ne _ _ _ _ (by decide)]; exact h1), (by rw [eσ8, I_ne _ _ _ _ (by decide)]; exact h2), (by rw [eσ8, I_ne _ _ _ _ (by decide)]; exact h3), (by rw [eσ8, I_ne _ _ _ _ (by decide)]; exact h4), fun k k0 k1 => (by rw [eσ8, I_nj _ _ _ _ (by omega)]; exact h5 k k0 k1)⟩))
        · (clear ih0 ih1; first | exact i6 | exact (hk _ _ (by decide)).trans i6 | (rw [eσ8]; exact (I_ne _ _ _ _ (by decide)).trans i6) | (rw [eσ17, I_nj _ _ _ _ (by decide)]; exact (Ch.at eσ15_2 (by unfold wsB; omega)).trans eσ2_2))
        · (clear ih0 ih1; first | exact i10 | exact bd_0_20_eq i10 (funext fun i => by rw [eσ8]; exact I_ne _ _ _ _ (by decide)))
        · (unfold lt3; first | omega | (clear ih0 ih1; grind (splits := 16) (ematch := 30) (gen := 30) [-Prod, inR, inL, bd_0_20_at, bd_0_1_at, bd_0_2_at, bd_0_5_at, = fI_wI, = sx8_sx8, = R_wI, = sh_wI, = n_wI]))
      · refine ⟨?_, ?_⟩
        · (first | omega | (clear ih0 ih1; grind (splits := 16) (ematch := 30) (gen := 30) [-Prod, inR, inL, bd_0_20_at, bd_0_1_at, bd_0_2_at, bd_0_5_at, = fI_wI, = sx8_sx8, = R_wI, = sh_wI, = n_wI]))
        refine ⟨?_, ?_⟩
        · (first | omega | (clear ih0 ih1; grind (splits := 16) (ematch := 30) (gen := 30) [-Prod, inR, inL, bd_0_20_at, bd_0_1_at, bd_0_2_at, bd_0_5_at, = fI_wI, = sx8_sx8, = R_wI, = sh_wI, = n_wI]))
        rintro ⟨f3, f3q⟩
        refine ⟨?_, ?_⟩
        · (first | omega | (clear ih0 ih1; grind (splits := 16) (ematch := 30) (gen := 30) [-Prod, inR, inL, bd_0_20_at, bd_0_1_at, bd_0_2_at, bd_0_5_at, = fI_wI, = sx8_sx8, = R_wI, = sh_wI, = n_wI]))
        refine ⟨?_, ?_⟩
        · (first | omega | (clear ih0 ih1; grind (splits := 16) (ematch := 30) (gen := 30) [-Prod, inR, inL, bd_0_20_at, bd_0_1_at, bd_0_2_at, bd_0_5_at, = fI_wI, = sx8_sx8, = R_wI, = sh_wI, = n_wI]))
        intro σ8 eσ8 gσ8
        have kσ8 : KSh τ σ8 := KSh_w eσ8 (by unfold wsSh; omega)
        refine ih1 _ _ _ (gτ.tr gσ8) ⟨?_, ?_, ?_, ?_, ?_, ?_, ?_, ?_, ?_, ?_, ?_⟩ ?_
        · exact (Ch.tr i0 kσ8)
        · (first | omega | (clear ih0 ih1; grind (splits := 16) (ematch := 30) (gen := 30) [-Prod, inR, inL, bd_0_20_at, bd_0_1_at, bd_0_2_at, bd_0_5_at, = fI_wI, = sx8_sx8, = R_wI, = sh_wI, = n_wI]))
        · (clear ih0 ih1; first | exact i2 | exact TLM_fr i2 (by rw [eσ8]; exact I_ne _ _ _ _ (by decide)) (fun c a b => funext fun i => (by rw [eσ8]; exact I_ne _ _ _ _ (by omega))))
        · (clear ih0 ih1; first | exact i3 | exact (hk _ _ (by decide)).trans i3 | (rw [eσ8]; exact (I_ne _ _ _ _ (by decide)).trans i3) | (rw [eσ17, I_same]; exact eσ15_0.1))
        · (first | omega | (clear ih0 ih1; grind (splits := 16) (ematch := 30) (gen := 30) [-Prod, inR, inL, bd_0_20_at, bd_0_1_at, bd_0_2_at, bd_0_5_at, = fI_wI, = sx8_sx8, = R_wI, = sh_wI, = n_wI]))
        · (clear ih0 ih1; first | (intro t t0 t1; rcases (show t < x3 ∨ t = x3 by omega) with q | q; (exact i5 t t0 q); (subst q; obtain ⟨⟨a1, a2, a3⟩, ⟨b1, b2, b3⟩, c9⟩ := i2.2.2 t t0 (by omega); exact ⟨i7.1.trans b1, i7.2.1.trans b2, i7.2.2.1.trans b3, i7.2.2.2.trans a1, fun k k0 k1 => (i9 k k0 (by omega)).trans (c9 k k0 k1)⟩)) | (intro t t0 t1; obtain ⟨h1, h2, h3, h4, h5⟩ := i5 t t0 t1; have hz := (i2.2.2 t t0 (by omega)).1.2.2; exact ⟨(by rw [eσ8, I_ne _ _ _ _ (by decide)]; exact h1), (by rw [eσ8, I_ne _ _ _ _ (by decide)]; exact h2), (by rw [eσ8, I_ne _ _ _ _ (by decide)]; exact h3), (by rw [eσ8, I_ne _ _ _ _ (by decide)]; exact h4), fun k k0 k1 => (by rw [eσ8, I_nj _ _ _ _ (by omega)]; exact h5 k k0 k1)⟩))
        · (clear ih0 ih1; first | exact i6 | exact (hk _ _ (by decide)).trans i6 | (rw [eσ8]; exact (I_ne _ _ _ _ (by decide)).trans i6) | (rw [eσ17, I_nj _ _ _ _ (by decide)]; exact (Ch.at eσ15_2 (by unfold wsB; omega)).trans eσ2_2))
        · (clear ih0 ih1; (rw [eσ8]; refine ⟨?_, ?_, ?_, ?_⟩ <;> rw [I_ne _ _ _ _ (by decide), I_ne _ _ _ _ (by decide)]; (exact i7.1); (exact i7.2.1); (exact i7.2.2.1); (exact i7.2.2.2)))
        · (first | omega | (clear ih0 ih1; grind (splits := 16) (ematch := 30) (gen := 30) [-Prod, inR, inL, bd_0_20_at, bd_0_1_at, bd_0_2_at, bd_0_5_at, = fI_wI, = sx8_sx8, = R_wI, = sh_wI, = n_wI]))
        · (clear ih0 ih1; (intro k a b; show σ8.I 576 (20 * x3 + k) = σ8.I 567 (20 * x3 + k); rw [eσ8, I_ne (b := 567) _ _ _ _ (by decide)]; rcases (show k < x4 ∨ k = x4 by omega) with q | q; (rw [I_nj _ _ _ _ (by omega)]; exact i9 k a q); (subst q; rw [I_same]; exact sx8_id (by omega) (by omega))))
        · (clear ih0 ih1; first | exact i10 | exact bd_0_20_eq i10 (funext fun i => by rw [eσ8]; exact I_ne _ _ _ _ (by decide)))
        · (unfold lt3; first | omega | (clear ih0 ih1; grind (splits := 16) (ematch := 30) (gen := 30) [-Prod, inR, inL, bd_0_20_at, bd_0_1_at, bd_0_2_at, bd_0_5_at, = fI_wI, = sx8_sx8, = R_wI, = sh_wI, = n_wI]))
  have k0_ : ∀ (x3 : Int) (τ : Sto), SF σ τ → ((KSh σ τ) ∧ ((0 ≤ x1 ∧ x1 < σ.I 555 3)) ∧ (TLM τ (tk σ x1 (σ.I 557) 0 (σ.I 555 2) 0 0 tl0)) ∧ (τ.I 555 24 = (tk σ x1 (σ.I 557) 0 (σ.I 555 2) 0 0 tl0).1) ∧ (0 ≤ x3 ∧ x3 ≤ (tk σ x1 (σ.I 557) 0 (σ.I 555 2) 0 0 tl0).1) ∧ (SHN τ (tk σ x1 (σ.I 557) 0 (σ.I 555 2) 0 0 tl0) x3) ∧ (τ.I 555 2 = 0) ∧ (bd_0_20 τ 573 300)) → VV E mX9_analyse (d + 1) 36 [(0, aO 555), (3, aI (x3))] [] τ (RVI (fun y τ => ((¬ (0 ≤ x1 ∧ x1 < σ.I 555 3) ∧ y = -1 ∧ KSh σ τ ∧ τ.I 555 24 = σ.I 555 24 ∧ τ.I 575 = σ.I 575 ∧ τ.I 576 = σ.I 576 ∧ τ.I 555 2 = 0) ∨ ((0 ≤ x1 ∧ x1 < σ.I 555 3) ∧ y = (tk σ x1 (σ.I 557) 0 (σ.I 555 2) 0 0 tl0).1 ∧ KSh σ τ ∧ τ.I 555 24 = (tk σ x1 (σ.I 557) 0 (σ.I 555 2) 0 0 tl0).1 ∧ SHN τ (tk σ x1 (σ.I 557) 0 (σ.I 555 2) 0 0 tl0) (tk σ x1 (σ.I 557) 0 (σ.I 555 2) 0 0 tl0).1 ∧ τ.I 555 2 = 0)) ∧ (KSh σ τ) ∧ (bd_0_20 τ 573 300))) := fun z0 z1 h0 h1 => (key _ _ _).1 z0 z1 h0 h1 rfl rfl rfl
  have k1_ : ∀ (x3 : Int) (x4 : Int) (τ : Sto), SF σ τ → ((KSh σ τ) ∧ ((0 ≤ x1 ∧ x1 < σ.I 555 3)) ∧ (TLM τ (tk σ x1 (σ.I 557) 0 (σ.I 555 2) 0 0 tl0)) ∧ (τ.I 555 24 = (tk σ x1 (σ.I 557) 0 (σ.I 555 2) 0 0 tl0).1) ∧ (0 ≤ x3 ∧ x3 < (tk σ x1 (σ.I 557) 0 (σ.I 555 2) 0 0 tl0).1) ∧ (SHN τ (tk σ x1 (σ.I 557) 0 (σ.I 555 2) 0 0 tl0) x3) ∧ (τ.I 555 2 = 0) ∧ (τ.I 575 (4 * x3) = τ.I 569 x3 ∧ τ.I 575 (4 * x3 + 1) = τ.I 570 x3 ∧ τ.I 575 (4 * x3 + 2) = τ.I 571 x3 ∧ τ.I 575 (4 * x3 + 3) = τ.I 568 x3) ∧ (0 ≤ x4 ∧ x4 ≤ 20) ∧ (alN (fun k => τ.I 576 (20 * x3 + k) = τ.I 567 (20 * x3 + k)) x4) ∧ (bd_0_20 τ 573 300)) → VV E mX9_analyse (d + 1) 109 [(0, aO 555), (3, aI (x3)), (4, aI (x4))] [] τ (RVI (fun y τ => ((¬ (0 ≤ x1 ∧ x1 < σ.I 555 3) ∧ y = -1 ∧ KSh σ τ ∧ τ.I 555 24 = σ.I 555 24 ∧ τ.I 575 = σ.I 575 ∧ τ.I 576 = σ.I 576 ∧ τ.I 555 2 = 0) ∨ ((0 ≤ x1 ∧ x1 < σ.I 555 3) ∧ y = (tk σ x1 (σ.I 557) 0 (σ.I 555 2) 0 0 tl0).1 ∧ KSh σ τ ∧ τ.I 555 24 = (tk σ x1 (σ.I 557) 0 (σ.I 555 2) 0 0 tl0).1 ∧ SHN τ (tk σ x1 (σ.I 557) 0 (σ.I 555 2) 0 0 tl0) (tk σ x1 (σ.I 557) 0 (σ.I 555 2) 0 0 tl0).1 ∧ τ.I 555 2 = 0)) ∧ (KSh σ τ) ∧ (bd_0_20 τ 573 300))) := fun z0 z1 z2 h0 h1 => (key _ _ _).2 z0 z1 z2 h0 h1 rfl rfl rfl
  clear key
  refine ucX9_analyse_0W  hL  ?_
  refine ⟨?_, ?_⟩
  · omega
  rintro y3 σ2 ⟨y3f, y3fq⟩ gσ2 ⟨eσ2_0, ⟨⟨eσ2_1r, eσ2_1s, eσ2_1n⟩, eσ2_1⟩, eσ2_2⟩
  have kσ2 : KSh σ σ2 := KSh_tk ⟨⟨eσ2_1r, eσ2_1s, eσ2_1n⟩, eσ2_1⟩
  have hu : ∀ c i, c ≠ 555 → σ2.I c i = σ.I c i := fun c i q => eσ2_1 c i (fun z => q z.1)
  have hE : tk σ2 = tk σ := tk_e (fun c a b => funext fun i => hu c i (by omega))
  have ht : σ2.I 557 = σ.I 557 := funext fun i => hu _ i (by decide)
  have hcn : σ2.I 555 3 = σ.I 555 3 := eσ2_1 _ _ (fun z => absurd z.2 (by decide))
  refine ⟨?_, ?_⟩
  · omega
  refine ⟨?_, ?_⟩
  · (first | omega | (clear k0_ k1_; grind (splits := 16) (ematch := 30) (gen := 30) [-Prod, inR, inL, bd_0_20_at, bd_0_1_at, bd_0_2_at, bd_0_5_at, = fI_wI, = sx8_sx8, = R_wI, = sh_wI, = n_wI]))
  refine ⟨fun c1 => ?_, fun c2 => ?_⟩
  · refine ⟨?_, ?_⟩
    · omega
    refine ⟨?_, ?_⟩
    · (first | omega | (clear k0_ k1_; grind (splits := 16) (ematch := 30) (gen := 30) [-Prod, inR, inL, bd_0_20_at, bd_0_1_at, bd_0_2_at, bd_0_5_at, = fI_wI, = sx8_sx8, = R_wI, = sh_wI, = n_wI]))
    refine ⟨?_, ?_⟩
    · (first | omega | (clear k0_ k1_; grind (splits := 16) (ematch := 30) (gen := 30) [-Prod, inR, inL, bd_0_20_at, bd_0_1_at, bd_0_2_at, bd_0_5_at, = fI_wI, = sx8_sx8, = R_wI, = sh_wI, = n_wI]))
    refine ⟨?_, ?_⟩
    · (first | omega | (clear k0_ k1_; grind (splits := 16) (ematch := 30) (gen := 30) [-Prod, inR, inL, bd_0_20_at, bd_0_1_at, bd_0_2_at, bd_0_5_at, = fI_wI, = sx8_sx8, = R_wI, = sh_wI, = n_wI]))
    refine ⟨?_, ?_⟩
    · (clear k0_ k1_; exact (by unfold AC bd_0_1 bd_0_2 bd_0_5 bd_0_20 at *; obtain ⟨a1, a2, a3, a4, a5, a6⟩ := p3; exact ⟨fun i a b => (by rw [hu _ _ (by decide)]; exact a1 i a b), fun i a b => (by rw [hu _ _ (by decide)]; exact a2 i a b), fun i a b => (by rw [hu _ _ (by decide)]; exact a3 i a b), fun i a b => (by rw [hu _ _ (by decide)]; exact a4 i a b), fun i a b => (by rw [hu _ _ (by decide)]; exact a5 i a b), fun i a b => (by rw [hu _ _ (by decide)]; exact a6 i a b)⟩))
    refine ⟨?_, ?_⟩
    · (clear k0_ k1_; first | exact eσ15_1 | exact bd_0_20_eq eσ15_1 (funext fun i => by rw [eσ17]; exact I_ne _ _ _ _ (by decide)) | exact bd_0_20_eq p4 (funext fun i => hu _ i (by decide)))
    refine ⟨?_, ?_⟩
    · (first | omega | (clear k0_ k1_; grind (splits := 16) (ematch := 30) (gen := 30) [-Prod, inR, inL, bd_0_20_at, bd_0_1_at, bd_0_2_at, bd_0_5_at, = fI_wI, = sx8_sx8, = R_wI, = sh_wI, = n_wI]))
    rintro σ15 gσ15 ⟨eσ15_0, eσ15_1, eσ15_2⟩
    have kσ15 : KSh σ2 σ15 := KSh_of_KB eσ15_2
    have kσ15r := eσ15_2.1.1
    rw [hE, ht, eσ2_0] at eσ15_0
    rintro ⟨f3, f3q⟩
    intro σ17 eσ17 gσ17
    have kσ17 : KSh σ15 σ17 := KSh_w eσ17 (by unfold wsSh; omega)
    refine k0_ _ _ ((gσ2.tr gσ15).tr gσ17) ⟨?_, ?_, ?_, ?_, ?_, ?_, ?_, ?_⟩
    · exact (Ch.tr (Ch.tr kσ2 kσ15) kσ17)
    · (first | omega | (clear k0_ k1_; grind (splits := 16) (ematch := 30) (gen := 30) [-Prod, inR, inL, bd_0_20_at, bd_0_1_at, bd_0_2_at, bd_0_5_at, = fI_wI, = sx8_sx8, = R_wI, = sh_wI, = n_wI]))
    · (clear k0_ k1_; exact TLM_fr eσ15_0 (by rw [eσ17]; exact I_nj _ _ _ _ (by decide)) (fun c a b => funext fun i => (by rw [eσ17]; exact I_ne _ _ _ _ (by omega))))
    · (clear k0_ k1_; first | exact i3 | exact (hk _ _ (by decide)).trans i3 | (rw [eσ8]; exact (I_ne _ _ _ _ (by decide)).trans i3) | (rw [eσ17, I_same]; exact eσ15_0.1))
    · (clear k0_ k1_; exact ⟨Int.le_refl _, eσ15_0.2.1.1⟩)
    · (clear k0_ k1_; exact (fun t a b => by omega))
    · (clear k0_ k1_; first | exact i6 | exact (hk _ _ (by decide)).trans i6 | (rw [eσ8]; exact (I_ne _ _ _ _ (by decide)).trans i6) | (rw [eσ17, I_nj _ _ _ _ (by decide)]; exact (Ch.at eσ15_2 (by unfold wsB; omega)).trans eσ2_2))
    · (clear k0_ k1_; first | exact eσ15_1 | exact bd_0_20_eq eσ15_1 (funext fun i => by rw [eσ17]; exact I_ne _ _ _ _ (by decide)) | exact bd_0_20_eq p4 (funext fun i => hu _ i (by decide)))
  · refine RVI_mk ?_ ?_
    · (first | exact ⟨by omega, by omega⟩ | (clear k0_ k1_; grind (splits := 16) (ematch := 30) (gen := 30) [-Prod, inR, inL, bd_0_20_at, bd_0_1_at, bd_0_2_at, bd_0_5_at, = fI_wI, = sx8_sx8, = R_wI, = sh_wI, = n_wI]))
    · refine ⟨?_, ?_, ?_⟩
      · (clear k0_ k1_; exact Or.inl ⟨by omega, rfl, kσ2, eσ2_1 _ _ (fun z => absurd z.2 (by decide)), funext fun i => hu _ i (by decide), funext fun i => hu _ i (by decide), eσ2_2⟩)
      · exact kσ2
      · (clear k0_ k1_; first | exact eσ15_1 | exact bd_0_20_eq eσ15_1 (funext fun i => by rw [eσ17]; exact I_ne _ _ _ _ (by decide)) | exact bd_0_20_eq p4 (funext fun i => hu _ i (by decide)))
