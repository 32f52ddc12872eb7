set_option maxRecDepth 100000
set_option maxHeartbeats 4000000
theorem DX6_count_0W : DD cX6_count 0 1 1 (.iconst 0) := ⟨by decide +kernel, rfl⟩
theorem DX6_count_1W : DD cX6_count 1 1 2 (.istore_n 1) := ⟨by decide +kernel, rfl⟩
theorem DX6_count_2W : DD cX6_count 2 1 3 (.iload_n 1) := ⟨by decide +kernel, rfl⟩
theorem DX6_count_3W : DD cX6_count 3 1 4 (.aload_n 0) := ⟨by decide +kernel, rfl⟩
theorem DX6_count_4W : DD cX6_count 4 3 7 (.getfield 3) := ⟨by decide +kernel, rfl⟩
theorem DX6_count_7W : DD cX6_count 7 3 10 (.getfield 71) := ⟨by decide +kernel, rfl⟩
theorem DX6_count_10W : DD cX6_count 10 3 13 (.if_icmp .ge 23) := ⟨by decide +kernel, rfl⟩
theorem DX6_count_13W : DD cX6_count 13 1 14 (.aload_n 0) := ⟨by decide +kernel, rfl⟩
theorem DX6_count_14W : DD cX6_count 14 3 17 (.getfield 19) := ⟨by decide +kernel, rfl⟩
theorem DX6_count_17W : DD cX6_count 17 1 18 (.iload_n 1) := ⟨by decide +kernel, rfl⟩
theorem DX6_count_18W : DD cX6_count 18 1 19 (.iconst 0) := ⟨by decide +kernel, rfl⟩
theorem DX6_count_19W : DD cX6_count 19 1 20 (.iastore) := ⟨by decide +kernel, rfl⟩
theorem DX6_count_20W : DD cX6_count 20 1 21 (.aload_n 0) := ⟨by decide +kernel, rfl⟩
theorem DX6_count_21W : DD cX6_count 21 3 24 (.getfield 23) := ⟨by decide +kernel, rfl⟩
theorem DX6_count_24W : DD cX6_count 24 1 25 (.iload_n 1) := ⟨by decide +kernel, rfl⟩
theorem DX6_count_25W : DD cX6_count 25 1 26 (.iconst 0) := ⟨by decide +kernel, rfl⟩
theorem DX6_count_26W : DD cX6_count 26 1 27 (.iastore) := ⟨by decide +kernel, rfl⟩
theorem DX6_count_27W : DD cX6_count 27 3 30 (.iinc 1 1) := ⟨by decide +kernel, rfl⟩
theorem DX6_count_30W : DD cX6_count 30 3 33 (.goto (-28)) := ⟨by decide +kernel, rfl⟩
theorem DX6_count_33W : DD cX6_count 33 1 34 (.aload_n 0) := ⟨by decide +kernel, rfl⟩
theorem DX6_count_34W : DD cX6_count 34 3 37 (.getfield 36) := ⟨by decide +kernel, rfl⟩
theorem DX6_count_37W : DD cX6_count 37 1 38 (.istore_n 1) := ⟨by decide +kernel, rfl⟩
theorem DX6_count_38W : DD cX6_count 38 1 39 (.iload_n 1) := ⟨by decide +kernel, rfl⟩
theorem DX6_count_39W : DD cX6_count 39 1 40 (.aload_n 0) := ⟨by decide +kernel, rfl⟩
theorem DX6_count_40W : DD cX6_count 40 3 43 (.getfield 42) := ⟨by decide +kernel, rfl⟩
theorem DX6_count_43W : DD cX6_count 43 3 46 (.if_icmp .ge 119) := ⟨by decide +kernel, rfl⟩
theorem DX6_count_46W : DD cX6_count 46 1 47 (.aload_n 0) := ⟨by decide +kernel, rfl⟩
theorem DX6_count_47W : DD cX6_count 47 3 50 (.getfield 15) := ⟨by decide +kernel, rfl⟩
theorem DX6_count_50W : DD cX6_count 50 1 51 (.iload_n 1) := ⟨by decide +kernel, rfl⟩
theorem DX6_count_51W : DD cX6_count 51 1 52 (.baload) := ⟨by decide +kernel, rfl⟩
theorem DX6_count_52W : DD cX6_count 52 3 55 (.ifCond .ne 6) := ⟨by decide +kernel, rfl⟩
theorem DX6_count_55W : DD cX6_count 55 3 58 (.goto 101) := ⟨by decide +kernel, rfl⟩
theorem DX6_count_58W : DD cX6_count 58 1 59 (.iconst 0) := ⟨by decide +kernel, rfl⟩
theorem DX6_count_59W : DD cX6_count 59 1 60 (.istore_n 2) := ⟨by decide +kernel, rfl⟩
theorem DX6_count_60W : DD cX6_count 60 1 61 (.aload_n 0) := ⟨by decide +kernel, rfl⟩
theorem DX6_count_61W : DD cX6_count 61 3 64 (.getfield 3) := ⟨by decide +kernel, rfl⟩
theorem DX6_count_64W : DD cX6_count 64 3 67 (.getfield 56) := ⟨by decide +kernel, rfl⟩
theorem DX6_count_67W : DD cX6_count 67 1 68 (.iload_n 1) := ⟨by decide +kernel, rfl⟩
theorem DX6_count_68W : DD cX6_count 68 1 69 (.iaload) := ⟨by decide +kernel, rfl⟩
theorem DX6_count_69W : DD cX6_count 69 1 70 (.istore_n 3) := ⟨by decide +kernel, rfl⟩
theorem DX6_count_70W : DD cX6_count 70 1 71 (.iload_n 3) := ⟨by decide +kernel, rfl⟩
theorem DX6_count_71W : DD cX6_count 71 1 72 (.aload_n 0) := ⟨by decide +kernel, rfl⟩
theorem DX6_count_72W : DD cX6_count 72 3 75 (.getfield 3) := ⟨by decide +kernel, rfl⟩
theorem DX6_count_75W : DD cX6_count 75 3 78 (.getfield 56) := ⟨by decide +kernel, rfl⟩
theorem DX6_count_78W : DD cX6_count 78 1 79 (.iload_n 1) := ⟨by decide +kernel, rfl⟩
theorem DX6_count_79W : DD cX6_count 79 1 80 (.iaload) := ⟨by decide +kernel, rfl⟩
theorem DX6_count_80W : DD cX6_count 80 1 81 (.aload_n 0) := ⟨by decide +kernel, rfl⟩
theorem DX6_count_81W : DD cX6_count 81 3 84 (.getfield 3) := ⟨by decide +kernel, rfl⟩
theorem DX6_count_84W : DD cX6_count 84 3 87 (.getfield 62) := ⟨by decide +kernel, rfl⟩
theorem DX6_count_87W : DD cX6_count 87 1 88 (.iload_n 1) := ⟨by decide +kernel, rfl⟩
theorem DX6_count_88W : DD cX6_count 88 1 89 (.iaload) := ⟨by decide +kernel, rfl⟩
theorem DX6_count_89W : DD cX6_count 89 1 90 (.iadd) := ⟨by decide +kernel, rfl⟩
theorem DX6_count_90W : DD cX6_count 90 3 93 (.if_icmp .ge 66) := ⟨by decide +kernel, rfl⟩
theorem DX6_count_93W : DD cX6_count 93 1 94 (.aload_n 0) := ⟨by decide +kernel, rfl⟩
theorem DX6_count_94W : DD cX6_count 94 3 97 (.getfield 3) := ⟨by decide +kernel, rfl⟩
theorem DX6_count_97W : DD cX6_count 97 3 100 (.getfield 74) := ⟨by decide +kernel, rfl⟩
theorem DX6_count_100W : DD cX6_count 100 1 101 (.iload_n 3) := ⟨by decide +kernel, rfl⟩
theorem DX6_count_101W : DD cX6_count 101 1 102 (.baload) := ⟨by decide +kernel, rfl⟩
theorem DX6_count_102W : DD cX6_count 102 2 104 (.istore 4) := ⟨by decide +kernel, rfl⟩
theorem DX6_count_104W : DD cX6_count 104 1 105 (.aload_n 0) := ⟨by decide +kernel, rfl⟩
theorem DX6_count_105W : DD cX6_count 105 3 108 (.getfield 23) := ⟨by decide +kernel, rfl⟩
theorem DX6_count_108W : DD cX6_count 108 2 110 (.iload 4) := ⟨by decide +kernel, rfl⟩
theorem DX6_count_110W : DD cX6_count 110 1 111 (.dup2) := ⟨by decide +kernel, rfl⟩
theorem DX6_count_111W : DD cX6_count 111 1 112 (.iaload) := ⟨by decide +kernel, rfl⟩
theorem DX6_count_112W : DD cX6_count 112 1 113 (.aload_n 0) := ⟨by decide +kernel, rfl⟩
theorem DX6_count_113W : DD cX6_count 113 3 116 (.getfield 3) := ⟨by decide +kernel, rfl⟩
theorem DX6_count_116W : DD cX6_count 116 3 119 (.getfield 78) := ⟨by decide +kernel, rfl⟩
theorem DX6_count_119W : DD cX6_count 119 1 120 (.iload_n 3) := ⟨by decide +kernel, rfl⟩
theorem DX6_count_120W : DD cX6_count 120 1 121 (.iaload) := ⟨by decide +kernel, rfl⟩
theorem DX6_count_121W : DD cX6_count 121 1 122 (.iadd) := ⟨by decide +kernel, rfl⟩
theorem DX6_count_122W : DD cX6_count 122 1 123 (.iastore) := ⟨by decide +kernel, rfl⟩
theorem DX6_count_123W : DD cX6_count 123 1 124 (.iload_n 2) := ⟨by decide +kernel, rfl⟩
theorem DX6_count_124W : DD cX6_count 124 2 126 (.iload 4) := ⟨by decide +kernel, rfl⟩
theorem DX6_count_126W : DD cX6_count 126 1 127 (.ishr) := ⟨by decide +kernel, rfl⟩
theorem DX6_count_127W : DD cX6_count 127 1 128 (.iconst 1) := ⟨by decide +kernel, rfl⟩
theorem DX6_count_128W : DD cX6_count 128 1 129 (.iand) := ⟨by decide +kernel, rfl⟩
theorem DX6_count_129W : DD cX6_count 129 3 132 (.ifCond .ne 14) := ⟨by decide +kernel, rfl⟩
theorem DX6_count_132W : DD cX6_count 132 1 133 (.aload_n 0) := ⟨by decide +kernel, rfl⟩
theorem DX6_count_133W : DD cX6_count 133 3 136 (.getfield 19) := ⟨by decide +kernel, rfl⟩
theorem DX6_count_136W : DD cX6_count 136 2 138 (.iload 4) := ⟨by decide +kernel, rfl⟩
theorem DX6_count_138W : DD cX6_count 138 1 139 (.dup2) := ⟨by decide +kernel, rfl⟩
theorem DX6_count_139W : DD cX6_count 139 1 140 (.iaload) := ⟨by decide +kernel, rfl⟩
theorem DX6_count_140W : DD cX6_count 140 1 141 (.iconst 1) := ⟨by decide +kernel, rfl⟩
theorem DX6_count_141W : DD cX6_count 141 1 142 (.iadd) := ⟨by decide +kernel, rfl⟩
theorem DX6_count_142W : DD cX6_count 142 1 143 (.iastore) := ⟨by decide +kernel, rfl⟩
theorem DX6_count_143W : DD cX6_count 143 1 144 (.iload_n 2) := ⟨by decide +kernel, rfl⟩
theorem DX6_count_144W : DD cX6_count 144 1 145 (.iconst 1) := ⟨by decide +kernel, rfl⟩
theorem DX6_count_145W : DD cX6_count 145 2 147 (.iload 4) := ⟨by decide +kernel, rfl⟩
theorem DX6_count_147W : DD cX6_count 147 1 148 (.ishl) := ⟨by decide +kernel, rfl⟩
theorem DX6_count_148W : DD cX6_count 148 1 149 (.ior) := ⟨by decide +kernel, rfl⟩
theorem DX6_count_149W : DD cX6_count 149 1 150 (.istore_n 2) := ⟨by decide +kernel, rfl⟩
theorem DX6_count_150W : DD cX6_count 150 3 153 (.iinc 3 1) := ⟨by decide +kernel, rfl⟩
theorem DX6_count_153W : DD cX6_count 153 3 156 (.goto (-83)) := ⟨by decide +kernel, rfl⟩
theorem DX6_count_156W : DD cX6_count 156 3 159 (.iinc 1 1) := ⟨by decide +kernel, rfl⟩
theorem DX6_count_159W : DD cX6_count 159 3 162 (.goto (-121)) := ⟨by decide +kernel, rfl⟩
theorem DX6_count_162W : DD cX6_count 162 1 163 (.return_) := ⟨by decide +kernel, rfl⟩
theorem ucX6_count_0W {E : XE} {d : Nat} {σ : Sto} {Q : Res → Sto → Prop} {o0 : Nat} (hL : Lay σ) (ho0 : At6 σ o0) (h : VV E mX6_count (d + 1) 2 [(0, aO o0), (1, aI (0))] [] σ Q) : VV E mX6_count (d + 1) 0 [(0, aO o0)] [] σ Q := by
  refine v_iconst DX6_count_0W <| v_istore_n DX6_count_1W rfl (by decide) rfl <| ?_
  exact v_pick [1, 0] rfl h
theorem ucX6_count_2W {E : XE} {d : Nat} {σ : Sto} {Q : Res → Sto → Prop} {o0 : Nat} {x1 : Int} (hL : Lay σ) (ho0 : At6 σ o0) (h : (inR (σ.I 0 9) → inR x1 ∧ ((σ.I 0 9) ≤ x1 → (inR (σ.I o0 6) → VV E mX6_count (d + 1) 38 [(0, aO o0), (1, aI (σ.I o0 6))] [] σ Q)) ∧ (x1 < (σ.I 0 9) → 0 ≤ x1 ∧ x1 < 12 ∧ (∀ σ7 : Sto, σ7 = σ.wI (o0 + 2) x1 0 → SF σ σ7 → 0 ≤ x1 ∧ x1 < 12 ∧ (∀ σ10 : Sto, σ10 = σ7.wI (o0 + 3) x1 0 → SF σ7 σ10 → VV E mX6_count (d + 1) 2 [(0, aO o0), (1, aI (x1 + 1))] [] σ10 Q))))) : VV E mX6_count (d + 1) 2 [(0, aO o0), (1, aI (x1))] [] σ Q := by
  refine v_iload_n 1 DX6_count_2W rfl rfl <| v_aload_n 0 DX6_count_3W rfl rfl <| w_getR (ci := 6) (kf := 9) (kz := 9) DX6_count_4W ho0.s rfl (by decide) rfl (Or.inl q861) (fun _ _ => rfl) ho0.r9 <| ?_
  refine w_getI (ci := 0) (kf := 9) (kz := 9) DX6_count_7W (s_0 hL) rfl (by decide) rfl (Or.inr ⟨_, q1009⟩) (fun _ _ => rfl) (fun f1 => ?_)
  have h := h f1
  obtain ⟨k2, h⟩ := h
  refine v_icmp_ge (tg := 33) DX6_count_10W (by decide) k2 f1 (fun c3 => ?_) (fun c3 => ?_)
  · have h := h.1 c3
    refine v_aload_n 0 DX6_count_33W rfl rfl <| ?_
    refine w_getI (ci := 6) (kf := 6) (kz := 6) DX6_count_34W ho0.s rfl (by decide) rfl (Or.inl q855) (fun _ _ => rfl) (fun f4 => ?_)
    have h := h f4
    refine v_istore_n DX6_count_37W rfl (by decide) rfl <| ?_
    exact v_pick [1, 0] rfl h
  · have h := h.2 c3
    refine v_aload_n 0 DX6_count_13W rfl rfl <| w_getR (ci := 6) (kf := 2) (kz := 2) DX6_count_14W ho0.s rfl (by decide) rfl (Or.inl q847) (fun _ _ => rfl) ho0.r2 <| v_iload_n 1 DX6_count_17W rfl rfl <| v_iconst DX6_count_18W <| ?_
    obtain ⟨k5, k6, h⟩ := h
    refine w_iast DX6_count_19W ho0.s2 k5 k6 ⟨by decide, by decide⟩ (fun σ7 eσ7 gσ7 => ?_)
    have h := h σ7 eσ7 gσ7
    refine v_aload_n 0 DX6_count_20W rfl rfl <| w_getR (ci := 6) (kf := 3) (kz := 3) DX6_count_21W (ho0.sf gσ7).s rfl (by decide) rfl (Or.inl q849) (fun _ _ => rfl) (ho0.sf gσ7).r3 <| v_iload_n 1 DX6_count_24W rfl rfl <| v_iconst DX6_count_25W <| ?_
    obtain ⟨k8, k9, h⟩ := h
    refine w_iast DX6_count_26W (ho0.sf gσ7).s3 k8 k9 ⟨by decide, by decide⟩ (fun σ10 eσ10 gσ10 => ?_)
    have h := h σ10 eσ10 gσ10
    refine v_iinc 1 DX6_count_27W rfl (by decide) rfl <| v_goto (pc' := 2) DX6_count_30W.1 (by decide) <| ?_
    exact v_pick [1, 0] rfl h
theorem ucX6_count_38W {E : XE} {d : Nat} {σ : Sto} {Q : Res → Sto → Prop} {o0 : Nat} {x1 : Int} (hL : Lay σ) (ho0 : At6 σ o0) (h : (inR (σ.I o0 7) → inR x1 ∧ ((σ.I o0 7) ≤ x1 → Q (.inl none) σ) ∧ (x1 < (σ.I o0 7) → 0 ≤ x1 ∧ x1 < 601 ∧ (0 ≤ σ.I (o0 + 1) x1 ∧ σ.I (o0 + 1) x1 ≤ 1 → ((σ.I (o0 + 1) x1) ≠ 0 → 0 ≤ x1 ∧ x1 < 601 ∧ (inR (σ.I 42 x1) → VV E mX6_count (d + 1) 70 [(0, aO o0), (1, aI (x1)), (2, aI (0)), (3, aI (σ.I 42 x1))] [] σ Q)) ∧ ((σ.I (o0 + 1) x1) = 0 → VV E mX6_count (d + 1) 38 [(0, aO o0), (1, aI (x1 + 1))] [] σ Q))))) : VV E mX6_count (d + 1) 38 [(0, aO o0), (1, aI (x1))] [] σ Q := by
  refine v_iload_n 1 DX6_count_38W rfl rfl <| v_aload_n 0 DX6_count_39W rfl rfl <| ?_
  refine w_getI (ci := 6) (kf := 7) (kz := 7) DX6_count_40W ho0.s rfl (by decide) rfl (Or.inl q857) (fun _ _ => rfl) (fun f1 => ?_)
  have h := h f1
  obtain ⟨k2, h⟩ := h
  refine v_icmp_ge (tg := 162) DX6_count_43W (by decide) k2 f1 (fun c3 => ?_) (fun c3 => ?_)
  · have h := h.1 c3
    exact v_vret DX6_count_162W rfl h
  · have h := h.2 c3
    refine v_aload_n 0 DX6_count_46W rfl rfl <| w_getR (ci := 6) (kf := 0) (kz := 0) DX6_count_47W ho0.s rfl (by decide) rfl (Or.inl q842) (fun _ _ => rfl) ho0.r0 <| v_iload_n 1 DX6_count_50W rfl rfl <| ?_
    obtain ⟨k4, k5, h⟩ := h
    refine v_zald DX6_count_51W ho0.s0 k4 k5 (fun f6 => ?_)
    have h := h f6
    refine v_if_ne (tg := 58) DX6_count_52W (by decide) (inR_z f6) (fun c7 => ?_) (fun c7 => ?_)
    · have h := h.1 c7
      refine v_iconst DX6_count_58W <| v_istore_n DX6_count_59W rfl (by decide) rfl <| v_aload_n 1 DX6_count_60W rfl rfl <| w_getR (ci := 6) (kf := 9) (kz := 9) DX6_count_61W ho0.s rfl (by decide) rfl (Or.inl q861) (fun _ _ => rfl) ho0.r9 <| w_getR (ci := 0) (kf := 33) (kz := 33) DX6_count_64W (s_0 hL) rfl (by decide) rfl (Or.inr ⟨_, q1058⟩) (fun _ _ => rfl) (r_0_33 hL) <| v_iload_n 2 DX6_count_67W rfl rfl <| ?_
      obtain ⟨k8, k9, h⟩ := h
      refine v_iald DX6_count_68W (s_42 hL) k8 k9 (fun f10 => ?_)
      have h := h f10
      refine v_istore_n DX6_count_69W rfl (by decide) rfl <| ?_
      exact v_pick [2, 3, 1, 0] rfl h
    · have h := h.2 c7
      refine v_goto (pc' := 156) DX6_count_55W.1 (by decide) <| v_iinc 1 DX6_count_156W rfl (by decide) rfl <| v_goto (pc' := 38) DX6_count_159W.1 (by decide) <| ?_
      exact v_pick [1, 0] rfl h
theorem ucX6_count_70W {E : XE} {d : Nat} {σ : Sto} {Q : Res → Sto → Prop} {o0 : Nat} {x1 : Int} {x2 : Int} {x3 : Int} (hL : Lay σ) (ho0 : At6 σ o0) (h : 0 ≤ x1 ∧ x1 < 601 ∧ (inR (σ.I 42 x1) → 0 ≤ x1 ∧ x1 < 601 ∧ (inR (σ.I 43 x1) → inR x3 ∧ inR ((σ.I 42 x1) + (σ.I 43 x1)) ∧ (((σ.I 42 x1) + (σ.I 43 x1)) ≤ x3 → VV E mX6_count (d + 1) 38 [(0, aO o0), (1, aI (x1 + 1))] [] σ Q) ∧ (x3 < ((σ.I 42 x1) + (σ.I 43 x1)) → 0 ≤ x3 ∧ x3 < 6000 ∧ (-128 ≤ σ.I 26 x3 ∧ σ.I 26 x3 ≤ 127 → 0 ≤ (σ.I 26 x3) ∧ (σ.I 26 x3) < 12 ∧ (inR (σ.I (o0 + 3) (σ.I 26 x3)) → 0 ≤ x3 ∧ x3 < 6000 ∧ (inR (σ.I 32 x3) → 0 ≤ (σ.I 26 x3) ∧ (σ.I 26 x3) < 12 ∧ inR ((σ.I (o0 + 3) (σ.I 26 x3)) + (σ.I 32 x3)) ∧ (∀ σ22 : Sto, σ22 = σ.wI (o0 + 3) (σ.I 26 x3) ((σ.I (o0 + 3) (σ.I 26 x3)) + (σ.I 32 x3)) → SF σ σ22 → ((b32and (b32shr x2 (σ.I 26 x3)) 1) ≠ 0 → VV E mX6_count (d + 1) 70 [(0, aO o0), (1, aI (x1)), (2, aI (b32or x2 (b32shl 1 (σ.I 26 x3)))), (3, aI (x3 + 1))] [] σ22 Q) ∧ ((b32and (b32shr x2 (σ.I 26 x3)) 1) = 0 → 0 ≤ (σ.I 26 x3) ∧ (σ.I 26 x3) < 12 ∧ (inR (σ22.I (o0 + 2) (σ.I 26 x3)) → 0 ≤ (σ.I 26 x3) ∧ (σ.I 26 x3) < 12 ∧ inR ((σ22.I (o0 + 2) (σ.I 26 x3)) + 1) ∧ (∀ σ30 : Sto, σ30 = σ22.wI (o0 + 2) (σ.I 26 x3) ((σ22.I (o0 + 2) (σ.I 26 x3)) + 1) → SF σ22 σ30 → VV E mX6_count (d + 1) 70 [(0, aO o0), (1, aI (x1)), (2, aI (b32or x2 (b32shl 1 (σ.I 26 x3)))), (3, aI (x3 + 1))] [] σ30 Q))))))))))) : VV E mX6_count (d + 1) 70 [(0, aO o0), (1, aI (x1)), (2, aI (x2)), (3, aI (x3))] [] σ Q := by
  refine v_iload_n 3 DX6_count_70W rfl rfl <| v_aload_n 0 DX6_count_71W rfl rfl <| w_getR (ci := 6) (kf := 9) (kz := 9) DX6_count_72W ho0.s rfl (by decide) rfl (Or.inl q861) (fun _ _ => rfl) ho0.r9 <| w_getR (ci := 0) (kf := 33) (kz := 33) DX6_count_75W (s_0 hL) rfl (by decide) rfl (Or.inr ⟨_, q1058⟩) (fun _ _ => rfl) (r_0_33 hL) <| v_iload_n 1 DX6_count_78W rfl rfl <| ?_
  obtain ⟨k1, k2, h⟩ := h
  refine v_iald DX6_count_79W (s_42 hL) k1 k2 (fun f3 => ?_)
  have h := h f3
  refine v_aload_n 0 DX6_count_80W rfl rfl <| w_getR (ci := 6) (kf := 9) (kz := 9) DX6_count_81W ho0.s rfl (by decide) rfl (Or.inl q861) (fun _ _ => rfl) ho0.r9 <| w_getR (ci := 0) (kf := 34) (kz := 34) DX6_count_84W (s_0 hL) rfl (by decide) rfl (Or.inr ⟨_, q1062⟩) (fun _ _ => rfl) (r_0_34 hL) <| v_iload_n 1 DX6_count_87W rfl rfl <| ?_
  obtain ⟨k4, k5, h⟩ := h
  refine v_iald DX6_count_88W (s_43 hL) k4 k5 (fun f6 => ?_)
  have h := h f6
  refine v_iadd DX6_count_89W <| ?_
  obtain ⟨k7, k8, h⟩ := h
  refine v_icmp_ge (tg := 156) DX6_count_90W (by decide) k7 k8 (fun c9 => ?_) (fun c9 => ?_)
  · have h := h.1 c9
    refine v_iinc 1 DX6_count_156W rfl (by decide) rfl <| v_goto (pc' := 38) DX6_count_159W.1 (by decide) <| ?_
    exact v_pick [1, 0] rfl h
  · have h := h.2 c9
    refine v_aload_n 0 DX6_count_93W rfl rfl <| w_getR (ci := 6) (kf := 9) (kz := 9) DX6_count_94W ho0.s rfl (by decide) rfl (Or.inl q861) (fun _ _ => rfl) ho0.r9 <| w_getR (ci := 0) (kf := 11) (kz := 11) DX6_count_97W (s_0 hL) rfl (by decide) rfl (Or.inr ⟨_, q1014⟩) (fun _ _ => rfl) (r_0_11 hL) <| v_iload_n 3 DX6_count_100W rfl rfl <| ?_
    obtain ⟨k10, k11, h⟩ := h
    refine v_bald DX6_count_101W (s_26 hL) k10 k11 (fun f12 => ?_)
    have h := h f12
    refine v_istore DX6_count_102W (by decide) rfl <| v_aload_n 1 DX6_count_104W rfl rfl <| w_getR (ci := 6) (kf := 3) (kz := 3) DX6_count_105W ho0.s rfl (by decide) rfl (Or.inl q849) (fun _ _ => rfl) ho0.r3 <| v_iload 0 DX6_count_108W rfl <| v_dup2 DX6_count_110W rfl rfl <| ?_
    obtain ⟨k13, k14, h⟩ := h
    refine v_iald DX6_count_111W ho0.s3 k13 k14 (fun f15 => ?_)
    have h := h f15
    refine v_aload_n 1 DX6_count_112W rfl rfl <| w_getR (ci := 6) (kf := 9) (kz := 9) DX6_count_113W ho0.s rfl (by decide) rfl (Or.inl q861) (fun _ _ => rfl) ho0.r9 <| w_getR (ci := 0) (kf := 17) (kz := 17) DX6_count_116W (s_0 hL) rfl (by decide) rfl (Or.inr ⟨_, q1026⟩) (fun _ _ => rfl) (r_0_17 hL) <| v_iload_n 4 DX6_count_119W rfl rfl <| ?_
    obtain ⟨k16, k17, h⟩ := h
    refine v_iald DX6_count_120W (s_32 hL) k16 k17 (fun f18 => ?_)
    have h := h f18
    refine v_iadd DX6_count_121W <| ?_
    obtain ⟨k19, k20, h⟩ := h
    obtain ⟨k21, h⟩ := h
    refine w_iast DX6_count_122W ho0.s3 k19 k20 k21 (fun σ22 eσ22 gσ22 => ?_)
    have h := h σ22 eσ22 gσ22
    refine v_iload_n 3 DX6_count_123W rfl rfl <| v_iload 0 DX6_count_124W rfl <| v_ishr DX6_count_126W <| v_iconst DX6_count_127W <| v_iand DX6_count_128W <| ?_
    refine v_if_ne (tg := 143) DX6_count_129W (by decide) b32_in (fun c23 => ?_) (fun c23 => ?_)
    · have h := h.1 c23
      refine v_iload_n 3 DX6_count_143W rfl rfl <| v_iconst DX6_count_144W <| v_iload 0 DX6_count_145W rfl <| v_ishl DX6_count_147W <| v_ior DX6_count_148W <| v_istore_n DX6_count_149W rfl (by decide) rfl <| v_iinc 4 DX6_count_150W rfl (by decide) rfl <| v_goto (pc' := 70) DX6_count_153W.1 (by decide) <| ?_
      exact v_pick [3, 4, 1, 0] rfl h
    · have h := h.2 c23
      refine v_aload_n 1 DX6_count_132W rfl rfl <| w_getR (ci := 6) (kf := 2) (kz := 2) DX6_count_133W (ho0.sf gσ22).s rfl (by decide) rfl (Or.inl q847) (fun _ _ => rfl) (ho0.sf gσ22).r2 <| v_iload 0 DX6_count_136W rfl <| v_dup2 DX6_count_138W rfl rfl <| ?_
      obtain ⟨k24, k25, h⟩ := h
      refine v_iald DX6_count_139W (ho0.sf gσ22).s2 k24 k25 (fun f26 => ?_)
      have h := h f26
      refine v_iconst DX6_count_140W <| v_iadd DX6_count_141W <| ?_
      obtain ⟨k27, k28, h⟩ := h
      obtain ⟨k29, h⟩ := h
      refine w_iast DX6_count_142W (ho0.sf gσ22).s2 k27 k28 k29 (fun σ30 eσ30 gσ30 => ?_)
      have h := h σ30 eσ30 gσ30
      refine v_iload_n 3 DX6_count_143W rfl rfl <| v_iconst DX6_count_144W <| v_iload 0 DX6_count_145W rfl <| v_ishl DX6_count_147W <| v_ior DX6_count_148W <| v_istore_n DX6_count_149W rfl (by decide) rfl <| v_iinc 4 DX6_count_150W rfl (by decide) rfl <| v_goto (pc' := 70) DX6_count_153W.1 (by decide) <| ?_
      exact v_pick [3, 4, 1, 0] rfl h
theorem sp_X6_countW {E : XE} {d : Nat} {σ : Sto} {o0 : Nat} (hd : 1 ≤ d) (hL : Lay σ) (ho0 : At6 σ o0) (p0 : o0 = 102 ∨ o0 = 136 ∨ o0 = 170) (p1 : 0 ≤ σ.I 0 9 ∧ σ.I 0 9 ≤ 12) (p2 : 0 ≤ σ.I o0 6 ∧ σ.I o0 6 ≤ σ.I o0 7 ∧ σ.I o0 7 ≤ 601) (p3 : OB σ 42 43) (p4 : bd_0_250 σ 32 6000) (p5 : VFX σ o0) : CC E mX6_count d [aO o0] σ (RV (fun τ => (CNT σ τ o0 (σ.I o0 7)) ∧ (KCn o0 σ τ))) := by
  obtain ⟨d, rfl⟩ : ∃ e, d = e + 1 := ⟨d - 1, by omega⟩
  have key : ∀ wa wb wc : Nat, (∀ (x1 : Int) (τ : Sto), SF σ τ → ((KCn o0 σ τ) ∧ (0 ≤ x1 ∧ x1 ≤ σ.I 0 9) ∧ (alN (fun f => τ.I (o0 + 2) f = 0 ∧ τ.I (o0 + 3) f = 0) x1)) → wa = 3 → wb = (12 - x1).toNat → wc = 0 → VV E mX6_count (d + 1) 2 [(0, aO o0), (1, aI (x1))] [] τ (RV (fun τ => (CNT σ τ o0 (σ.I o0 7)) ∧ (KCn o0 σ τ)))) ∧ (∀ (x1 : Int) (τ : Sto), SF σ τ → ((KCn o0 σ τ) ∧ (σ.I o0 6 ≤ x1 ∧ x1 ≤ σ.I o0 7) ∧ (CNT σ τ o0 x1)) → wa = 2 → wb = (601 - x1).toNat → wc = 7000 → VV E mX6_count (d + 1) 38 [(0, aO o0), (1, aI (x1))] [] τ (RV (fun τ => (CNT σ τ o0 (σ.I o0 7)) ∧ (KCn o0 σ τ)))) ∧ (∀ (x1 : Int) (x2 : Int) (x3 : Int) (τ : Sto), SF σ τ → ((KCn o0 σ τ) ∧ (σ.I o0 6 ≤ x1 ∧ x1 < σ.I o0 7) ∧ ((σ.I 42 x1) ≤ x3 ∧ x3 ≤ (σ.I 42 x1) + (σ.I 43 x1)) ∧ (σ.I (o0 + 1) x1 = 1) ∧ (CNV σ τ o0 x1 (x3 - (σ.I 42 x1)) x2) ∧ (inR x2)) → wa = 2 → wb = (601 - x1).toNat → wc = (6000 - x3).toNat → VV E mX6_count (d + 1) 70 [(0, aO o0), (1, aI (x1)), (2, aI (x2)), (3, aI (x3))] [] τ (RV (fun τ => (CNT σ τ o0 (σ.I o0 7)) ∧ (KCn o0 σ τ)))) := by
    refine lex3 (fun wa wb wc ih => ?_)
    have ih0 : ∀ (x1 : Int) (τ : Sto), SF σ τ → ((KCn o0 σ τ) ∧ (0 ≤ x1 ∧ x1 ≤ σ.I 0 9) ∧ (alN (fun f => τ.I (o0 + 2) f = 0 ∧ τ.I (o0 + 3) f = 0) x1)) → lt3 3 ((12 - x1).toNat) 0 wa wb wc → VV E mX6_count (d + 1) 2 [(0, aO o0), (1, aI (x1))] [] τ (RV (fun τ => (CNT σ τ o0 (σ.I o0 7)) ∧ (KCn o0 σ τ))) := fun z0 z1 h0 h1 hlt => (ih _ _ _ hlt).1 z0 z1 h0 h1 rfl rfl rfl
    have ih1 : ∀ (x1 : Int) (τ : Sto), SF σ τ → ((KCn o0 σ τ) ∧ (σ.I o0 6 ≤ x1 ∧ x1 ≤ σ.I o0 7) ∧ (CNT σ τ o0 x1)) → lt3 2 ((601 - x1).toNat) 7000 wa wb wc → VV E mX6_count (d + 1) 38 [(0, aO o0), (1, aI (x1))] [] τ (RV (fun τ => (CNT σ τ o0 (σ.I o0 7)) ∧ (KCn o0 σ τ))) := fun z0 z1 h0 h1 hlt => (ih _ _ _ hlt).2.1 z0 z1 h0 h1 rfl rfl rfl
    have ih2 : ∀ (x1 : Int) (x2 : Int) (x3 : Int) (τ : Sto), SF σ τ → ((KCn o0 σ τ) ∧ (σ.I o0 6 ≤ x1 ∧ x1 < σ.I o0 7) ∧ ((σ.I 42 x1) ≤ x3 ∧ x3 ≤ (σ.I 42 x1) + (σ.I 43 x1)) ∧ (σ.I (o0 + 1) x1 = 1) ∧ (CNV σ τ o0 x1 (x3 - (σ.I 42 x1)) x2) ∧ (inR x2)) → lt3 2 ((601 - x1).toNat) ((6000 - x3).toNat) wa wb wc → VV E mX6_count (d + 1) 70 [(0, aO o0), (1, aI (x1)), (2, aI (x2)), (3, aI (x3))] [] τ (RV (fun τ => (CNT σ τ o0 (σ.I o0 7)) ∧ (KCn o0 σ τ))) := fun z0 z1 z2 z3 h0 h1 hlt => (ih _ _ _ hlt).2.2 z0 z1 z2 z3 h0 h1 rfl rfl rfl
    clear ih
    refine ⟨?_, ?_, ?_⟩
    · rintro x1 τ gτ ⟨i0, i1, i2⟩ ha hb hc
      subst ha hb hc
      have hu : ∀ c, (c ≠ o0 + 2 ∧ c ≠ o0 + 3) → ∀ i, τ.I c i = σ.I c i := fun c q i => congrFun (kcn i0 q) i
      have u9 : τ.I 0 9 = σ.I 0 9 := hu _ (by omega) _
      have u6 : τ.I o0 6 = σ.I o0 6 := hu _ (by omega) _
      have u7 : τ.I o0 7 = σ.I o0 7 := hu _ (by omega) _
      have u1 := hu (o0 + 1) (by omega)
      have uf := hu 42 (by omega)
      have uc := hu 43 (by omega)
      have uv := hu 26 (by omega)
      have ut := hu 32 (by omega)
      have u1x := u1 x1
      have ufx := uf x1
      have ucx := uc x1
      refine ucX6_count_2W  (hL.sf gτ) (ho0.sf gτ) ?_
      rintro ⟨f1, f1q⟩
      refine ⟨?_, ?_⟩
      · (clear ih0 ih1 ih2; first | exact ⟨by omega, by omega⟩ | exact b32_in | grind (splits := 16) (ematch := 30) (gen := 30) [-Prod, inR, inL, bd_0_250_at, = fI_wI, = R_wI, = sh_wI, = n_wI])
      refine ⟨fun c2 => ?_, fun c3 => ?_⟩
      · rintro ⟨f4, f4q⟩
        refine ih1 _ _ gτ ⟨?_, ?_, ?_⟩ ?_
        · exact i0
        · (first | omega | (clear ih0 ih1 ih2; grind (splits := 16) (ematch := 30) (gen := 30) [-Prod, inR, inL, bd_0_250_at, = fI_wI, = R_wI, = sh_wI, = n_wI]))
        · (clear ih0 ih1 ih2; (intro f f0 f1; have q := i2 f f0 (by omega); have z := hvX_0 (σ := σ) (o := o0) (f := f) (n := τ.I o0 6) (by omega) (by omega); exact ⟨q.1.trans z.1.symm, q.2.trans z.2.symm⟩))
        · (unfold lt3; first | omega | (clear ih0 ih1 ih2; grind (splits := 16) (ematch := 30) (gen := 30) [-Prod, inR, inL, bd_0_250_at, = fI_wI, = R_wI, = sh_wI, = n_wI]))
      · refine ⟨?_, ?_⟩
        · (first | omega | (clear ih0 ih1 ih2; grind (splits := 16) (ematch := 30) (gen := 30) [-Prod, inR, inL, bd_0_250_at, = fI_wI, = R_wI, = sh_wI, = n_wI]))
        refine ⟨?_, ?_⟩
        · (first | omega | (clear ih0 ih1 ih2; grind (splits := 16) (ematch := 30) (gen := 30) [-Prod, inR, inL, bd_0_250_at, = fI_wI, = R_wI, = sh_wI, = n_wI]))
        intro σ7 eσ7 gσ7
        have kσ7 : KCn o0 τ σ7 := KCn_w eσ7 (by unfold wsCn; omega)
        refine ⟨?_, ?_⟩
        · (first | omega | (clear ih0 ih1 ih2; grind (splits := 16) (ematch := 30) (gen := 30) [-Prod, inR, inL, bd_0_250_at, = fI_wI, = R_wI, = sh_wI, = n_wI]))
        refine ⟨?_, ?_⟩
        · (first | omega | (clear ih0 ih1 ih2; grind (splits := 16) (ematch := 30) (gen := 30) [-Prod, inR, inL, bd_0_250_at, = fI_wI, = R_wI, = sh_wI, = n_wI]))
        intro σ10 eσ10 gσ10
        have kσ10 : KCn o0 σ7 σ10 := KCn_w eσ10 (by unfold wsCn; omega)
        refine ih0 _ _ ((gτ.tr gσ7).tr gσ10) ⟨?_, ?_, ?_⟩ ?_
        · exact (Ch.tr (Ch.tr i0 kσ7) kσ10)
        · (first | omega | (clear ih0 ih1 ih2; grind (splits := 16) (ematch := 30) (gen := 30) [-Prod, inR, inL, bd_0_250_at, = fI_wI, = R_wI, = sh_wI, = n_wI]))
        · (clear ih0 ih1 ih2; (intro f a b; show σ10.I (o0 + 2) f = 0 ∧ σ10.I (o0 + 3) f = 0; rw [eσ10, eσ7]; rcases (show f < x1 ∨ f = x1 by omega) with q | q; (have z := i2 f a q; rw [I_nj _ _ _ _ (by omega), I_nj _ _ _ _ (by omega), I_nj _ _ _ _ (by omega), I_nj _ _ _ _ (by omega)]; exact z); (subst q; refine ⟨?_, ?_⟩; (rw [I_ne _ _ _ _ (by omega), I_same]); (rw [I_same]))))
        · (unfold lt3; first | omega | (clear ih0 ih1 ih2; grind (splits := 16) (ematch := 30) (gen := 30) [-Prod, inR, inL, bd_0_250_at, = fI_wI, = R_wI, = sh_wI, = n_wI]))
    · rintro x1 τ gτ ⟨i0, i1, i2⟩ ha hb hc
      subst ha hb hc
      have hu : ∀ c, (c ≠ o0 + 2 ∧ c ≠ o0 + 3) → ∀ i, τ.I c i = σ.I c i := fun c q i => congrFun (kcn i0 q) i
      have u9 : τ.I 0 9 = σ.I 0 9 := hu _ (by omega) _
      have u6 : τ.I o0 6 = σ.I o0 6 := hu _ (by omega) _
      have u7 : τ.I o0 7 = σ.I o0 7 := hu _ (by omega) _
      have u1 := hu (o0 + 1) (by omega)
      have uf := hu 42 (by omega)
      have uc := hu 43 (by omega)
      have uv := hu 26 (by omega)
      have ut := hu 32 (by omega)
      have u1x := u1 x1
      have ufx := uf x1
      have ucx := uc x1
      have hob := fun (h : x1 < 601) => p3 x1 (by omega) h
      refine ucX6_count_38W  (hL.sf gτ) (ho0.sf gτ) ?_
      rintro ⟨f1, f1q⟩
      refine ⟨?_, ?_⟩
      · (clear ih0 ih1 ih2; first | exact ⟨by omega, by omega⟩ | exact b32_in | grind (splits := 16) (ematch := 30) (gen := 30) [-Prod, inR, inL, bd_0_250_at, = fI_wI, = R_wI, = sh_wI, = n_wI])
      refine ⟨fun c2 => ?_, fun c3 => ?_⟩
      · refine RV_mk ?_
        · refine ⟨?_, ?_⟩
          · (clear ih0 ih1 ih2; (rw [show σ.I o0 7 = x1 by omega]; exact i2))
          · exact i0
      · refine ⟨?_, ?_⟩
        · (first | omega | (clear ih0 ih1 ih2; grind (splits := 16) (ematch := 30) (gen := 30) [-Prod, inR, inL, bd_0_250_at, = fI_wI, = R_wI, = sh_wI, = n_wI]))
        refine ⟨?_, ?_⟩
        · (first | omega | (clear ih0 ih1 ih2; grind (splits := 16) (ematch := 30) (gen := 30) [-Prod, inR, inL, bd_0_250_at, = fI_wI, = R_wI, = sh_wI, = n_wI]))
        rintro ⟨f4, f4q⟩
        refine ⟨fun c5 => ?_, fun c6 => ?_⟩
        · refine ⟨?_, ?_⟩
          · (first | omega | (clear ih0 ih1 ih2; grind (splits := 16) (ematch := 30) (gen := 30) [-Prod, inR, inL, bd_0_250_at, = fI_wI, = R_wI, = sh_wI, = n_wI]))
          refine ⟨?_, ?_⟩
          · (first | omega | (clear ih0 ih1 ih2; grind (splits := 16) (ematch := 30) (gen := 30) [-Prod, inR, inL, bd_0_250_at, = fI_wI, = R_wI, = sh_wI, = n_wI]))
          rintro ⟨f7, f7q⟩
          refine ih2 _ _ _ _ gτ ⟨?_, ?_, ?_, ?_, ?_, ?_⟩ ?_
          · exact i0
          · (first | omega | (clear ih0 ih1 ih2; grind (splits := 16) (ematch := 30) (gen := 30) [-Prod, inR, inL, bd_0_250_at, = fI_wI, = R_wI, = sh_wI, = n_wI]))
          · (first | omega | (clear ih0 ih1 ih2; grind (splits := 16) (ematch := 30) (gen := 30) [-Prod, inR, inL, bd_0_250_at, = fI_wI, = R_wI, = sh_wI, = n_wI]))
          · (first | omega | (clear ih0 ih1 ih2; grind (splits := 16) (ematch := 30) (gen := 30) [-Prod, inR, inL, bd_0_250_at, = fI_wI, = R_wI, = sh_wI, = n_wI]))
          · (clear ih0 ih1 ih2; (rw [ufx, Int.sub_self]; exact CNV_0 i2))
          · (clear ih0 ih1 ih2; first | exact ⟨by omega, by omega⟩ | exact b32_in | grind (splits := 16) (ematch := 30) (gen := 30) [-Prod, inR, inL, bd_0_250_at, = fI_wI, = R_wI, = sh_wI, = n_wI])
          · (unfold lt3; first | omega | (clear ih0 ih1 ih2; grind (splits := 16) (ematch := 30) (gen := 30) [-Prod, inR, inL, bd_0_250_at, = fI_wI, = R_wI, = sh_wI, = n_wI]))
        · refine ih1 _ _ gτ ⟨?_, ?_, ?_⟩ ?_
          · exact i0
          · (first | omega | (clear ih0 ih1 ih2; grind (splits := 16) (ematch := 30) (gen := 30) [-Prod, inR, inL, bd_0_250_at, = fI_wI, = R_wI, = sh_wI, = n_wI]))
          · (clear ih0 ih1 ih2; exact CNT_f i2 (by omega) (by omega))
          · (unfold lt3; first | omega | (clear ih0 ih1 ih2; grind (splits := 16) (ematch := 30) (gen := 30) [-Prod, inR, inL, bd_0_250_at, = fI_wI, = R_wI, = sh_wI, = n_wI]))
    · rintro x1 x2 x3 τ gτ ⟨i0, i1, i2, i3, i4, i5⟩ ha hb hc
      subst ha hb hc
      have hu : ∀ c, (c ≠ o0 + 2 ∧ c ≠ o0 + 3) → ∀ i, τ.I c i = σ.I c i := fun c q i => congrFun (kcn i0 q) i
      have u9 : τ.I 0 9 = σ.I 0 9 := hu _ (by omega) _
      have u6 : τ.I o0 6 = σ.I o0 6 := hu _ (by omega) _
      have u7 : τ.I o0 7 = σ.I o0 7 := hu _ (by omega) _
      have u1 := hu (o0 + 1) (by omega)
      have uf := hu 42 (by omega)
      have uc := hu 43 (by omega)
      have uv := hu 26 (by omega)
      have ut := hu 32 (by omega)
      have u1x := u1 x1
      have ufx := uf x1
      have ucx := uc x1
      have hob := p3 x1 (by omega) (by omega)
      have hvf := fun (h : x3 < (σ.I 42 x1) + (σ.I 43 x1)) => p5 x1 (by omega) (by omega) i3 (x3 - (σ.I 42 x1)) (by omega) (by omega)
      have hix : (σ.I 42 x1) + (x3 - (σ.I 42 x1)) = x3 := (by omega)
      rw [hix] at hvf
      have hv9 : σ.I 26 x3 = τ.I 26 x3 := (uv x3).symm
      have hc1 := fun (h : x3 < (σ.I 42 x1) + (σ.I 43 x1)) => (i4 (σ.I 26 x3) (hvf h).1 (hvf h).2).1
      have hc2 := fun (h : x3 < (σ.I 42 x1) + (σ.I 43 x1)) => (i4 (σ.I 26 x3) (hvf h).1 (hvf h).2).2.1
      have hk1 := tkX_in (o := o0) (f := (σ.I 26 x3)) (n := x1) p4 p3 (by omega) (by omega)
      have hk2 := tvX_in (k := x1) (f := (σ.I 26 x3)) (m := x3 - (σ.I 42 x1)) p4 hob.1 (by omega) (by omega)
      have hk3 : hvX σ o0 (σ.I 26 x3) x1 = 0 ∨ (0 < hvX σ o0 (σ.I 26 x3) x1 ∧ hvX σ o0 (σ.I 26 x3) x1 ≤ x1) := cn_in _ _
      have hzb := zb_in (exN (qvX σ x1 (σ.I 26 x3)) (x3 - (σ.I 42 x1)))
      have htc := fun (h : x3 < 6000) => p4 x3 (by omega) h
      have utx := ut x3
      have hw3 : τ.I (o0 + 3) (τ.I 26 x3) = τ.I (o0 + 3) (σ.I 26 x3) := (by rw [hv9])
      have hw2 : τ.I (o0 + 2) (τ.I 26 x3) = τ.I (o0 + 2) (σ.I 26 x3) := (by rw [hv9])
      have hbf := fun (h : 0 ≤ (σ.I 26 x3) ∧ (σ.I 26 x3) < 32) => bt32_f (x := x2) (k := (σ.I 26 x3)) i5 h
      refine ucX6_count_70W  (hL.sf gτ) (ho0.sf gτ) ?_
      refine ⟨?_, ?_⟩
      · (first | omega | (clear ih0 ih1 ih2; grind (splits := 16) (ematch := 30) (gen := 30) [-Prod, inR, inL, bd_0_250_at, = fI_wI, = R_wI, = sh_wI, = n_wI]))
      refine ⟨?_, ?_⟩
      · (first | omega | (clear ih0 ih1 ih2; grind (splits := 16) (ematch := 30) (gen := 30) [-Prod, inR, inL, bd_0_250_at, = fI_wI, = R_wI, = sh_wI, = n_wI]))
      rintro ⟨f1, f1q⟩
      refine ⟨?_, ?_⟩
      · (first | omega | (clear ih0 ih1 ih2; grind (splits := 16) (ematch := 30) (gen := 30) [-Prod, inR, inL, bd_0_250_at, = fI_wI, = R_wI, = sh_wI, = n_wI]))
      refine ⟨?_, ?_⟩
      · (first | omega | (clear ih0 ih1 ih2; grind (splits := 16) (ematch := 30) (gen := 30) [-Prod, inR, inL, bd_0_250_at, = fI_wI, = R_wI, = sh_wI, = n_wI]))
      rintro ⟨f2, f2q⟩
      refine ⟨?_, ?_⟩
      · (clear ih0 ih1 ih2; first | exact ⟨by omega, by omega⟩ | exact b32_in | grind (splits := 16) (ematch := 30) (gen := 30) [-Prod, inR, inL, bd_0_250_at, = fI_wI, = R_wI, = sh_wI, = n_wI])
      refine ⟨?_, ?_⟩
      · (clear ih0 ih1 ih2; first | exact ⟨by omega, by omega⟩ | exact b32_in | grind (splits := 16) (ematch := 30) (gen := 30) [-Prod, inR, inL, bd_0_250_at, = fI_wI, = R_wI, = sh_wI, = n_wI])
      refine ⟨fun c3 => ?_, fun c4 => ?_⟩
      · refine ih1 _ _ gτ ⟨?_, ?_, ?_⟩ ?_
        · exact i0
        · (first | omega | (clear ih0 ih1 ih2; grind (splits := 16) (ematch := 30) (gen := 30) [-Prod, inR, inL, bd_0_250_at, = fI_wI, = R_wI, = sh_wI, = n_wI]))
        · (clear ih0 ih1 ih2; exact CNT_V (b := x2) (by rw [show (σ.I 43 x1) = x3 - (σ.I 42 x1) by omega]; exact i4) (by omega) (by omega) i3)
        · (unfold lt3; first | omega | (clear ih0 ih1 ih2; grind (splits := 16) (ematch := 30) (gen := 30) [-Prod, inR, inL, bd_0_250_at, = fI_wI, = R_wI, = sh_wI, = n_wI]))
      · refine ⟨?_, ?_⟩
        · (first | omega | (clear ih0 ih1 ih2; grind (splits := 16) (ematch := 30) (gen := 30) [-Prod, inR, inL, bd_0_250_at, = fI_wI, = R_wI, = sh_wI, = n_wI]))
        refine ⟨?_, ?_⟩
        · (first | omega | (clear ih0 ih1 ih2; grind (splits := 16) (ematch := 30) (gen := 30) [-Prod, inR, inL, bd_0_250_at, = fI_wI, = R_wI, = sh_wI, = n_wI]))
        rintro ⟨f5, f5q⟩
        refine ⟨?_, ?_⟩
        · (first | omega | (clear ih0 ih1 ih2; grind (splits := 16) (ematch := 30) (gen := 30) [-Prod, inR, inL, bd_0_250_at, = fI_wI, = R_wI, = sh_wI, = n_wI]))
        refine ⟨?_, ?_⟩
        · (first | omega | (clear ih0 ih1 ih2; grind (splits := 16) (ematch := 30) (gen := 30) [-Prod, inR, inL, bd_0_250_at, = fI_wI, = R_wI, = sh_wI, = n_wI]))
        rintro ⟨f6, f6q⟩
        refine ⟨?_, ?_⟩
        · (first | omega | (clear ih0 ih1 ih2; grind (splits := 16) (ematch := 30) (gen := 30) [-Prod, inR, inL, bd_0_250_at, = fI_wI, = R_wI, = sh_wI, = n_wI]))
        refine ⟨?_, ?_⟩
        · (first | omega | (clear ih0 ih1 ih2; grind (splits := 16) (ematch := 30) (gen := 30) [-Prod, inR, inL, bd_0_250_at, = fI_wI, = R_wI, = sh_wI, = n_wI]))
        rintro ⟨f7, f7q⟩
        refine ⟨?_, ?_⟩
        · (first | omega | (clear ih0 ih1 ih2; grind (splits := 16) (ematch := 30) (gen := 30) [-Prod, inR, inL, bd_0_250_at, = fI_wI, = R_wI, = sh_wI, = n_wI]))
        refine ⟨?_, ?_⟩
        · (first | omega | (clear ih0 ih1 ih2; grind (splits := 16) (ematch := 30) (gen := 30) [-Prod, inR, inL, bd_0_250_at, = fI_wI, = R_wI, = sh_wI, = n_wI]))
        refine ⟨?_, ?_⟩
        · (clear ih0 ih1 ih2; first | exact ⟨by omega, by omega⟩ | exact b32_in | grind (splits := 16) (ematch := 30) (gen := 30) [-Prod, inR, inL, bd_0_250_at, = fI_wI, = R_wI, = sh_wI, = n_wI])
        intro σ22 eσ22 gσ22
        have kσ22 : KCn o0 τ σ22 := KCn_w eσ22 (by unfold wsCn; omega)
        refine ⟨fun c8 => ?_, fun c9 => ?_⟩
        · refine ih2 _ _ _ _ (gτ.tr gσ22) ⟨?_, ?_, ?_, ?_, ?_, ?_⟩ ?_
          · exact (Ch.tr i0 kσ22)
          · (first | omega | (clear ih0 ih1 ih2; grind (splits := 16) (ematch := 30) (gen := 30) [-Prod, inR, inL, bd_0_250_at, = fI_wI, = R_wI, = sh_wI, = n_wI]))
          · (first | omega | (clear ih0 ih1 ih2; grind (splits := 16) (ematch := 30) (gen := 30) [-Prod, inR, inL, bd_0_250_at, = fI_wI, = R_wI, = sh_wI, = n_wI]))
          · (first | omega | (clear ih0 ih1 ih2; grind (splits := 16) (ematch := 30) (gen := 30) [-Prod, inR, inL, bd_0_250_at, = fI_wI, = R_wI, = sh_wI, = n_wI]))
          · (clear ih0 ih1 ih2; first | (rw [show x3 + 1 - (σ.I 42 x1) = (x3 - (σ.I 42 x1)) + 1 by omega]; refine CNV_s (g := (σ.I 26 x3)) i4 (by omega) (by rw [hix]) (by have z := hvf (by omega); omega) (fun i => (by rw [eσ22]; by_cases z : i = (σ.I 26 x3); (rw [z, if_pos rfl, hv9, I_same, ut, hix]); (rw [I_nj _ _ _ _ (by rw [← hv9]; exact z), if_neg z]))) (fun _ i => (by rw [eσ22, I_ne _ _ _ _ (by omega)])) (fun q => absurd ((hbf (by have z := hvf (by omega); omega)).mpr q) (by rw [hv9]; assumption)) (by rw [hv9]) p1.2) | (rw [show x3 + 1 - (σ.I 42 x1) = (x3 - (σ.I 42 x1)) + 1 by omega]; refine CNV_s (g := (σ.I 26 x3)) i4 (by omega) (by rw [hix]) (by have z := hvf (by omega); omega) (fun i => (by rw [eσ30, I_ne _ _ _ _ (by omega), eσ22]; by_cases z : i = (σ.I 26 x3); (rw [z, if_pos rfl, hv9, I_same, ut, hix]); (rw [I_nj _ _ _ _ (by rw [← hv9]; exact z), if_neg z]))) (fun q => absurd q ((hbf (by have z := hvf (by omega); omega)).mp (by rw [hv9]; assumption))) (fun _ i => (by rw [eσ30]; by_cases z : i = (σ.I 26 x3); (rw [z, if_pos rfl, hv9, I_same, eσ22, I_ne _ _ _ _ (by omega)]); (rw [I_nj _ _ _ _ (by rw [← hv9]; exact z), if_neg z, eσ22, I_ne _ _ _ _ (by omega)]))) (by rw [hv9]) p1.2))
          · (clear ih0 ih1 ih2; first | exact ⟨by omega, by omega⟩ | exact b32_in | grind (splits := 16) (ematch := 30) (gen := 30) [-Prod, inR, inL, bd_0_250_at, = fI_wI, = R_wI, = sh_wI, = n_wI])
          · (unfold lt3; first | omega | (clear ih0 ih1 ih2; grind (splits := 16) (ematch := 30) (gen := 30) [-Prod, inR, inL, bd_0_250_at, = fI_wI, = R_wI, = sh_wI, = n_wI]))
        · refine ⟨?_, ?_⟩
          · (first | omega | (clear ih0 ih1 ih2; grind (splits := 16) (ematch := 30) (gen := 30) [-Prod, inR, inL, bd_0_250_at, = fI_wI, = R_wI, = sh_wI, = n_wI]))
          refine ⟨?_, ?_⟩
          · (first | omega | (clear ih0 ih1 ih2; grind (splits := 16) (ematch := 30) (gen := 30) [-Prod, inR, inL, bd_0_250_at, = fI_wI, = R_wI, = sh_wI, = n_wI]))
          rintro ⟨f10, f10q⟩
          refine ⟨?_, ?_⟩
          · (first | omega | (clear ih0 ih1 ih2; grind (splits := 16) (ematch := 30) (gen := 30) [-Prod, inR, inL, bd_0_250_at, = fI_wI, = R_wI, = sh_wI, = n_wI]))
          refine ⟨?_, ?_⟩
          · (first | omega | (clear ih0 ih1 ih2; grind (splits := 16) (ematch := 30) (gen := 30) [-Prod, inR, inL, bd_0_250_at, = fI_wI, = R_wI, = sh_wI, = n_wI]))
          refine ⟨?_, ?_⟩
          · (clear ih0 ih1 ih2; first | exact ⟨by omega, by omega⟩ | exact b32_in | grind (splits := 16) (ematch := 30) (gen := 30) [-Prod, inR, inL, bd_0_250_at, = fI_wI, = R_wI, = sh_wI, = n_wI])
          intro σ30 eσ30 gσ30
          have kσ30 : KCn o0 σ22 σ30 := KCn_w eσ30 (by unfold wsCn; omega)
          refine ih2 _ _ _ _ ((gτ.tr gσ22).tr gσ30) ⟨?_, ?_, ?_, ?_, ?_, ?_⟩ ?_
          · exact (Ch.tr (Ch.tr i0 kσ22) kσ30)
          · (first | omega | (clear ih0 ih1 ih2; grind (splits := 16) (ematch := 30) (gen := 30) [-Prod, inR, inL, bd_0_250_at, = fI_wI, = R_wI, = sh_wI, = n_wI]))
          · (first | omega | (clear ih0 ih1 ih2; grind (splits := 16) (ematch := 30) (gen := 30) [-Prod, inR, inL, bd_0_250_at, = fI_wI, = R_wI, = sh_wI, = n_wI]))
          · (first | omega | (clear ih0 ih1 ih2; grind (splits := 16) (ematch := 30) (gen := 30) [-Prod, inR, inL, bd_0_250_at, = fI_wI, = R_wI, = sh_wI, = n_wI]))
          · (clear ih0 ih1 ih2; first | (rw [show x3 + 1 - (σ.I 42 x1) = (x3 - (σ.I 42 x1)) + 1 by omega]; refine CNV_s (g := (σ.I 26 x3)) i4 (by omega) (by rw [hix]) (by have z := hvf (by omega); omega) (fun i => (by rw [eσ22]; by_cases z : i = (σ.I 26 x3); (rw [z, if_pos rfl, hv9, I_same, ut, hix]); (rw [I_nj _ _ _ _ (by rw [← hv9]; exact z), if_neg z]))) (fun _ i => (by rw [eσ22, I_ne _ _ _ _ (by omega)])) (fun q => absurd ((hbf (by have z := hvf (by omega); omega)).mpr q) (by rw [hv9]; assumption)) (by rw [hv9]) p1.2) | (rw [show x3 + 1 - (σ.I 42 x1) = (x3 - (σ.I 42 x1)) + 1 by omega]; refine CNV_s (g := (σ.I 26 x3)) i4 (by omega) (by rw [hix]) (by have z := hvf (by omega); omega) (fun i => (by rw [eσ30, I_ne _ _ _ _ (by omega), eσ22]; by_cases z : i = (σ.I 26 x3); (rw [z, if_pos rfl, hv9, I_same, ut, hix]); (rw [I_nj _ _ _ _ (by rw [← hv9]; exact z), if_neg z]))) (fun q => absurd q ((hbf (by have z := hvf (by omega); omega)).mp (by rw [hv9]; assumption))) (fun _ i => (by rw [eσ30]; by_cases z : i = (σ.I 26 x3); (rw [z, if_pos rfl, hv9, I_same, eσ22, I_ne _ _ _ _ (by omega)]); (rw [I_nj _ _ _ _ (by rw [← hv9]; exact z), if_neg z, eσ22, I_ne _ _ _ _ (by omega)]))) (by rw [hv9]) p1.2))
          · (clear ih0 ih1 ih2; first | exact ⟨by omega, by omega⟩ | exact b32_in | grind (splits := 16) (ematch := 30) (gen := 30) [-Prod, inR, inL, bd_0_250_at, = fI_wI, = R_wI, = sh_wI, = n_wI])
          · (unfold lt3; first | omega | (clear ih0 ih1 ih2; grind (splits := 16) (ematch := 30) (gen := 30) [-Prod, inR, inL, bd_0_250_at, = fI_wI, = R_wI, = sh_wI, = n_wI]))
  have k0_ : ∀ (x1 : Int) (τ : Sto), SF σ τ → ((KCn o0 σ τ) ∧ (0 ≤ x1 ∧ x1 ≤ σ.I 0 9) ∧ (alN (fun f => τ.I (o0 + 2) f = 0 ∧ τ.I (o0 + 3) f = 0) x1)) → VV E mX6_count (d + 1) 2 [(0, aO o0), (1, aI (x1))] [] τ (RV (fun τ => (CNT σ τ o0 (σ.I o0 7)) ∧ (KCn o0 σ τ))) := fun z0 z1 h0 h1 => (key _ _ _).1 z0 z1 h0 h1 rfl rfl rfl
  have k1_ : ∀ (x1 : Int) (τ : Sto), SF σ τ → ((KCn o0 σ τ) ∧ (σ.I o0 6 ≤ x1 ∧ x1 ≤ σ.I o0 7) ∧ (CNT σ τ o0 x1)) → VV E mX6_count (d + 1) 38 [(0, aO o0), (1, aI (x1))] [] τ (RV (fun τ => (CNT σ τ o0 (σ.I o0 7)) ∧ (KCn o0 σ τ))) := fun z0 z1 h0 h1 => (key _ _ _).2.1 z0 z1 h0 h1 rfl rfl rfl
  have k2_ : ∀ (x1 : Int) (x2 : Int) (x3 : Int) (τ : Sto), SF σ τ → ((KCn o0 σ τ) ∧ (σ.I o0 6 ≤ x1 ∧ x1 < σ.I o0 7) ∧ ((σ.I 42 x1) ≤ x3 ∧ x3 ≤ (σ.I 42 x1) + (σ.I 43 x1)) ∧ (σ.I (o0 + 1) x1 = 1) ∧ (CNV σ τ o0 x1 (x3 - (σ.I 42 x1)) x2) ∧ (inR x2)) → VV E mX6_count (d + 1) 70 [(0, aO o0), (1, aI (x1)), (2, aI (x2)), (3, aI (x3))] [] τ (RV (fun τ => (CNT σ τ o0 (σ.I o0 7)) ∧ (KCn o0 σ τ))) := fun z0 z1 z2 z3 h0 h1 => (key _ _ _).2.2 z0 z1 z2 z3 h0 h1 rfl rfl rfl
  clear key
  refine ucX6_count_0W  hL ho0 ?_
  refine k0_ _ _ SF.rf ⟨?_, ?_, ?_⟩
  · exact KCn_rf
  · (first | omega | (clear k0_ k1_ k2_; grind (splits := 16) (ematch := 30) (gen := 30) [-Prod, inR, inL, bd_0_250_at, = fI_wI, = R_wI, = sh_wI, = n_wI]))
  · (clear k0_ k1_ k2_; exact alN_0 _ _ (Int.le_refl _))
