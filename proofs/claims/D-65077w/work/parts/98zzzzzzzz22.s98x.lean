set_option maxRecDepth 100000
set_option maxHeartbeats 1200000
theorem DX5_prepare_0W : DD cX5_prepare 0 1 1 (.aload_n 0) := ⟨by decide +kernel, rfl⟩
theorem DX5_prepare_1W : DD cX5_prepare 1 3 4 (.getfield 27) := ⟨by decide +kernel, rfl⟩
theorem DX5_prepare_4W : DD cX5_prepare 4 3 7 (.invokevirtual 77) := ⟨by decide +kernel, rfl⟩
theorem DX5_prepare_7W : DD cX5_prepare 7 1 8 (.aload_n 0) := ⟨by decide +kernel, rfl⟩
theorem DX5_prepare_8W : DD cX5_prepare 8 1 9 (.iconst 0) := ⟨by decide +kernel, rfl⟩
theorem DX5_prepare_9W : DD cX5_prepare 9 3 12 (.putfield 80) := ⟨by decide +kernel, rfl⟩
theorem DX5_prepare_12W : DD cX5_prepare 12 1 13 (.aload_n 0) := ⟨by decide +kernel, rfl⟩
theorem DX5_prepare_13W : DD cX5_prepare 13 1 14 (.iconst 0) := ⟨by decide +kernel, rfl⟩
theorem DX5_prepare_14W : DD cX5_prepare 14 3 17 (.putfield 84) := ⟨by decide +kernel, rfl⟩
theorem DX5_prepare_17W : DD cX5_prepare 17 1 18 (.aload_n 0) := ⟨by decide +kernel, rfl⟩
theorem DX5_prepare_18W : DD cX5_prepare 18 1 19 (.iconst 0) := ⟨by decide +kernel, rfl⟩
theorem DX5_prepare_19W : DD cX5_prepare 19 3 22 (.putfield 87) := ⟨by decide +kernel, rfl⟩
theorem DX5_prepare_22W : DD cX5_prepare 22 1 23 (.aload_n 0) := ⟨by decide +kernel, rfl⟩
theorem DX5_prepare_23W : DD cX5_prepare 23 3 26 (.getfield 53) := ⟨by decide +kernel, rfl⟩
theorem DX5_prepare_26W : DD cX5_prepare 26 1 27 (.iconst 0) := ⟨by decide +kernel, rfl⟩
theorem DX5_prepare_27W : DD cX5_prepare 27 1 28 (.iconst 0) := ⟨by decide +kernel, rfl⟩
theorem DX5_prepare_28W : DD cX5_prepare 28 1 29 (.iastore) := ⟨by decide +kernel, rfl⟩
theorem DX5_prepare_29W : DD cX5_prepare 29 1 30 (.iconst 0) := ⟨by decide +kernel, rfl⟩
theorem DX5_prepare_30W : DD cX5_prepare 30 1 31 (.istore_n 1) := ⟨by decide +kernel, rfl⟩
theorem DX5_prepare_31W : DD cX5_prepare 31 1 32 (.iload_n 1) := ⟨by decide +kernel, rfl⟩
theorem DX5_prepare_32W : DD cX5_prepare 32 3 35 (.sipush 601) := ⟨by decide +kernel, rfl⟩
theorem DX5_prepare_35W : DD cX5_prepare 35 1 36 (.aload_n 0) := ⟨by decide +kernel, rfl⟩
theorem DX5_prepare_36W : DD cX5_prepare 36 3 39 (.getfield 18) := ⟨by decide +kernel, rfl⟩
theorem DX5_prepare_39W : DD cX5_prepare 39 3 42 (.getfield 90) := ⟨by decide +kernel, rfl⟩
theorem DX5_prepare_42W : DD cX5_prepare 42 1 43 (.imul) := ⟨by decide +kernel, rfl⟩
theorem DX5_prepare_43W : DD cX5_prepare 43 3 46 (.if_icmp .ge 18) := ⟨by decide +kernel, rfl⟩
theorem DX5_prepare_46W : DD cX5_prepare 46 1 47 (.aload_n 0) := ⟨by decide +kernel, rfl⟩
theorem DX5_prepare_47W : DD cX5_prepare 47 3 50 (.getfield 60) := ⟨by decide +kernel, rfl⟩
theorem DX5_prepare_50W : DD cX5_prepare 50 1 51 (.iload_n 1) := ⟨by decide +kernel, rfl⟩
theorem DX5_prepare_51W : DD cX5_prepare 51 3 54 (.ldc2_w 93) := ⟨by decide +kernel, rfl⟩
theorem DX5_prepare_54W : DD cX5_prepare 54 1 55 (.lastore) := ⟨by decide +kernel, rfl⟩
theorem DX5_prepare_55W : DD cX5_prepare 55 3 58 (.iinc 1 1) := ⟨by decide +kernel, rfl⟩
theorem DX5_prepare_58W : DD cX5_prepare 58 3 61 (.goto (-27)) := ⟨by decide +kernel, rfl⟩
theorem DX5_prepare_61W : DD cX5_prepare 61 1 62 (.iconst 0) := ⟨by decide +kernel, rfl⟩
theorem DX5_prepare_62W : DD cX5_prepare 62 1 63 (.istore_n 1) := ⟨by decide +kernel, rfl⟩
theorem DX5_prepare_63W : DD cX5_prepare 63 1 64 (.iload_n 1) := ⟨by decide +kernel, rfl⟩
theorem DX5_prepare_64W : DD cX5_prepare 64 1 65 (.aload_n 0) := ⟨by decide +kernel, rfl⟩
theorem DX5_prepare_65W : DD cX5_prepare 65 3 68 (.getfield 18) := ⟨by decide +kernel, rfl⟩
theorem DX5_prepare_68W : DD cX5_prepare 68 3 71 (.getfield 90) := ⟨by decide +kernel, rfl⟩
theorem DX5_prepare_71W : DD cX5_prepare 71 3 74 (.if_icmp .ge 145) := ⟨by decide +kernel, rfl⟩
theorem DX5_prepare_74W : DD cX5_prepare 74 1 75 (.aload_n 0) := ⟨by decide +kernel, rfl⟩
theorem DX5_prepare_75W : DD cX5_prepare 75 3 78 (.getfield 18) := ⟨by decide +kernel, rfl⟩
theorem DX5_prepare_78W : DD cX5_prepare 78 3 81 (.getfield 95) := ⟨by decide +kernel, rfl⟩
theorem DX5_prepare_81W : DD cX5_prepare 81 1 82 (.iload_n 1) := ⟨by decide +kernel, rfl⟩
theorem DX5_prepare_82W : DD cX5_prepare 82 1 83 (.iaload) := ⟨by decide +kernel, rfl⟩
theorem DX5_prepare_83W : DD cX5_prepare 83 2 85 (.bipush 6) := ⟨by decide +kernel, rfl⟩
theorem DX5_prepare_85W : DD cX5_prepare 85 3 88 (.if_icmp .gt 6) := ⟨by decide +kernel, rfl⟩
theorem DX5_prepare_88W : DD cX5_prepare 88 3 91 (.goto 122) := ⟨by decide +kernel, rfl⟩
theorem DX5_prepare_91W : DD cX5_prepare 91 1 92 (.aload_n 0) := ⟨by decide +kernel, rfl⟩
theorem DX5_prepare_92W : DD cX5_prepare 92 3 95 (.getfield 31) := ⟨by decide +kernel, rfl⟩
theorem DX5_prepare_95W : DD cX5_prepare 95 1 96 (.iload_n 1) := ⟨by decide +kernel, rfl⟩
theorem DX5_prepare_96W : DD cX5_prepare 96 1 97 (.aload_n 0) := ⟨by decide +kernel, rfl⟩
theorem DX5_prepare_97W : DD cX5_prepare 97 3 100 (.getfield 80) := ⟨by decide +kernel, rfl⟩
theorem DX5_prepare_100W : DD cX5_prepare 100 1 101 (.iastore) := ⟨by decide +kernel, rfl⟩
theorem DX5_prepare_101W : DD cX5_prepare 101 1 102 (.aload_n 0) := ⟨by decide +kernel, rfl⟩
theorem DX5_prepare_102W : DD cX5_prepare 102 1 103 (.dup) := ⟨by decide +kernel, rfl⟩
theorem DX5_prepare_103W : DD cX5_prepare 103 3 106 (.getfield 80) := ⟨by decide +kernel, rfl⟩
theorem DX5_prepare_106W : DD cX5_prepare 106 1 107 (.iconst 1) := ⟨by decide +kernel, rfl⟩
theorem DX5_prepare_107W : DD cX5_prepare 107 1 108 (.iadd) := ⟨by decide +kernel, rfl⟩
theorem DX5_prepare_108W : DD cX5_prepare 108 3 111 (.putfield 80) := ⟨by decide +kernel, rfl⟩
theorem DX5_prepare_111W : DD cX5_prepare 111 1 112 (.iconst 0) := ⟨by decide +kernel, rfl⟩
theorem DX5_prepare_112W : DD cX5_prepare 112 1 113 (.istore_n 2) := ⟨by decide +kernel, rfl⟩
theorem DX5_prepare_113W : DD cX5_prepare 113 1 114 (.iload_n 2) := ⟨by decide +kernel, rfl⟩
theorem DX5_prepare_114W : DD cX5_prepare 114 1 115 (.aload_n 0) := ⟨by decide +kernel, rfl⟩
theorem DX5_prepare_115W : DD cX5_prepare 115 3 118 (.getfield 27) := ⟨by decide +kernel, rfl⟩
theorem DX5_prepare_118W : DD cX5_prepare 118 3 121 (.getfield 98) := ⟨by decide +kernel, rfl⟩
theorem DX5_prepare_121W : DD cX5_prepare 121 3 124 (.if_icmp .ge 16) := ⟨by decide +kernel, rfl⟩
theorem DX5_prepare_124W : DD cX5_prepare 124 1 125 (.aload_n 0) := ⟨by decide +kernel, rfl⟩
theorem DX5_prepare_125W : DD cX5_prepare 125 1 126 (.iload_n 1) := ⟨by decide +kernel, rfl⟩
theorem DX5_prepare_126W : DD cX5_prepare 126 1 127 (.iload_n 2) := ⟨by decide +kernel, rfl⟩
theorem DX5_prepare_127W : DD cX5_prepare 127 1 128 (.iconst 0) := ⟨by decide +kernel, rfl⟩
theorem DX5_prepare_128W : DD cX5_prepare 128 3 131 (.invokevirtual 101) := ⟨by decide +kernel, rfl⟩
theorem DX5_prepare_131W : DD cX5_prepare 131 3 134 (.iinc 2 1) := ⟨by decide +kernel, rfl⟩
theorem DX5_prepare_134W : DD cX5_prepare 134 3 137 (.goto (-21)) := ⟨by decide +kernel, rfl⟩
theorem DX5_prepare_137W : DD cX5_prepare 137 1 138 (.aload_n 0) := ⟨by decide +kernel, rfl⟩
theorem DX5_prepare_138W : DD cX5_prepare 138 3 141 (.getfield 35) := ⟨by decide +kernel, rfl⟩
theorem DX5_prepare_141W : DD cX5_prepare 141 1 142 (.iload_n 1) := ⟨by decide +kernel, rfl⟩
theorem DX5_prepare_142W : DD cX5_prepare 142 1 143 (.lconst 0) := ⟨by decide +kernel, rfl⟩
theorem DX5_prepare_143W : DD cX5_prepare 143 1 144 (.lastore) := ⟨by decide +kernel, rfl⟩
theorem DX5_prepare_144W : DD cX5_prepare 144 1 145 (.aload_n 0) := ⟨by decide +kernel, rfl⟩
theorem DX5_prepare_145W : DD cX5_prepare 145 3 148 (.getfield 44) := ⟨by decide +kernel, rfl⟩
theorem DX5_prepare_148W : DD cX5_prepare 148 1 149 (.iload_n 1) := ⟨by decide +kernel, rfl⟩
theorem DX5_prepare_149W : DD cX5_prepare 149 1 150 (.aload_n 0) := ⟨by decide +kernel, rfl⟩
theorem DX5_prepare_150W : DD cX5_prepare 150 3 153 (.getfield 84) := ⟨by decide +kernel, rfl⟩
theorem DX5_prepare_153W : DD cX5_prepare 153 1 154 (.iastore) := ⟨by decide +kernel, rfl⟩
theorem DX5_prepare_154W : DD cX5_prepare 154 1 155 (.aload_n 0) := ⟨by decide +kernel, rfl⟩
theorem DX5_prepare_155W : DD cX5_prepare 155 3 158 (.getfield 47) := ⟨by decide +kernel, rfl⟩
theorem DX5_prepare_158W : DD cX5_prepare 158 1 159 (.iload_n 1) := ⟨by decide +kernel, rfl⟩
theorem DX5_prepare_159W : DD cX5_prepare 159 1 160 (.iconst 0) := ⟨by decide +kernel, rfl⟩
theorem DX5_prepare_160W : DD cX5_prepare 160 1 161 (.iastore) := ⟨by decide +kernel, rfl⟩
theorem DX5_prepare_161W : DD cX5_prepare 161 1 162 (.aload_n 0) := ⟨by decide +kernel, rfl⟩
theorem DX5_prepare_162W : DD cX5_prepare 162 3 165 (.getfield 27) := ⟨by decide +kernel, rfl⟩
theorem DX5_prepare_165W : DD cX5_prepare 165 1 166 (.aload_n 0) := ⟨by decide +kernel, rfl⟩
theorem DX5_prepare_166W : DD cX5_prepare 166 3 169 (.getfield 18) := ⟨by decide +kernel, rfl⟩
theorem DX5_prepare_169W : DD cX5_prepare 169 3 172 (.getfield 105) := ⟨by decide +kernel, rfl⟩
theorem DX5_prepare_172W : DD cX5_prepare 172 1 173 (.iload_n 1) := ⟨by decide +kernel, rfl⟩
theorem DX5_prepare_173W : DD cX5_prepare 173 1 174 (.iaload) := ⟨by decide +kernel, rfl⟩
theorem DX5_prepare_174W : DD cX5_prepare 174 3 177 (.invokevirtual 108) := ⟨by decide +kernel, rfl⟩
theorem DX5_prepare_177W : DD cX5_prepare 177 1 178 (.istore_n 2) := ⟨by decide +kernel, rfl⟩
theorem DX5_prepare_178W : DD cX5_prepare 178 1 179 (.aload_n 0) := ⟨by decide +kernel, rfl⟩
theorem DX5_prepare_179W : DD cX5_prepare 179 3 182 (.getfield 18) := ⟨by decide +kernel, rfl⟩
theorem DX5_prepare_182W : DD cX5_prepare 182 3 185 (.getfield 95) := ⟨by decide +kernel, rfl⟩
theorem DX5_prepare_185W : DD cX5_prepare 185 1 186 (.iload_n 1) := ⟨by decide +kernel, rfl⟩
theorem DX5_prepare_186W : DD cX5_prepare 186 1 187 (.iaload) := ⟨by decide +kernel, rfl⟩
theorem DX5_prepare_187W : DD cX5_prepare 187 2 189 (.bipush 7) := ⟨by decide +kernel, rfl⟩
theorem DX5_prepare_189W : DD cX5_prepare 189 3 192 (.if_icmp .ne 12) := ⟨by decide +kernel, rfl⟩
theorem DX5_prepare_192W : DD cX5_prepare 192 1 193 (.aload_n 0) := ⟨by decide +kernel, rfl⟩
theorem DX5_prepare_193W : DD cX5_prepare 193 1 194 (.iload_n 1) := ⟨by decide +kernel, rfl⟩
theorem DX5_prepare_194W : DD cX5_prepare 194 1 195 (.iload_n 2) := ⟨by decide +kernel, rfl⟩
theorem DX5_prepare_195W : DD cX5_prepare 195 3 198 (.invokevirtual 112) := ⟨by decide +kernel, rfl⟩
theorem DX5_prepare_198W : DD cX5_prepare 198 3 201 (.goto 12) := ⟨by decide +kernel, rfl⟩
theorem DX5_prepare_201W : DD cX5_prepare 201 1 202 (.iload_n 2) := ⟨by decide +kernel, rfl⟩
theorem DX5_prepare_202W : DD cX5_prepare 202 3 205 (.ifCond .eq 8) := ⟨by decide +kernel, rfl⟩
theorem DX5_prepare_205W : DD cX5_prepare 205 1 206 (.aload_n 0) := ⟨by decide +kernel, rfl⟩
theorem DX5_prepare_206W : DD cX5_prepare 206 1 207 (.iload_n 1) := ⟨by decide +kernel, rfl⟩
theorem DX5_prepare_207W : DD cX5_prepare 207 3 210 (.invokevirtual 116) := ⟨by decide +kernel, rfl⟩
theorem DX5_prepare_210W : DD cX5_prepare 210 3 213 (.iinc 1 1) := ⟨by decide +kernel, rfl⟩
theorem DX5_prepare_213W : DD cX5_prepare 213 3 216 (.goto (-150)) := ⟨by decide +kernel, rfl⟩
theorem DX5_prepare_216W : DD cX5_prepare 216 1 217 (.return_) := ⟨by decide +kernel, rfl⟩
theorem ucX5_prepare_0W {E : XE} {d : Nat} {σ : Sto} {Q : Res → Sto → Prop} {lx : Int → TL} {K : Int} {V : Int} {o0 : Nat} (hL : Lay σ) (ho0 : At5 σ o0) (h : 1 ≤ d ∧ ((o0 + 15) = 102 ∨ (o0 + 15) = 136 ∨ (o0 + 15) = 170) ∧ (0 ≤ σ.I 0 9 ∧ σ.I 0 9 ≤ 12) ∧ (0 ≤ σ.I (o0 + 15) 6 ∧ σ.I (o0 + 15) 6 ≤ σ.I (o0 + 15) 7 ∧ σ.I (o0 + 15) 7 ≤ 601) ∧ (OB σ 42 43) ∧ (bd_0_250 σ 32 6000) ∧ (VFX σ (o0 + 15)) ∧ (∀ σ8 : Sto, SF σ σ8 → ((CNT σ σ8 (o0 + 15) (σ.I (o0 + 15) 7)) ∧ (KCn (o0 + 15) σ σ8)) → (∀ σ9 : Sto, σ9 = σ8.wI o0 6 0 → SF σ8 σ9 → (∀ σ10 : Sto, σ10 = σ9.wI o0 12 0 → SF σ9 σ10 → (∀ σ11 : Sto, σ11 = σ10.wI o0 13 0 → SF σ10 σ11 → (∀ σ12 : Sto, σ12 = σ11.wI (o0 + 27) 0 0 → SF σ11 σ12 → VV E mX5_prepare (d + 1) 31 [(0, aO o0), (1, aI (0))] [] σ12 Q)))))) : VV E mX5_prepare (d + 1) 0 [(0, aO o0)] [] σ Q := by
  refine v_aload_n 0 DX5_prepare_0W rfl rfl <| w_getR (ci := 5) (kf := 1) (kz := 1) DX5_prepare_1W ho0.s rfl (by decide) rfl (Or.inl q887) (fun _ _ => rfl) ho0.r1 <| ?_
  obtain ⟨k1, h⟩ := h
  obtain ⟨k2, k3, k4, k5, k6, k7, h⟩ := h
  refine v_invV (ci := 6) (as := []) (st := []) DX5_prepare_4W rfl okX6_count (Or.inl q1754) q1755 ho0.a1.s rfl q1756 npX6_count (sp_X6_count (σ := σ) (o0 := (o0 + 15)) k1 hL ho0.a1 k2 k3 k4 k5 k6 k7) (Nat.le_of_ble_eq_true rfl) (Nat.le_refl _) (Nat.le_of_ble_eq_true rfl) (RV_ret (fun σ8 gσ8 eσ8 => ?_)) RV_thr
  have h := h σ8 gσ8 eσ8
  refine v_aload_n 0 DX5_prepare_7W rfl rfl <| v_iconst DX5_prepare_8W <| ?_
  refine w_putI (ci := 5) (kf := 6) (kz := 6) DX5_prepare_9W (ho0.sf gσ8).s rfl (by decide) rfl (Or.inl ⟨rfl, q894⟩) (fun _ _ => rfl) ⟨by decide, by decide⟩ rfl rfl (fun σ9 eσ9 gσ9 => ?_)
  have h := h σ9 eσ9 gσ9
  refine v_aload_n 0 DX5_prepare_12W rfl rfl <| v_iconst DX5_prepare_13W <| ?_
  refine w_putI (ci := 5) (kf := 12) (kz := 12) DX5_prepare_14W ((ho0.sf gσ8).sf gσ9).s rfl (by decide) rfl (Or.inl ⟨rfl, q900⟩) (fun _ _ => rfl) ⟨by decide, by decide⟩ rfl rfl (fun σ10 eσ10 gσ10 => ?_)
  have h := h σ10 eσ10 gσ10
  refine v_aload_n 0 DX5_prepare_17W rfl rfl <| v_iconst DX5_prepare_18W <| ?_
  refine w_putI (ci := 5) (kf := 13) (kz := 13) DX5_prepare_19W (((ho0.sf gσ8).sf gσ9).sf gσ10).s rfl (by decide) rfl (Or.inl ⟨rfl, q901⟩) (fun _ _ => rfl) ⟨by decide, by decide⟩ rfl rfl (fun σ11 eσ11 gσ11 => ?_)
  have h := h σ11 eσ11 gσ11
  refine v_aload_n 0 DX5_prepare_22W rfl rfl <| w_getR (ci := 5) (kf := 10) (kz := 10) DX5_prepare_23W ((((ho0.sf gσ8).sf gσ9).sf gσ10).sf gσ11).s rfl (by decide) rfl (Or.inl q898) (fun _ _ => rfl) ((((ho0.sf gσ8).sf gσ9).sf gσ10).sf gσ11).r10 <| v_iconst DX5_prepare_26W <| v_iconst DX5_prepare_27W <| ?_
  refine w_iast DX5_prepare_28W ((((ho0.sf gσ8).sf gσ9).sf gσ10).sf gσ11).s10 (by decide) (by decide) ⟨by decide, by decide⟩ (fun σ12 eσ12 gσ12 => ?_)
  have h := h σ12 eσ12 gσ12
  refine v_iconst DX5_prepare_29W <| v_istore_n DX5_prepare_30W rfl (by decide) rfl <| ?_
  exact v_pick [1, 0] rfl h
theorem ucX5_prepare_31W {E : XE} {d : Nat} {σ : Sto} {Q : Res → Sto → Prop} {lx : Int → TL} {K : Int} {V : Int} {o0 : Nat} {x1 : Int} (hL : Lay σ) (ho0 : At5 σ o0) (h : (inR (σ.I (o0 + 1) 2) → inR x1 ∧ inR (601 * (σ.I (o0 + 1) 2)) ∧ ((601 * (σ.I (o0 + 1) 2)) ≤ x1 → VV E mX5_prepare (d + 1) 63 [(0, aO o0), (1, aI (0))] [] σ Q) ∧ (x1 < (601 * (σ.I (o0 + 1) 2)) → 0 ≤ x1 ∧ x1 < 72120 ∧ (∀ σ7 : Sto, σ7 = σ.wI (o0 + 29) x1 (-2) → SF σ σ7 → VV E mX5_prepare (d + 1) 31 [(0, aO o0), (1, aI (x1 + 1))] [] σ7 Q)))) : VV E mX5_prepare (d + 1) 31 [(0, aO o0), (1, aI (x1))] [] σ Q := by
  refine v_iload_n 1 DX5_prepare_31W rfl rfl <| v_sipush DX5_prepare_32W ⟨by decide, by decide⟩ <| v_aload_n 0 DX5_prepare_35W rfl rfl <| w_getR (ci := 5) (kf := 0) (kz := 0) DX5_prepare_36W ho0.s rfl (by decide) rfl (Or.inl q885) (fun _ _ => rfl) ho0.r0 <| ?_
  refine w_getI (ci := 3) (kf := 2) (kz := 2) DX5_prepare_39W ho0.a0.s rfl (by decide) rfl (Or.inr ⟨_, q726⟩) (fun _ _ => rfl) (fun f1 => ?_)
  have h := h f1
  refine v_imul DX5_prepare_42W <| ?_
  obtain ⟨k2, k3, h⟩ := h
  refine v_icmp_ge (tg := 61) DX5_prepare_43W (by decide) k2 k3 (fun c4 => ?_) (fun c4 => ?_)
  · have h := h.1 c4
    refine v_iconst DX5_prepare_61W <| v_istore_n DX5_prepare_62W rfl (by decide) rfl <| ?_
    exact v_pick [1, 0] rfl h
  · have h := h.2 c4
    refine v_aload_n 0 DX5_prepare_46W rfl rfl <| w_getR (ci := 5) (kf := 14) (kz := 14) DX5_prepare_47W ho0.s rfl (by decide) rfl (Or.inl q902) (fun _ _ => rfl) ho0.r14 <| v_iload_n 1 DX5_prepare_50W rfl rfl <| v_ldc2 (x := (-2)) DX5_prepare_51W q1758 rfl <| ?_
    obtain ⟨k5, k6, h⟩ := h
    refine w_last DX5_prepare_54W ho0.s14 k5 k6 ⟨by decide, by decide⟩ (fun σ7 eσ7 gσ7 => ?_)
    have h := h σ7 eσ7 gσ7
    refine v_iinc 1 DX5_prepare_55W rfl (by decide) rfl <| v_goto (pc' := 31) DX5_prepare_58W.1 (by decide) <| ?_
    exact v_pick [1, 0] rfl h
theorem ucX5_prepare_63W {E : XE} {d : Nat} {σ : Sto} {Q : Res → Sto → Prop} {lx : Int → TL} {K : Int} {V : Int} {o0 : Nat} {x1 : Int} (hL : Lay σ) (ho0 : At5 σ o0) (h : (inR (σ.I (o0 + 1) 2) → inR x1 ∧ ((σ.I (o0 + 1) 2) ≤ x1 → Q (.inl none) σ) ∧ (x1 < (σ.I (o0 + 1) 2) → 0 ≤ x1 ∧ x1 < 200 ∧ (inR (σ.I ((o0 + 1) + 2) x1) → (6 < (σ.I ((o0 + 1) + 2) x1) → (inR (σ.I o0 6) → 0 ≤ x1 ∧ x1 < 200 ∧ (∀ σ11 : Sto, σ11 = σ.wI (o0 + 21) x1 (σ.I o0 6) → SF σ σ11 → (inR (σ11.I o0 6) → inR ((σ11.I o0 6) + 1) ∧ (∀ σ14 : Sto, σ14 = σ11.wI o0 6 ((σ11.I o0 6) + 1) → SF σ11 σ14 → VV E mX5_prepare (d + 1) 113 [(0, aO o0), (1, aI (x1)), (2, aI (0))] [] σ14 Q))))) ∧ ((σ.I ((o0 + 1) + 2) x1) ≤ 6 → VV E mX5_prepare (d + 1) 63 [(0, aO o0), (1, aI (x1 + 1))] [] σ Q))))) : VV E mX5_prepare (d + 1) 63 [(0, aO o0), (1, aI (x1))] [] σ Q := by
  refine v_iload_n 1 DX5_prepare_63W rfl rfl <| v_aload_n 0 DX5_prepare_64W rfl rfl <| w_getR (ci := 5) (kf := 0) (kz := 0) DX5_prepare_65W ho0.s rfl (by decide) rfl (Or.inl q885) (fun _ _ => rfl) ho0.r0 <| ?_
  refine w_getI (ci := 3) (kf := 2) (kz := 2) DX5_prepare_68W ho0.a0.s rfl (by decide) rfl (Or.inr ⟨_, q726⟩) (fun _ _ => rfl) (fun f1 => ?_)
  have h := h f1
  obtain ⟨k2, h⟩ := h
  refine v_icmp_ge (tg := 216) DX5_prepare_71W (by decide) k2 f1 (fun c3 => ?_) (fun c3 => ?_)
  · have h := h.1 c3
    exact v_vret DX5_prepare_216W rfl h
  · have h := h.2 c3
    refine v_aload_n 0 DX5_prepare_74W rfl rfl <| w_getR (ci := 5) (kf := 0) (kz := 0) DX5_prepare_75W ho0.s rfl (by decide) rfl (Or.inl q885) (fun _ _ => rfl) ho0.r0 <| w_getR (ci := 3) (kf := 5) (kz := 5) DX5_prepare_78W ho0.a0.s rfl (by decide) rfl (Or.inr ⟨_, q735⟩) (fun _ _ => rfl) ho0.a0.r5 <| v_iload_n 1 DX5_prepare_81W rfl rfl <| ?_
    obtain ⟨k4, k5, h⟩ := h
    refine v_iald DX5_prepare_82W ho0.a0.s5 k4 k5 (fun f6 => ?_)
    have h := h f6
    refine v_bipush DX5_prepare_83W ⟨by decide, by decide⟩ <| ?_
    refine v_icmp_gt (tg := 91) DX5_prepare_85W (by decide) f6 ⟨by decide, by decide⟩ (fun c7 => ?_) (fun c7 => ?_)
    · have h := h.1 c7
      refine v_aload_n 0 DX5_prepare_91W rfl rfl <| w_getR (ci := 5) (kf := 3) (kz := 3) DX5_prepare_92W ho0.s rfl (by decide) rfl (Or.inl q891) (fun _ _ => rfl) ho0.r3 <| v_iload_n 1 DX5_prepare_95W rfl rfl <| v_aload_n 0 DX5_prepare_96W rfl rfl <| ?_
      refine w_getI (ci := 5) (kf := 6) (kz := 6) DX5_prepare_97W ho0.s rfl (by decide) rfl (Or.inl q894) (fun _ _ => rfl) (fun f8 => ?_)
      have h := h f8
      obtain ⟨k9, k10, h⟩ := h
      refine w_iast DX5_prepare_100W ho0.s3 k9 k10 f8 (fun σ11 eσ11 gσ11 => ?_)
      have h := h σ11 eσ11 gσ11
      refine v_aload_n 0 DX5_prepare_101W rfl rfl <| v_dup DX5_prepare_102W rfl <| ?_
      refine w_getI (ci := 5) (kf := 6) (kz := 6) DX5_prepare_103W (ho0.sf gσ11).s rfl (by decide) rfl (Or.inl q894) (fun _ _ => rfl) (fun f12 => ?_)
      have h := h f12
      refine v_iconst DX5_prepare_106W <| v_iadd DX5_prepare_107W <| ?_
      obtain ⟨k13, h⟩ := h
      refine w_putI (ci := 5) (kf := 6) (kz := 6) DX5_prepare_108W (ho0.sf gσ11).s rfl (by decide) rfl (Or.inl ⟨rfl, q894⟩) (fun _ _ => rfl) k13 rfl rfl (fun σ14 eσ14 gσ14 => ?_)
      have h := h σ14 eσ14 gσ14
      refine v_iconst DX5_prepare_111W <| v_istore_n DX5_prepare_112W rfl (by decide) rfl <| ?_
      exact v_pick [1, 2, 0] rfl h
    · have h := h.2 c7
      refine v_goto (pc' := 210) DX5_prepare_88W.1 (by decide) <| v_iinc 1 DX5_prepare_210W rfl (by decide) rfl <| v_goto (pc' := 63) DX5_prepare_213W.1 (by decide) <| ?_
      exact v_pick [1, 0] rfl h
theorem ucX5_prepare_113W {E : XE} {d : Nat} {σ : Sto} {Q : Res → Sto → Prop} {lx : Int → TL} {K : Int} {V : Int} {o0 : Nat} {x1 : Int} {x2 : Int} (hL : Lay σ) (ho0 : At5 σ o0) (h : (inR (σ.I (o0 + 15) 7) → inR x2 ∧ ((σ.I (o0 + 15) 7) ≤ x2 → 0 ≤ x1 ∧ x1 < 200 ∧ (∀ σ6 : Sto, σ6 = σ.wI (o0 + 22) x1 0 → SF σ σ6 → (inR (σ6.I o0 12) → 0 ≤ x1 ∧ x1 < 200 ∧ (∀ σ10 : Sto, σ10 = σ6.wI (o0 + 24) x1 (σ6.I o0 12) → SF σ6 σ10 → 0 ≤ x1 ∧ x1 < 200 ∧ (∀ σ13 : Sto, σ13 = σ10.wI (o0 + 25) x1 0 → SF σ10 σ13 → 0 ≤ x1 ∧ x1 < 200 ∧ (inR (σ13.I ((o0 + 1) + 7) x1) → 1 ≤ d ∧ (0 ≤ (σ13.I ((o0 + 1) + 7) x1) ∧ (σ13.I ((o0 + 1) + 7) x1) < 12) ∧ (∀ y19 : Int, 0 ≤ y19 ∧ y19 ≤ 1 → (y19 = 1 ↔ (¬ bt32 (σ13.I (o0 + 15) 1) (σ13.I ((o0 + 1) + 7) x1))) → 0 ≤ x1 ∧ x1 < 200 ∧ (inR (σ13.I ((o0 + 1) + 2) x1) → ((σ13.I ((o0 + 1) + 2) x1) ≠ 7 → (y19 = 0 → VV E mX5_prepare (d + 1) 63 [(0, aO o0), (1, aI (x1 + 1))] [] σ13 Q) ∧ (y19 ≠ 0 → 4 ≤ d ∧ (o0 = 87 ∨ o0 = 121 ∨ o0 = 155) ∧ (0 ≤ x1 ∧ x1 < 200) ∧ (bd_0_59 σ13 (o0 + 21) 200) ∧ (TC σ13) ∧ (0 ≤ σ13.I 18 7 ∧ σ13.I 18 7 < 36500) ∧ (∀ s, 0 ≤ s → s < σ13.I 18 7 → 0 ≤ σ13.I 20 s ∧ σ13.I 20 s < 12) ∧ (PT σ13 K) ∧ (PW σ13 V) ∧ (OBV σ13 K V) ∧ (DRV σ13) ∧ (0 ≤ σ13.I 0 39 ∧ σ13.I 0 39 < 601) ∧ (bd_0_20 σ13 21 36500) ∧ (AN σ13) ∧ (0 ≤ σ13.I (o0 + 8) x1 ∧ σ13.I (o0 + 8) x1 < 12) ∧ ((σ13.I (o0 + 3) x1) = 8 → 0 ≤ σ13.I (o0 + 9) x1 ∧ σ13.I (o0 + 9) x1 ≤ σ13.I (o0 + 10) x1 ∧ σ13.I (o0 + 10) x1 ≤ 400) ∧ (11 ≤ (σ13.I (o0 + 3) x1) → TNX σ13 o0 x1) ∧ (8 ≤ (σ13.I (o0 + 3) x1) ∧ (σ13.I (o0 + 3) x1) ≤ 12) ∧ ((σ13.I (o0 + 3) x1) = 8 → 0 ≤ owX σ13 (o0 + 15) (vtX σ13 o0 x1) K V ∧ owX σ13 (o0 + 15) (vtX σ13 o0 x1) K V ≤ σ13.I (o0 + 17) (σ13.I (o0 + 8) x1) ∧ σ13.I (o0 + 17) (σ13.I (o0 + 8) x1) ≤ 601) ∧ (0 ≤ σ13.I (o0 + 15) 6 ∧ σ13.I (o0 + 15) 6 ≤ σ13.I (o0 + 15) 7 ∧ σ13.I (o0 + 15) 7 ≤ 601) ∧ (OB σ13 42 43) ∧ ((σ13.I (o0 + 3) x1) = 10 → (-1000000000 ≤ σ13.I (o0 + 12) x1 ∧ σ13.I (o0 + 12) x1 ≤ 1000000000) ∧ (-1000000000 ≤ σ13.I (o0 + 13) x1 ∧ σ13.I (o0 + 13) x1 ≤ 1000000000) ∧ (0 ≤ σ13.I (o0 + 14) x1 ∧ σ13.I (o0 + 14) x1 ≤ 1000000000)) ∧ ((σ13.I (o0 + 3) x1) = 10 → PTX σ13 (σ13.I (o0 + 8) x1)) ∧ (WOX σ13 (o0 + 15)) ∧ (∀ σ49 : Sto, SF σ13 σ49 → ((MKD σ13 σ49 o0 x1 (otQ σ13 o0 x1 K V)) ∧ (σ49.I (o0 + 22) x1 = otS σ13 o0 x1 K V) ∧ (KOt o0 (σ13.I (o0 + 21) x1) x1 σ13 σ49)) → VV E mX5_prepare (d + 1) 63 [(0, aO o0), (1, aI (x1 + 1))] [] σ49 Q))) ∧ ((σ13.I ((o0 + 1) + 2) x1) = 7 → 525 ≤ d ∧ (o0 = 87 ∨ o0 = 121 ∨ o0 = 155) ∧ (0 ≤ x1 ∧ x1 < 200) ∧ (0 ≤ y19 ∧ y19 ≤ 1) ∧ (0 ≤ (σ13.I (o0 + 8) x1) ∧ (σ13.I (o0 + 8) x1) < 12) ∧ (0 ≤ (σ13.I 17 (σ13.I (o0 + 8) x1)) ∧ (σ13.I 17 (σ13.I (o0 + 8) x1)) < σ13.I 0 4 ∧ σ13.I 0 4 ≤ 6) ∧ (0 ≤ (σ13.I (o0 + 9) x1) ∧ (σ13.I (o0 + 9) x1) ≤ (σ13.I (o0 + 10) x1) ∧ (σ13.I (o0 + 10) x1) ≤ 400) ∧ (AN σ13) ∧ (ANX σ13) ∧ (bd_0_20 σ13 12 250) ∧ ((lx x1) = tk (anS σ13 (anC σ13 (σ13.I 17 (σ13.I (o0 + 8) x1)))) 0 (σ13.I (o0 + 2)) (σ13.I (o0 + 9) x1) (σ13.I (o0 + 10) x1) (σ13.I (o0 + 9) x1) 0 tl0) ∧ (TC1 σ13) ∧ (TC2 σ13) ∧ (0 ≤ σ13.I 18 7 ∧ σ13.I 18 7 < 36500) ∧ (0 ≤ (σ13.I o0 12) ∧ (σ13.I o0 12) + 16 ≤ 1000) ∧ (0 ≤ (σ13.I o0 13) ∧ (σ13.I o0 13) + 250 < 6000) ∧ (σ13.I (o0 + 24) x1 = (σ13.I o0 12)) ∧ (σ13.I (o0 + 25) x1 = 0) ∧ (PT σ13 K) ∧ (PW σ13 V) ∧ (OBV σ13 K V) ∧ (TVL σ13 K V) ∧ (DRV σ13) ∧ (0 ≤ σ13.I 0 39 ∧ σ13.I 0 39 < 601) ∧ (0 ≤ σ13.I (o0 + 11) x1 ∧ σ13.I (o0 + 11) x1 ≤ 9) ∧ (bd_0_500 σ13 (o0 + 26) 1000) ∧ (bd_m1_15 σ13 (o0 + 32) 512) ∧ (bd_0_499 σ13 39 24000) ∧ (bd_0_59 σ13 (o0 + 21) 200) ∧ (∀ v, 0 ≤ v → v < V → 0 ≤ σ13.I 31 v ∧ 0 ≤ σ13.I 32 v ∧ σ13.I 31 v + σ13.I 32 v ≤ 24000) ∧ (∀ k, 0 ≤ k → k < 601 → 0 ≤ σ13.I (o0 + 23) (601 * (σ13.I (o0 + 21) x1) + k) ∧ σ13.I (o0 + 23) (601 * (σ13.I (o0 + 21) x1) + k) ≤ 20000) ∧ (VOC σ13 V) ∧ (¬ σ13.I 16 (σ13.I (o0 + 8) x1) = 1) ∧ (∀ t, 0 ≤ t → t < σ13.I 18 7 → σ13.I 20 t = (σ13.I (o0 + 8) x1) → owX σ13 (o0 + 15) t K V ≤ σ13.I (o0 + 17) (σ13.I (o0 + 8) x1)) ∧ (0 ≤ σ13.I (o0 + 17) (σ13.I (o0 + 8) x1) ∧ σ13.I (o0 + 17) (σ13.I (o0 + 8) x1) ≤ 601) ∧ (0 ≤ σ13.I (o0 + 22) x1 ∧ σ13.I (o0 + 22) x1 ≤ 1000000) ∧ (∀ σ86 : Sto, SF σ13 σ86 → ((TXE σ13 σ86 o0 x1 (tmX σ13 (σ13.I (o0 + 8) x1) (lx x1)) (lx x1)) ∧ ((y19 = 0 ∨ nL (lx x1) = 0) ∧ (∀ c i, c = o0 + 22 ∨ c = o0 + 23 → σ86.I c i = σ13.I c i) ∨ (y19 ≠ 0 ∧ 1 ≤ nL (lx x1)) ∧ σ86.I (o0 + 22) x1 = σ13.I (o0 + 22) x1 + smX σ13 o0 (σ13.I (o0 + 8) x1) K V (lx x1) (nL (lx x1)) ∧ FDT σ13 σ86 o0 x1 V ((σ13.I o0 13) + kT (tmX σ13 (σ13.I (o0 + 8) x1) (lx x1)) (fqP (lx x1).2.2.2.2.2 (mL (lx x1)) 1))) ∧ (bd_0_20 σ86 12 250) ∧ (bd_0_500 σ86 (o0 + 26) 1000) ∧ (bd_m1_15 σ86 (o0 + 32) 512) ∧ (KTe o0 x1 (σ13.I (o0 + 21) x1) (σ13.I o0 12) (σ13.I o0 13) σ13 σ86)) → VV E mX5_prepare (d + 1) 63 [(0, aO o0), (1, aI (x1 + 1))] [] σ86 Q)))))))))) ∧ (x2 < (σ.I (o0 + 15) 7) → 1 ≤ d ∧ (0 ≤ x1 ∧ x1 < 200) ∧ (0 ≤ x2 ∧ x2 < 601) ∧ (bd_0_59 σ (o0 + 21) 200) ∧ (∀ σ91 : Sto, SF σ σ91 → (RD σ σ91 (fun c i => if at2 c i (o0 + 23) (601 * σ.I (o0 + 21) x1 + x2) then sx16 (0 : Int) else σ.I c i)) → VV E mX5_prepare (d + 1) 113 [(0, aO o0), (1, aI (x1)), (2, aI (x2 + 1))] [] σ91 Q)))) : VV E mX5_prepare (d + 1) 113 [(0, aO o0), (1, aI (x1)), (2, aI (x2))] [] σ Q := by
  refine v_iload_n 2 DX5_prepare_113W rfl rfl <| v_aload_n 0 DX5_prepare_114W rfl rfl <| w_getR (ci := 5) (kf := 1) (kz := 1) DX5_prepare_115W ho0.s rfl (by decide) rfl (Or.inl q887) (fun _ _ => rfl) ho0.r1 <| ?_
  refine w_getI (ci := 6) (kf := 7) (kz := 7) DX5_prepare_118W ho0.a1.s rfl (by decide) rfl (Or.inr ⟨_, q858⟩) (fun _ _ => rfl) (fun f1 => ?_)
  have h := h f1
  obtain ⟨k2, h⟩ := h
  refine v_icmp_ge (tg := 137) DX5_prepare_121W (by decide) k2 f1 (fun c3 => ?_) (fun c3 => ?_)
  · have h := h.1 c3
    refine v_aload_n 0 DX5_prepare_137W rfl rfl <| w_getR (ci := 5) (kf := 4) (kz := 4) DX5_prepare_138W ho0.s rfl (by decide) rfl (Or.inl q892) (fun _ _ => rfl) ho0.r4 <| v_iload_n 1 DX5_prepare_141W rfl rfl <| v_lconst DX5_prepare_142W <| ?_
    obtain ⟨k4, k5, h⟩ := h
    refine w_last DX5_prepare_143W ho0.s4 k4 k5 ⟨by decide, by decide⟩ (fun σ6 eσ6 gσ6 => ?_)
    have h := h σ6 eσ6 gσ6
    refine v_aload_n 0 DX5_prepare_144W rfl rfl <| w_getR (ci := 5) (kf := 7) (kz := 7) DX5_prepare_145W (ho0.sf gσ6).s rfl (by decide) rfl (Or.inl q895) (fun _ _ => rfl) (ho0.sf gσ6).r7 <| v_iload_n 1 DX5_prepare_148W rfl rfl <| v_aload_n 0 DX5_prepare_149W rfl rfl <| ?_
    refine w_getI (ci := 5) (kf := 12) (kz := 12) DX5_prepare_150W (ho0.sf gσ6).s rfl (by decide) rfl (Or.inl q900) (fun _ _ => rfl) (fun f7 => ?_)
    have h := h f7
    obtain ⟨k8, k9, h⟩ := h
    refine w_iast DX5_prepare_153W (ho0.sf gσ6).s7 k8 k9 f7 (fun σ10 eσ10 gσ10 => ?_)
    have h := h σ10 eσ10 gσ10
    refine v_aload_n 0 DX5_prepare_154W rfl rfl <| w_getR (ci := 5) (kf := 8) (kz := 8) DX5_prepare_155W ((ho0.sf gσ6).sf gσ10).s rfl (by decide) rfl (Or.inl q896) (fun _ _ => rfl) ((ho0.sf gσ6).sf gσ10).r8 <| v_iload_n 1 DX5_prepare_158W rfl rfl <| v_iconst DX5_prepare_159W <| ?_
    obtain ⟨k11, k12, h⟩ := h
    refine w_iast DX5_prepare_160W ((ho0.sf gσ6).sf gσ10).s8 k11 k12 ⟨by decide, by decide⟩ (fun σ13 eσ13 gσ13 => ?_)
    have h := h σ13 eσ13 gσ13
    refine v_aload_n 0 DX5_prepare_161W rfl rfl <| w_getR (ci := 5) (kf := 1) (kz := 1) DX5_prepare_162W (((ho0.sf gσ6).sf gσ10).sf gσ13).s rfl (by decide) rfl (Or.inl q887) (fun _ _ => rfl) (((ho0.sf gσ6).sf gσ10).sf gσ13).r1 <| v_aload_n 0 DX5_prepare_165W rfl rfl <| w_getR (ci := 5) (kf := 0) (kz := 0) DX5_prepare_166W (((ho0.sf gσ6).sf gσ10).sf gσ13).s rfl (by decide) rfl (Or.inl q885) (fun _ _ => rfl) (((ho0.sf gσ6).sf gσ10).sf gσ13).r0 <| w_getR (ci := 3) (kf := 10) (kz := 10) DX5_prepare_169W (((ho0.sf gσ6).sf gσ10).sf gσ13).a0.s rfl (by decide) rfl (Or.inr ⟨_, q750⟩) (fun _ _ => rfl) (((ho0.sf gσ6).sf gσ10).sf gσ13).a0.r10 <| v_iload_n 1 DX5_prepare_172W rfl rfl <| ?_
    obtain ⟨k14, k15, h⟩ := h
    refine v_iald DX5_prepare_173W (((ho0.sf gσ6).sf gσ10).sf gσ13).a0.s10 k14 k15 (fun f16 => ?_)
    have h := h f16
    obtain ⟨k17, h⟩ := h
    obtain ⟨k18, h⟩ := h
    refine v_invV (ci := 6) (as := [aI (σ13.I ((o0 + 1) + 7) x1)]) (st := []) DX5_prepare_174W rfl okX6_shows (Or.inl q1763) q1764 (((ho0.sf gσ6).sf gσ10).sf gσ13).a1.s rfl q1765 npX6_shows (sp_X6_shows (σ := σ13) (o0 := (o0 + 15)) (x1 := σ13.I ((o0 + 1) + 7) x1) k17 (((hL.sf gσ6).sf gσ10).sf gσ13) (((ho0.sf gσ6).sf gσ10).sf gσ13).a1 k18) (Nat.le_of_ble_eq_true rfl) (Nat.le_refl _) (Nat.le_of_ble_eq_true rfl) (RZ_retv (fun y19 y19f y19e => ?_)) RZ_thr
    have h := h y19 y19f y19e
    refine v_istore_n DX5_prepare_177W rfl (by decide) rfl <| v_aload_n 1 DX5_prepare_178W rfl rfl <| w_getR (ci := 5) (kf := 0) (kz := 0) DX5_prepare_179W (((ho0.sf gσ6).sf gσ10).sf gσ13).s rfl (by decide) rfl (Or.inl q885) (fun _ _ => rfl) (((ho0.sf gσ6).sf gσ10).sf gσ13).r0 <| w_getR (ci := 3) (kf := 5) (kz := 5) DX5_prepare_182W (((ho0.sf gσ6).sf gσ10).sf gσ13).a0.s rfl (by decide) rfl (Or.inr ⟨_, q735⟩) (fun _ _ => rfl) (((ho0.sf gσ6).sf gσ10).sf gσ13).a0.r5 <| v_iload_n 2 DX5_prepare_185W rfl rfl <| ?_
    obtain ⟨k20, k21, h⟩ := h
    refine v_iald DX5_prepare_186W (((ho0.sf gσ6).sf gσ10).sf gσ13).a0.s5 k20 k21 (fun f22 => ?_)
    have h := h f22
    refine v_bipush DX5_prepare_187W ⟨by decide, by decide⟩ <| ?_
    refine v_icmp_ne (tg := 201) DX5_prepare_189W (by decide) f22 ⟨by decide, by decide⟩ (fun c23 => ?_) (fun c23 => ?_)
    · have h := h.1 c23
      refine v_iload_n 0 DX5_prepare_201W rfl rfl <| ?_
      refine v_if_eq (tg := 210) DX5_prepare_202W (by decide) (inR_z y19f) (fun c24 => ?_) (fun c24 => ?_)
      · have h := h.1 c24
        refine v_iinc 2 DX5_prepare_210W rfl (by decide) rfl <| v_goto (pc' := 63) DX5_prepare_213W.1 (by decide) <| ?_
        exact v_pick [2, 0] rfl h
      · have h := h.2 c24
        refine v_aload_n 1 DX5_prepare_205W rfl rfl <| v_iload_n 2 DX5_prepare_206W rfl rfl <| ?_
        obtain ⟨k25, h⟩ := h
        obtain ⟨k26, k27, k28, k29, k30, k31, k32, k33, k34, k35, k36, k37, k38, k39, k40, k41, k42, k43, k44, k45, k46, k47, k48, h⟩ := h
        refine v_invV (ci := 5) (as := [aI (x1)]) (st := []) DX5_prepare_207W rfl okX5_others (Or.inl q1818) q1820 (((ho0.sf gσ6).sf gσ10).sf gσ13).s rfl qs68 npX5_others (sp_X5_others (σ := σ13) (o0 := o0) (x1 := x1) (K := K) (V := V) k25 (((hL.sf gσ6).sf gσ10).sf gσ13) (((ho0.sf gσ6).sf gσ10).sf gσ13) k26 k27 k28 k29 k30 k31 k32 k33 k34 k35 k36 k37 k38 k39 k40 k41 k42 k43 k44 k45 k46 k47 k48) (Nat.le_of_ble_eq_true rfl) (Nat.le_refl _) (Nat.le_of_ble_eq_true rfl) (RV_ret (fun σ49 gσ49 eσ49 => ?_)) RV_thr
        have h := h σ49 gσ49 eσ49
        refine v_iinc 2 DX5_prepare_210W rfl (by decide) rfl <| v_goto (pc' := 63) DX5_prepare_213W.1 (by decide) <| ?_
        exact v_pick [2, 0] rfl h
    · have h := h.2 c23
      refine v_aload_n 1 DX5_prepare_192W rfl rfl <| v_iload_n 2 DX5_prepare_193W rfl rfl <| v_iload_n 0 DX5_prepare_194W rfl rfl <| ?_
      obtain ⟨k50, h⟩ := h
      obtain ⟨k51, k52, k53, k54, k55, k56, k57, k58, k59, k60, k61, k62, k63, k64, k65, k66, k67, k68, k69, k70, k71, k72, k73, k74, k75, k76, k77, k78, k79, k80, k81, k82, k83, k84, k85, h⟩ := h
      refine v_invV (ci := 5) (as := [aI (x1), aI (y19)]) (st := []) DX5_prepare_195W rfl okX5_text (Or.inl q1767) q1769 (((ho0.sf gσ6).sf gσ10).sf gσ13).s rfl qs61 npX5_text (sp_X5_text (σ := σ13) (o0 := o0) (x1 := x1) (x2 := y19) (l := (lx x1)) (K := K) (V := V) k50 (((hL.sf gσ6).sf gσ10).sf gσ13) (((ho0.sf gσ6).sf gσ10).sf gσ13) k51 k52 k53 k54 k55 k56 k57 k58 k59 k60 k61 k62 k63 k64 k65 k66 k67 k68 k69 k70 k71 k72 k73 k74 k75 k76 k77 k78 k79 k80 k81 k82 k83 k84 k85) (Nat.le_of_ble_eq_true rfl) (Nat.le_refl _) (Nat.le_of_ble_eq_true rfl) (RV_ret (fun σ86 gσ86 eσ86 => ?_)) RV_thr
      have h := h σ86 gσ86 eσ86
      refine v_goto (pc' := 210) DX5_prepare_198W.1 (by decide) <| v_iinc 2 DX5_prepare_210W rfl (by decide) rfl <| v_goto (pc' := 63) DX5_prepare_213W.1 (by decide) <| ?_
      exact v_pick [2, 0] rfl h
  · have h := h.2 c3
    refine v_aload_n 0 DX5_prepare_124W rfl rfl <| v_iload_n 1 DX5_prepare_125W rfl rfl <| v_iload_n 2 DX5_prepare_126W rfl rfl <| v_iconst DX5_prepare_127W <| ?_
    obtain ⟨k87, h⟩ := h
    obtain ⟨k88, k89, k90, h⟩ := h
    refine v_invV (ci := 5) (as := [aI (x1), aI (x2), aI (0)]) (st := []) DX5_prepare_128W rfl okX5_set (Or.inl q1759) q1761 ho0.s rfl qs60 npX5_set (sp_X5_set (σ := σ) (o0 := o0) (x1 := x1) (x2 := x2) (x3 := (0 : Int)) k87 hL ho0 k88 k89 k90) (Nat.le_of_ble_eq_true rfl) (Nat.le_refl _) (Nat.le_of_ble_eq_true rfl) (RV_ret (fun σ91 gσ91 eσ91 => ?_)) RV_thr
    have h := h σ91 gσ91 eσ91
    refine v_iinc 2 DX5_prepare_131W rfl (by decide) rfl <| v_goto (pc' := 113) DX5_prepare_134W.1 (by decide) <| ?_
    exact v_pick [1, 2, 0] rfl h
theorem sp_X5_prepareW {E : XE} {d : Nat} {σ : Sto} {lx : Int → TL} {K : Int} {V : Int} {o0 : Nat} (hd : 526 ≤ d) (hL : Lay σ) (ho0 : At5 σ o0) (p0 : o0 = 87 ∨ o0 = 121 ∨ o0 = 155) (p1 : 0 ≤ (σ.I (o0 + 1) 2) ∧ (σ.I (o0 + 1) 2) ≤ 119) (p2 : rwN σ o0 (σ.I (o0 + 1) 2) ≤ 60) (p3 : txN σ o0 lx (σ.I (o0 + 1) 2) ≤ 5000) (p4 : ∀ x, 0 ≤ x → x < (σ.I (o0 + 1) 2) → lfN σ o0 x → NDq σ o0 lx x) (p5 : 0 ≤ σ.I 0 9 ∧ σ.I 0 9 ≤ 12) (p6 : 0 ≤ σ.I (o0 + 15) 6 ∧ σ.I (o0 + 15) 6 ≤ (σ.I (o0 + 15) 7) ∧ (σ.I (o0 + 15) 7) ≤ 601) (p7 : OB σ 42 43) (p8 : bd_0_250 σ 32 6000) (p9 : VFX σ (o0 + 15)) (p10 : TC σ) (p11 : 0 ≤ σ.I 18 7 ∧ σ.I 18 7 < 36500) (p12 : ∀ s, 0 ≤ s → s < σ.I 18 7 → 0 ≤ σ.I 20 s ∧ σ.I 20 s < σ.I 0 9) (p13 : PT σ K) (p14 : PW σ V) (p15 : OBV σ K V) (p16 : TVL σ K V) (p17 : DRV σ) (p18 : 0 ≤ σ.I 0 39 ∧ σ.I 0 39 < 601) (p19 : bd_0_20 σ 21 36500) (p20 : AN σ) (p21 : ANX σ) (p22 : σ.I 0 4 ≤ 6) (p23 : bd_0_499 σ 39 24000) (p24 : ∀ v, 0 ≤ v → v < V → 0 ≤ σ.I 31 v ∧ 0 ≤ σ.I 32 v ∧ σ.I 31 v + σ.I 32 v ≤ 24000) (p25 : VOC σ V) (p26 : PBD σ o0) (p27 : ∀ t, 0 ≤ t → t < σ.I 18 7 → 0 ≤ owX σ (o0 + 15) t K V ∧ owX σ (o0 + 15) t K V ≤ hvX σ (o0 + 15) (σ.I 20 t) (σ.I (o0 + 15) 7)) (p28 : ∀ v, 0 ≤ v → v < V → σ.I 27 v < (σ.I (o0 + 15) 7)) (p29 : σ.I (o0 + 15) 8 ≠ 0 → σ.I 0 39 < (σ.I (o0 + 15) 7)) (p30 : owX σ (o0 + 15) (-1) K V = 0) (p31 : WOX σ (o0 + 15)) : CC E mX5_prepare d [aO o0] σ (RV (fun τ => (PRI σ τ o0 lx K V (σ.I (o0 + 1) 2) (rwN σ o0 (σ.I (o0 + 1) 2))) ∧ (KPq o0 σ τ))) := by
  obtain ⟨d, rfl⟩ : ∃ e, d = e + 1 := ⟨d - 1, by omega⟩
  have ho86 : 86 ≤ o0 ∧ o0 ≤ 160 := (by omega)
  have e3x : ∀ x, σ.I (o0 + 1 + 2) x = σ.I (o0 + 3) x := fun x => rfl
  have hlx : ∀ y, 0 ≤ y → y < (σ.I (o0 + 1) 2) → σ.I (o0 + 3) y = 7 → 0 ≤ (lx y).1 ∧ (lx y).1 ≤ 250 ∧ TKI (lx y) (σ.I (o0 + 9) y) (σ.I (o0 + 10) y) (σ.I (o0 + 10) y) := fun y a b c => (by obtain ⟨q1, q2, q3, q4⟩ := (p4 y a b (by unfold lfN; rw [c]; decide)).2.2.2.1 c; have z := tk_TKI (A := σ.I (o0 + 2)) (f := σ.I (o0 + 9) y) (to := σ.I (o0 + 10) y) (ARW_X (p21 _ q1.1 q1.2).1) q2.1 q2.2.1; rw [← q4] at z; exact ⟨z.1.1, z.1.2, z⟩)
  have hlx := hdI hlx
  have hV0 := p15.2.1
  have hDr := p17.1
  have key : ∀ wa wb wc : Nat, (∀ (x1 : Int) (τ : Sto), SF σ τ → ((KPq o0 σ τ) ∧ (0 ≤ x1 ∧ x1 ≤ 601 * (σ.I (o0 + 1) 2)) ∧ (PR0 σ τ o0 x1)) → wa = 1 → wb = (72120 - x1).toNat → wc = 0 → VV E mX5_prepare (d + 1) 31 [(0, aO o0), (1, aI (x1))] [] τ (RV (fun τ => (PRI σ τ o0 lx K V (σ.I (o0 + 1) 2) (rwN σ o0 (σ.I (o0 + 1) 2))) ∧ (KPq o0 σ τ)))) ∧ (∀ (x1 : Int) (τ : Sto), SF σ τ → ((KPq o0 σ τ) ∧ (0 ≤ x1 ∧ x1 ≤ (σ.I (o0 + 1) 2)) ∧ (PRI σ τ o0 lx K V x1 (rwN σ o0 x1))) → wa = 0 → wb = ((σ.I (o0 + 1) 2) - x1).toNat → wc = 1000 → VV E mX5_prepare (d + 1) 63 [(0, aO o0), (1, aI (x1))] [] τ (RV (fun τ => (PRI σ τ o0 lx K V (σ.I (o0 + 1) 2) (rwN σ o0 (σ.I (o0 + 1) 2))) ∧ (KPq o0 σ τ)))) ∧ (∀ (x1 : Int) (x2 : Int) (τ : Sto), SF σ τ → ((KPq o0 σ τ) ∧ (0 ≤ x1 ∧ x1 < (σ.I (o0 + 1) 2)) ∧ (PRI σ τ o0 lx K V x1 (rwN σ o0 x1 + 1)) ∧ (τ.I (o0 + 21) x1 = rwN σ o0 x1) ∧ (lfN σ o0 x1) ∧ (alN (fun k => τ.I (o0 + 23) (601 * rwN σ o0 x1 + k) = 0) x2) ∧ (0 ≤ x2 ∧ x2 ≤ (σ.I (o0 + 15) 7))) → wa = 0 → wb = ((σ.I (o0 + 1) 2) - x1).toNat → wc = (601 - x2).toNat → VV E mX5_prepare (d + 1) 113 [(0, aO o0), (1, aI (x1)), (2, aI (x2))] [] τ (RV (fun τ => (PRI σ τ o0 lx K V (σ.I (o0 + 1) 2) (rwN σ o0 (σ.I (o0 + 1) 2))) ∧ (KPq o0 σ τ)))) := by
    refine lex3 (fun wa wb wc ih => ?_)
    have ih0 : ∀ (x1 : Int) (τ : Sto), SF σ τ → ((KPq o0 σ τ) ∧ (0 ≤ x1 ∧ x1 ≤ 601 * (σ.I (o0 + 1) 2)) ∧ (PR0 σ τ o0 x1)) → lt3 1 ((72120 - x1).toNat) 0 wa wb wc → VV E mX5_prepare (d + 1) 31 [(0, aO o0), (1, aI (x1))] [] τ (RV (fun τ => (PRI σ τ o0 lx K V (σ.I (o0 + 1) 2) (rwN σ o0 (σ.I (o0 + 1) 2))) ∧ (KPq o0 σ τ))) := fun z0 z1 h0 h1 hlt => (ih _ _ _ hlt).1 z0 z1 h0 h1 rfl rfl rfl
    have ih1 : ∀ (x1 : Int) (τ : Sto), SF σ τ → ((KPq o0 σ τ) ∧ (0 ≤ x1 ∧ x1 ≤ (σ.I (o0 + 1) 2)) ∧ (PRI σ τ o0 lx K V x1 (rwN σ o0 x1))) → lt3 0 (((σ.I (o0 + 1) 2) - x1).toNat) 1000 wa wb wc → VV E mX5_prepare (d + 1) 63 [(0, aO o0), (1, aI (x1))] [] τ (RV (fun τ => (PRI σ τ o0 lx K V (σ.I (o0 + 1) 2) (rwN σ o0 (σ.I (o0 + 1) 2))) ∧ (KPq o0 σ τ))) := fun z0 z1 h0 h1 hlt => (ih _ _ _ hlt).2.1 z0 z1 h0 h1 rfl rfl rfl
    have ih2 : ∀ (x1 : Int) (x2 : Int) (τ : Sto), SF σ τ → ((KPq o0 σ τ) ∧ (0 ≤ x1 ∧ x1 < (σ.I (o0 + 1) 2)) ∧ (PRI σ τ o0 lx K V x1 (rwN σ o0 x1 + 1)) ∧ (τ.I (o0 + 21) x1 = rwN σ o0 x1) ∧ (lfN σ o0 x1) ∧ (alN (fun k => τ.I (o0 + 23) (601 * rwN σ o0 x1 + k) = 0) x2) ∧ (0 ≤ x2 ∧ x2 ≤ (σ.I (o0 + 15) 7))) → lt3 0 (((σ.I (o0 + 1) 2) - x1).toNat) ((601 - x2).toNat) wa wb wc → VV E mX5_prepare (d + 1) 113 [(0, aO o0), (1, aI (x1)), (2, aI (x2))] [] τ (RV (fun τ => (PRI σ τ o0 lx K V (σ.I (o0 + 1) 2) (rwN σ o0 (σ.I (o0 + 1) 2))) ∧ (KPq o0 σ τ))) := fun z0 z1 z2 h0 h1 hlt => (ih _ _ _ hlt).2.2 z0 z1 z2 h0 h1 rfl rfl rfl
    clear ih
    refine ⟨?_, ?_, ?_⟩
    · rintro x1 τ gτ ⟨i0, i1, i2⟩ ha hb hc
      subst ha hb hc
      have hnn : τ.I (o0 + 1) 2 = σ.I (o0 + 1) 2 := congrFun (unp i0 (c := o0 + 1) (by omega)) 2
      refine ucX5_prepare_31W (lx := lx) (K := K) (V := V) (hL.sf gτ) (ho0.sf gτ) ?_
      rintro ⟨f1, f1q⟩
      refine ⟨?_, ?_⟩
      · (first | exact ⟨by omega, by omega⟩ | assumption)
      refine ⟨?_, ?_⟩
      · (first | exact ⟨by omega, by omega⟩ | assumption)
      refine ⟨fun c2 => ?_, fun c3 => ?_⟩
      · refine ih1 _ _ gτ ⟨?_, ?_, ?_⟩ ?_
        · exact i0
        · (first | omega | exact ⟨by omega, by omega⟩ | assumption)
        · (clear ih0 ih1 ih2; exact PR0_I i2 (by omega))
        · (unfold lt3; omega)
      · refine ⟨?_, ?_⟩
        · (first | omega | exact ⟨by omega, by omega⟩ | assumption)
        refine ⟨?_, ?_⟩
        · (first | omega | exact ⟨by omega, by omega⟩ | assumption)
        intro σ7 eσ7 gσ7
        have kσ7 : KPq o0 τ σ7 := KPq_w eσ7 (by unfold wsPq wsPr; omega)
        refine ih0 _ _ (gτ.tr gσ7) ⟨?_, ?_, ?_⟩ ?_
        · exact (Ch.tr i0 kσ7)
        · (first | omega | exact ⟨by omega, by omega⟩ | assumption)
        · (clear ih0 ih1 ih2; exact PR0_s i2 eσ7)
        · (unfold lt3; omega)
    · rintro x1 τ gτ ⟨i0, i1, i2⟩ ha hb hc
      subst ha hb hc
      have hnn : τ.I (o0 + 1) 2 = (σ.I (o0 + 1) 2) := congrFun (unp i0 (c := o0 + 1) (by omega)) 2
      have h3 : τ.I (o0 + 1 + 2) x1 = σ.I (o0 + 3) x1 := congrFun (unp i0 (c := o0 + 3) (by omega)) x1
      have hr6 : τ.I o0 6 = rwN σ o0 x1 := (by obtain ⟨β, _, _, q, _⟩ := i2; exact q.1)
      have hrs := rwN_s (σ := σ) (o := o0) i1.1
      have hrm := hdI (fun (h : x1 < (σ.I (o0 + 1) 2)) => rwN_mo (σ := σ) (o := o0) (a := x1 + 1) (b := (σ.I (o0 + 1) 2)) (by omega) (by omega))
      have hri := rwN_in (σ := σ) (o := o0) i1.1
      have hlz : lfN σ o0 x1 ↔ 7 ≤ σ.I (o0 + 3) x1 := Iff.rfl
      have hl1 : ∀ y, 0 ≤ y → y < x1 → σ.I (o0 + 3) y = 7 → 0 ≤ (lx y).1 := fun y a b c => ((hdO hlx) y a (by omega) c).1
      have hl1 := hdI hl1
      refine ucX5_prepare_63W (lx := lx) (K := K) (V := V) (hL.sf gτ) (ho0.sf gτ) ?_
      rintro ⟨f1, f1q⟩
      refine ⟨?_, ?_⟩
      · (first | exact ⟨by omega, by omega⟩ | assumption)
      refine ⟨fun c2 => ?_, fun c3 => ?_⟩
      · refine RV_mk ?_
        · refine ⟨?_, ?_⟩
          · (clear ih0 ih1 ih2; (have e : x1 = (σ.I (o0 + 1) 2) := (by omega); rw [← e]; exact i2))
          · exact i0
      · refine ⟨?_, ?_⟩
        · (first | omega | exact ⟨by omega, by omega⟩ | assumption)
        refine ⟨?_, ?_⟩
        · (first | omega | exact ⟨by omega, by omega⟩ | assumption)
        rintro ⟨f4, f4q⟩
        refine ⟨fun c5 => ?_, fun c6 => ?_⟩
        · rintro ⟨f7, f7q⟩
          refine ⟨?_, ?_⟩
          · (first | omega | exact ⟨by omega, by omega⟩ | assumption)
          refine ⟨?_, ?_⟩
          · (first | omega | exact ⟨by omega, by omega⟩ | assumption)
          intro σ11 eσ11 gσ11
          have kσ11 : KPq o0 τ σ11 := KPq_w eσ11 (by unfold wsPq wsPr; omega)
          have z116 : σ11.I o0 6 = τ.I o0 6 := (by rw [eσ11]; exact I_ne _ _ _ _ (by omega))
          rintro ⟨f8, f8q⟩
          refine ⟨?_, ?_⟩
          · (first | exact ⟨by omega, by omega⟩ | assumption)
          intro σ14 eσ14 gσ14
          have kσ14 : KPq o0 σ11 σ14 := KPq_w eσ14 (by unfold wsPq wsPr; omega)
          have hlf : lfN σ o0 x1 := (by unfold lfN; omega)
          have hrz := hrs
          rw [zb_t hlf] at hrz
          have hrm2 := (hdO hrm) (by omega)
          have k14 : ∀ c i, ¬ (c = o0 + 21 ∧ i = x1) → ¬ (c = o0 ∧ i = 6) → σ14.I c i = τ.I c i := fun c i a b => (by rw [eσ14, I_wI, if_neg b, eσ11, I_wI, if_neg a])
          have r21 : σ14.I (o0 + 21) x1 = rwN σ o0 x1 := (by rw [eσ14, I_ne _ _ _ _ (by omega), eσ11, I_same]; exact hr6)
          have r6 : σ14.I o0 6 = rwN σ o0 x1 + 1 := (by rw [eσ14, I_same, eσ11, I_ne _ _ _ _ (by omega), hr6])
          have hpb := PRI_b i2
          have hb14 : PBD σ14 o0 := ⟨bd_0_20_eq hpb.1 (funext fun i => k14 _ _ (by omega) (by omega)), fun i a b => (by rcases (show i = x1 ∨ i ≠ x1 by omega) with z | z; (rw [z, r21]; omega); (rw [k14 _ _ (by omega) (by omega)]; exact hpb.2.1 i a b)), bd_0_20000_eq hpb.2.2.1 (funext fun i => k14 _ _ (by omega) (by omega)), bd_m1_15_eq hpb.2.2.2.1 (funext fun i => k14 _ _ (by omega) (by omega)), bd_0_500_eq hpb.2.2.2.2 (funext fun i => k14 _ _ (by omega) (by omega))⟩
          have hP14 : PRI σ σ14 o0 lx K V x1 (rwN σ o0 x1 + 1) := PRI_m i2 i1.1 p6.2.2 (hdO hl1) ⟨⟨by rw [eσ14, eσ11]; rfl, by rw [eσ14, eσ11]; rfl, by rw [eσ14, eσ11]; rfl⟩, fun c i q => k14 c i (fun z => q (by unfold wsPr; omega)) (fun z => q (by unfold wsPr; omega))⟩ r6 (k14 _ _ (by omega) (by omega)) (k14 _ _ (by omega) (by omega)) (fun c y a b d => k14 c y (by omega) (by omega)) (fun i a => k14 _ _ (by omega) (by omega)) (fun c i a b => k14 c i (by omega) (by omega)) hb14
          refine ih2 _ _ _ ((gτ.tr gσ11).tr gσ14) ⟨?_, ?_, ?_, ?_, ?_, ?_, ?_⟩ ?_
          · exact (Ch.tr (Ch.tr i0 kσ11) kσ14)
          · (first | omega | exact ⟨by omega, by omega⟩ | assumption)
          · (clear ih0 ih1 ih2; exact hP14)
          · (clear ih0 ih1 ih2; exact r21)
          · (clear ih0 ih1 ih2; exact hlf)
          · (clear ih0 ih1 ih2; exact alN_0 _ _ (Int.le_refl _))
          · (first | omega | exact ⟨by omega, by omega⟩ | assumption)
          · (unfold lt3; omega)
        · refine ih1 _ _ gτ ⟨?_, ?_, ?_⟩ ?_
          · exact i0
          · (first | omega | exact ⟨by omega, by omega⟩ | assumption)
          · (clear ih0 ih1 ih2; (have z := PRI_n i2 i1.1 (fun z => by have z2 := hlz.mp z; omega); have w : rwN σ o0 (x1 + 1) = rwN σ o0 x1 := (by rw [hrs, zb_f (fun z => by have z2 := hlz.mp z; omega), Int.add_zero]); rw [w]; exact z))
          · (unfold lt3; omega)
    · rintro x1 x2 τ gτ ⟨i0, i1, i2, i3, i4, i5, i6⟩ ha hb hc
      subst ha hb hc
      have hpb := PRI_b i2
      have hpv := PRI_v i2
      have h157 : τ.I (o0 + 15) 7 = (σ.I (o0 + 15) 7) := congrFun (unp i0 (c := o0 + 15) (by omega)) 7
      have hND := p4 x1 i1.1 i1.2 i4
      have hlz : 7 ≤ σ.I (o0 + 3) x1 := i4
      have hrs := rwN_s (σ := σ) (o := o0) i1.1
      rw [zb_t i4] at hrs
      have hrm := rwN_mo (σ := σ) (o := o0) (a := x1 + 1) (b := (σ.I (o0 + 1) 2)) (by omega) (by omega)
      have hri := rwN_in (σ := σ) (o := o0) i1.1
      have hl1 : ∀ y, 0 ≤ y → y < x1 → σ.I (o0 + 3) y = 7 → 0 ≤ (lx y).1 := fun y a b c => ((hdO hlx) y a (by omega) c).1
      have hl1 := hdI hl1
      have htm := hdI (txN_mo (σ := σ) (o := o0) (lx := lx) (N := (σ.I (o0 + 1) 2)) (fun y a b c => ((hdO hlx) y a b c).1))
      have hR1 := hND.2.1
      have hN1 := hND.1
      have hN3 := hND.2.2.1
      refine ucX5_prepare_113W (lx := lx) (K := K) (V := V) (hL.sf gτ) (ho0.sf gτ) ?_
      rintro ⟨f1, f1q⟩
      refine ⟨?_, ?_⟩
      · (first | exact ⟨by omega, by omega⟩ | assumption)
      refine ⟨fun c2 => ?_, fun c3 => ?_⟩
      · refine ⟨?_, ?_⟩
        · (first | omega | exact ⟨by omega, by omega⟩ | assumption)
        refine ⟨?_, ?_⟩
        · (first | omega | exact ⟨by omega, by omega⟩ | assumption)
        intro σ6 eσ6 gσ6
        have kσ6 : KPq o0 τ σ6 := KPq_w eσ6 (by unfold wsPq wsPr; omega)
        rintro ⟨f4, f4q⟩
        refine ⟨?_, ?_⟩
        · (first | omega | exact ⟨by omega, by omega⟩ | assumption)
        refine ⟨?_, ?_⟩
        · (first | omega | exact ⟨by omega, by omega⟩ | assumption)
        intro σ10 eσ10 gσ10
        have kσ10 : KPq o0 σ6 σ10 := KPq_w eσ10 (by unfold wsPq wsPr; omega)
        refine ⟨?_, ?_⟩
        · (first | omega | exact ⟨by omega, by omega⟩ | assumption)
        refine ⟨?_, ?_⟩
        · (first | omega | exact ⟨by omega, by omega⟩ | assumption)
        intro σ13 eσ13 gσ13
        have kσ13 : KPq o0 σ10 σ13 := KPq_w eσ13 (by unfold wsPq wsPr; omega)
        have k13 : ∀ c i, ¬ ((c = o0 + 22 ∨ c = o0 + 24 ∨ c = o0 + 25) ∧ i = x1) → σ13.I c i = τ.I c i := fun c i q => (by rw [eσ13, I_wI, if_neg (by omega), eσ10, I_wI, if_neg (by omega), eσ6, I_wI, if_neg (by omega)])
        have v22 : σ13.I (o0 + 22) x1 = 0 := (by rw [eσ13, I_ne _ _ _ _ (by omega), eσ10, I_ne _ _ _ _ (by omega), eσ6, I_same])
        have v24 : σ13.I (o0 + 24) x1 = σ13.I o0 12 := (by rw [k13 o0 12 (by omega), eσ13, I_ne _ _ _ _ (by omega), eσ10, I_same, eσ6, I_ne _ _ _ _ (by omega)])
        have v25 : σ13.I (o0 + 25) x1 = 0 := (by rw [eσ13, I_same])
        have hb13 : PBD σ13 o0 := PBD_e hpb (fun c i q => k13 c i (by omega))
        have hP13 : PRI σ σ13 o0 lx K V x1 (rwN σ o0 x1 + 1) := PRI_m i2 i1.1 p6.2.2 (hdO hl1) ⟨⟨by rw [eσ13, eσ10, eσ6]; rfl, by rw [eσ13, eσ10, eσ6]; rfl, by rw [eσ13, eσ10, eσ6]; rfl⟩, fun c i q => k13 c i (fun z => q (by unfold wsPr; omega))⟩ ((k13 _ _ (by omega)).trans hpv.1) (k13 _ _ (by omega)) (k13 _ _ (by omega)) (fun c y a b d => k13 c y (by omega)) (fun i a => k13 _ _ (by omega)) (fun c i a b => k13 c i (by omega)) hb13
        have K13 : KPq o0 σ σ13 := Ch.tr (Ch.tr (Ch.tr i0 kσ6) kσ10) kσ13
        have q13 := PRI_v hP13
        have r21 : σ13.I (o0 + 21) x1 = rwN σ o0 x1 := (k13 _ _ (by omega)).trans i3
        have hz13 : ∀ k, 0 ≤ k → k < (σ.I (o0 + 15) 7) → σ13.I (o0 + 23) (601 * rwN σ o0 x1 + k) = 0 := fun k a b => (k13 _ _ (by omega)).trans (i5 k a (by omega))
        have u3 : σ13.I (o0 + 3) x1 = σ.I (o0 + 3) x1 := congrFun (unp K13 (c := o0 + 3) (by omega)) x1
        have u8 : σ13.I (o0 + 8) x1 = σ.I (o0 + 8) x1 := congrFun (unp K13 (c := o0 + 8) (by omega)) x1
        have u3' : σ13.I (o0 + 1 + 2) x1 = σ.I (o0 + 3) x1 := u3
        have u8' : σ13.I (o0 + 1 + 7) x1 = σ.I (o0 + 8) x1 := u8
        have u9 : σ13.I (o0 + 9) x1 = σ.I (o0 + 9) x1 := congrFun (unp K13 (c := o0 + 9) (by omega)) x1
        have u10 : σ13.I (o0 + 10) x1 = σ.I (o0 + 10) x1 := congrFun (unp K13 (c := o0 + 10) (by omega)) x1
        have u11 : σ13.I (o0 + 11) x1 = σ.I (o0 + 11) x1 := congrFun (unp K13 (c := o0 + 11) (by omega)) x1
        have u12 : σ13.I (o0 + 12) x1 = σ.I (o0 + 12) x1 := congrFun (unp K13 (c := o0 + 12) (by omega)) x1
        have u133 : σ13.I (o0 + 13) x1 = σ.I (o0 + 13) x1 := congrFun (unp K13 (c := o0 + 13) (by omega)) x1
        have u14 : σ13.I (o0 + 14) x1 = σ.I (o0 + 14) x1 := congrFun (unp K13 (c := o0 + 14) (by omega)) x1
        have u0 : ∀ i, σ13.I 0 i = σ.I 0 i := fun i => congrFun (unp K13 (c := 0) (by omega)) i
        have u04 := u0 4
        have u039 := u0 39
        have u18 : σ13.I 18 7 = σ.I 18 7 := congrFun (unp K13 (c := 18) (by omega)) 7
        have u15 : ∀ i, σ13.I (o0 + 15) i = σ.I (o0 + 15) i := fun i => congrFun (unp K13 (c := o0 + 15) (by omega)) i
        have u156 := u15 6
        have u157 := u15 7
        have h17 := PRI_h hP13 ho86.1 hR1.1 hR1.2
        have h17' : σ13.I (o0 + 17) (σ13.I (o0 + 8) x1) = hvX σ (o0 + 15) (σ.I (o0 + 8) x1) (σ.I (o0 + 15) 7) := (by rw [u8]; exact h17)
        have hvb := cn_in (fun k => swX σ (o0 + 15) k ∧ hxV σ (σ.I (o0 + 8) x1) k) (σ.I (o0 + 15) 7)
        have hvb2 : 0 ≤ hvX σ (o0 + 15) (σ.I (o0 + 8) x1) (σ.I (o0 + 15) 7) ∧ hvX σ (o0 + 15) (σ.I (o0 + 8) x1) (σ.I (o0 + 15) 7) ≤ 601 := (by unfold hvX; omega)
        have u17 : σ13.I 17 (σ13.I (o0 + 8) x1) = σ.I 17 (σ.I (o0 + 8) x1) := (by rw [unp K13 (c := 17) (by omega), u8])
        have u16 : σ13.I 16 (σ13.I (o0 + 8) x1) = σ.I 16 (σ.I (o0 + 8) x1) := (by rw [unp K13 (c := 16) (by omega), u8])
        have how : owX σ13 (o0 + 15) = owX σ (o0 + 15) := owX_p K13 ho86.1
        have u20 : σ13.I 20 = σ.I 20 := unp K13 (c := 20) (by omega)
        have htx := (hdO htm) ((σ.I (o0 + 1) 2) - (x1 + 1)).toNat (x1 + 1) (by omega) (by omega)
        rw [show x1 + 1 + ((((σ.I (o0 + 1) 2) - (x1 + 1)).toNat : Nat) : Int) = (σ.I (o0 + 1) 2) by omega] at htx
        have htx0 := (hdO htm) 1 x1 i1.1 (by omega)
        have htx1 : txN σ o0 lx (x1 + ((1 : Nat) : Int)) = txN σ o0 lx (x1 + 1) := rfl
        rw [htx1] at htx0
        refine ⟨?_, ?_⟩
        · (first | omega | exact ⟨by omega, by omega⟩ | assumption)
        refine ⟨?_, ?_⟩
        · (first | omega | exact ⟨by omega, by omega⟩ | assumption)
        rintro ⟨f5, f5q⟩
        refine ⟨?_, ?_⟩
        · omega
        refine ⟨?_, ?_⟩
        · (first | omega | exact ⟨by omega, by omega⟩ | assumption)
        rintro y19 ⟨y19f, y19fq⟩ y19e
        refine ⟨?_, ?_⟩
        · (first | omega | exact ⟨by omega, by omega⟩ | assumption)
        refine ⟨?_, ?_⟩
        · (first | omega | exact ⟨by omega, by omega⟩ | assumption)
        rintro ⟨f6, f6q⟩
        refine ⟨fun c7 => ?_, fun c8 => ?_⟩
        · refine ⟨fun c9 => ?_, fun c10 => ?_⟩
          · refine ih1 _ _ (((gτ.tr gσ6).tr gσ10).tr gσ13) ⟨?_, ?_, ?_⟩ ?_
            · exact (Ch.tr (Ch.tr (Ch.tr i0 kσ6) kσ10) kσ13)
            · (first | omega | exact ⟨by omega, by omega⟩ | assumption)
            · (clear ih0 ih1 ih2; first | (rw [hrs]; exact hP85) | (rw [hrs]; exact hP48) | (have bt : bt32 (σ.I (o0 + 15) 1) (σ.I (o0 + 8) x1) := (by have z : ¬ (y19 = 1) := (by omega); rw [y19e, u15 1, u8'] at z; exact Classical.not_not.mp z); exact hrs ▸ PRI_e hP13 i1.1 p6.2.2 (hdO hl1) i4 Ch.rf q13.1 (by omega) (by omega) q13.2.2.2 (fun _ _ _ _ _ => rfl) (fun _ _ => rfl) (fun _ _ => rfl) (fun _ _ => rfl) (fun _ _ => rfl) (fun _ => rfl) hb13 (fun β a _ b => PRL_no a b (by omega) r21 hz13 v22 bt)))
            · (unfold lt3; omega)
          · refine ⟨?_, ?_⟩
            · omega
            refine ⟨?_, ?_⟩
            · (first | omega | exact ⟨by omega, by omega⟩ | assumption)
            refine ⟨?_, ?_⟩
            · (first | omega | exact ⟨by omega, by omega⟩ | assumption)
            refine ⟨?_, ?_⟩
            · (clear ih0 ih1 ih2; first | exact hb13.2.1 | exact hpb.2.1)
            refine ⟨?_, ?_⟩
            · (clear ih0 ih1 ih2; exact TC_p K13 ho86.1 p10)
            refine ⟨?_, ?_⟩
            · (first | omega | exact ⟨by omega, by omega⟩ | assumption)
            refine ⟨?_, ?_⟩
            · (clear ih0 ih1 ih2; (intro s a b; rw [u20]; have z := p12 s a (by omega); omega))
            refine ⟨?_, ?_⟩
            · (clear ih0 ih1 ih2; exact PT_p K13 ho86.1 p13)
            refine ⟨?_, ?_⟩
            · (clear ih0 ih1 ih2; exact PW_p K13 ho86.1 p14)
            refine ⟨?_, ?_⟩
            · (clear ih0 ih1 ih2; exact OBV_p K13 ho86.1 p15)
            refine ⟨?_, ?_⟩
            · (clear ih0 ih1 ih2; exact DRV_p K13 ho86.1 p17)
            refine ⟨?_, ?_⟩
            · (first | omega | exact ⟨by omega, by omega⟩ | assumption)
            refine ⟨?_, ?_⟩
            · (clear ih0 ih1 ih2; exact bd_0_20_eq p19 (unp K13 (by omega)))
            refine ⟨?_, ?_⟩
            · (clear ih0 ih1 ih2; exact AN_p K13 ho86.1 p20)
            refine ⟨?_, ?_⟩
            · (first | omega | exact ⟨by omega, by omega⟩ | assumption)
            refine ⟨?_, ?_⟩
            · (clear ih0 ih1 ih2; (intro h; have z := hND.2.2.2.2.1 (by omega); omega))
            refine ⟨?_, ?_⟩
            · (clear ih0 ih1 ih2; (intro h; exact TNX_p K13 ho86.1 (hND.2.2.2.2.2.1 (by omega))))
            refine ⟨?_, ?_⟩
            · (first | omega | exact ⟨by omega, by omega⟩ | assumption)
            refine ⟨?_, ?_⟩
            · (clear ih0 ih1 ih2; (intro h; rw [how, vtX_p K13 ho86.1, h17']; have ls_b := ls_in (tQ σ (σ.I (o0 + 8) x1) (σ.I (o0 + 2)) (σ.I (o0 + 9) x1) (min (σ.I (o0 + 10) x1 - σ.I (o0 + 9) x1) 20)) (σ.I 18 7); rcases ls_b with z | z; (rw [show vtX σ o0 x1 = -1 from z, p30]; exact ⟨by omega, by omega, by omega⟩); (have w := p27 (vtX σ o0 x1) z.1 z.2.1; have q : σ.I 20 (vtX σ o0 x1) = σ.I (o0 + 8) x1 := z.2.2.1.1; rw [q] at w; omega)))
            refine ⟨?_, ?_⟩
            · (first | omega | exact ⟨by omega, by omega⟩ | assumption)
            refine ⟨?_, ?_⟩
            · (clear ih0 ih1 ih2; exact OBX_p K13 ho86.1 p7)
            refine ⟨?_, ?_⟩
            · (clear ih0 ih1 ih2; (intro h; have z := (hND.2.2.2.2.2.2 (by omega)).1; omega))
            refine ⟨?_, ?_⟩
            · (clear ih0 ih1 ih2; (intro h; rw [u8]; exact PTX_p K13 ho86.1 (hND.2.2.2.2.2.2 (by omega)).2))
            refine ⟨?_, ?_⟩
            · (clear ih0 ih1 ih2; exact WOX_p K13 ho86.1 p31)
            rintro σ49 gσ49 ⟨eσ49_0, eσ49_1, eσ49_2⟩
            have kσ49 : KPq o0 σ13 σ49 := KPq_of_KOt eσ49_2
            have kσ49r := eσ49_2.1.1
            refine ih1 _ _ ((((gτ.tr gσ6).tr gσ10).tr gσ13).tr gσ49) ⟨?_, ?_, ?_⟩ ?_
            · exact (Ch.tr (Ch.tr (Ch.tr (Ch.tr i0 kσ6) kσ10) kσ13) kσ49)
            · (first | omega | exact ⟨by omega, by omega⟩ | assumption)
            · (clear ih0 ih1 ih2; first | (rw [hrs]; exact hP85) | (rw [hrs]; exact hP48) | (have bt : bt32 (σ.I (o0 + 15) 1) (σ.I (o0 + 8) x1) := (by have z : ¬ (y19 = 1) := (by omega); rw [y19e, u15 1, u8'] at z; exact Classical.not_not.mp z); exact hrs ▸ PRI_e hP13 i1.1 p6.2.2 (hdO hl1) i4 Ch.rf q13.1 (by omega) (by omega) q13.2.2.2 (fun _ _ _ _ _ => rfl) (fun _ _ => rfl) (fun _ _ => rfl) (fun _ _ => rfl) (fun _ _ => rfl) (fun _ => rfl) hb13 (fun β a _ b => PRL_no a b (by omega) r21 hz13 v22 bt)))
            · (unfold lt3; omega)
        · refine ⟨?_, ?_⟩
          · omega
          refine ⟨?_, ?_⟩
          · (first | omega | exact ⟨by omega, by omega⟩ | assumption)
          refine ⟨?_, ?_⟩
          · (first | omega | exact ⟨by omega, by omega⟩ | assumption)
          refine ⟨?_, ?_⟩
          · (first | omega | exact ⟨by omega, by omega⟩ | assumption)
          refine ⟨?_, ?_⟩
          · (first | omega | exact ⟨by omega, by omega⟩ | assumption)
          refine ⟨?_, ?_⟩
          · (clear ih0 ih1 ih2; (have z := (hND.2.2.2.1 (by omega)).1; omega))
          refine ⟨?_, ?_⟩
          · (clear ih0 ih1 ih2; (have z := (hND.2.2.2.1 (by omega)).2.1; omega))
          refine ⟨?_, ?_⟩
          · (clear ih0 ih1 ih2; exact AN_p K13 ho86.1 p20)
          refine ⟨?_, ?_⟩
          · (clear ih0 ih1 ih2; exact ANX_p K13 ho86 p20 p21)
          refine ⟨?_, ?_⟩
          · (clear ih0 ih1 ih2; exact hb13.1)
          refine ⟨?_, ?_⟩
          · (clear ih0 ih1 ih2; (have z := hND.2.2.2.1 (by omega); exact lx_p K13 ho86 p20 z.1.1 z.1.2 z.2.2.2))
          refine ⟨?_, ?_⟩
          · (clear ih0 ih1 ih2; exact (TC_p K13 ho86.1 p10).1)
          refine ⟨?_, ?_⟩
          · (clear ih0 ih1 ih2; exact (TC_p K13 ho86.1 p10).2)
          refine ⟨?_, ?_⟩
          · (first | omega | exact ⟨by omega, by omega⟩ | assumption)
          refine ⟨?_, ?_⟩
          · (first | omega | exact ⟨by omega, by omega⟩ | assumption)
          refine ⟨?_, ?_⟩
          · (first | omega | exact ⟨by omega, by omega⟩ | assumption)
          refine ⟨?_, ?_⟩
          · (first | omega | exact ⟨by omega, by omega⟩ | assumption)
          refine ⟨?_, ?_⟩
          · (first | omega | exact ⟨by omega, by omega⟩ | assumption)
          refine ⟨?_, ?_⟩
          · (clear ih0 ih1 ih2; exact PT_p K13 ho86.1 p13)
          refine ⟨?_, ?_⟩
          · (clear ih0 ih1 ih2; exact PW_p K13 ho86.1 p14)
          refine ⟨?_, ?_⟩
          · (clear ih0 ih1 ih2; exact OBV_p K13 ho86.1 p15)
          refine ⟨?_, ?_⟩
          · (clear ih0 ih1 ih2; exact TVL_p K13 ho86.1 p16)
          refine ⟨?_, ?_⟩
          · (clear ih0 ih1 ih2; exact DRV_p K13 ho86.1 p17)
          refine ⟨?_, ?_⟩
          · (first | omega | exact ⟨by omega, by omega⟩ | assumption)
          refine ⟨?_, ?_⟩
          · (first | omega | exact ⟨by omega, by omega⟩ | assumption)
          refine ⟨?_, ?_⟩
          · (clear ih0 ih1 ih2; exact hb13.2.2.2.2)
          refine ⟨?_, ?_⟩
          · (clear ih0 ih1 ih2; exact hb13.2.2.2.1)
          refine ⟨?_, ?_⟩
          · (clear ih0 ih1 ih2; exact bd_0_499_eq p23 (unp K13 (by omega)))
          refine ⟨?_, ?_⟩
          · (clear ih0 ih1 ih2; first | exact hb13.2.1 | exact hpb.2.1)
          refine ⟨?_, ?_⟩
          · (clear ih0 ih1 ih2; (rw [unp K13 (c := 31) (by omega), unp K13 (c := 32) (by omega)]; exact p24))
          refine ⟨?_, ?_⟩
          · (clear ih0 ih1 ih2; (intro k a b; rw [r21]; exact hb13.2.2.1 _ (by omega) (by omega)))
          refine ⟨?_, ?_⟩
          · (clear ih0 ih1 ih2; exact VOC_p K13 ho86.1 p25)
          refine ⟨?_, ?_⟩
          · (clear ih0 ih1 ih2; (rw [u16]; exact (hND.2.2.2.1 (by omega)).2.2.1))
          refine ⟨?_, ?_⟩
          · (clear ih0 ih1 ih2; (intro t a b c; rw [how, h17']; rw [u20, u8] at c; have z := p27 t a (by omega); rw [c] at z; exact z.2))
          refine ⟨?_, ?_⟩
          · (first | omega | exact ⟨by omega, by omega⟩ | assumption)
          refine ⟨?_, ?_⟩
          · (first | omega | exact ⟨by omega, by omega⟩ | assumption)
          rintro σ86 gσ86 ⟨eσ86_0, eσ86_1, eσ86_2, eσ86_3, eσ86_4, eσ86_5⟩
          have kσ86 : KPq o0 σ13 σ86 := KPq_of_KTe eσ86_5
          have kσ86r := eσ86_5.1.1
          refine ih1 _ _ ((((gτ.tr gσ6).tr gσ10).tr gσ13).tr gσ86) ⟨?_, ?_, ?_⟩ ?_
          · exact (Ch.tr (Ch.tr (Ch.tr (Ch.tr i0 kσ6) kσ10) kσ13) kσ86)
          · (first | omega | exact ⟨by omega, by omega⟩ | assumption)
          · (clear ih0 ih1 ih2; first | (rw [hrs]; exact hP85) | (rw [hrs]; exact hP48) | (have bt : bt32 (σ.I (o0 + 15) 1) (σ.I (o0 + 8) x1) := (by have z : ¬ (y19 = 1) := (by omega); rw [y19e, u15 1, u8'] at z; exact Classical.not_not.mp z); exact hrs ▸ PRI_e hP13 i1.1 p6.2.2 (hdO hl1) i4 Ch.rf q13.1 (by omega) (by omega) q13.2.2.2 (fun _ _ _ _ _ => rfl) (fun _ _ => rfl) (fun _ _ => rfl) (fun _ _ => rfl) (fun _ _ => rfl) (fun _ => rfl) hb13 (fun β a _ b => PRL_no a b (by omega) r21 hz13 v22 bt)))
          · (unfold lt3; omega)
      · refine ⟨?_, ?_⟩
        · omega
        refine ⟨?_, ?_⟩
        · (first | omega | exact ⟨by omega, by omega⟩ | assumption)
        refine ⟨?_, ?_⟩
        · (first | omega | exact ⟨by omega, by omega⟩ | assumption)
        refine ⟨?_, ?_⟩
        · (clear ih0 ih1 ih2; first | exact hb13.2.1 | exact hpb.2.1)
        rintro σ91 gσ91 ⟨⟨eσ91r, eσ91s, eσ91n⟩, eσ91⟩
        have kσ91 : KPq o0 τ σ91 := KPq_rd eσ91r eσ91s eσ91n eσ91 (fun c i hP => by unfold wsPq wsPr at hP; first | grind | grind (splits := 40))
        refine ih2 _ _ _ (gτ.tr gσ91) ⟨?_, ?_, ?_, ?_, ?_, ?_, ?_⟩ ?_
        · exact (Ch.tr i0 kσ91)
        · (first | omega | exact ⟨by omega, by omega⟩ | assumption)
        · (clear ih0 ih1 ih2; exact hP90)
        · (clear ih0 ih1 ih2; exact (k90 _ _ (by omega)).trans i3)
        · (clear ih0 ih1 ih2; exact i4)
        · (clear ih0 ih1 ih2; (intro k a b; rcases (show k < x2 ∨ k = x2 by omega) with z | z; (rw [k90 _ _ (by omega)]; exact i5 k a z); (rw [z]; exact w90)))
        · (first | omega | exact ⟨by omega, by omega⟩ | assumption)
        · (unfold lt3; omega)
  have k0_ : ∀ (x1 : Int) (τ : Sto), SF σ τ → ((KPq o0 σ τ) ∧ (0 ≤ x1 ∧ x1 ≤ 601 * (σ.I (o0 + 1) 2)) ∧ (PR0 σ τ o0 x1)) → VV E mX5_prepare (d + 1) 31 [(0, aO o0), (1, aI (x1))] [] τ (RV (fun τ => (PRI σ τ o0 lx K V (σ.I (o0 + 1) 2) (rwN σ o0 (σ.I (o0 + 1) 2))) ∧ (KPq o0 σ τ))) := fun z0 z1 h0 h1 => (key _ _ _).1 z0 z1 h0 h1 rfl rfl rfl
  have k1_ : ∀ (x1 : Int) (τ : Sto), SF σ τ → ((KPq o0 σ τ) ∧ (0 ≤ x1 ∧ x1 ≤ (σ.I (o0 + 1) 2)) ∧ (PRI σ τ o0 lx K V x1 (rwN σ o0 x1))) → VV E mX5_prepare (d + 1) 63 [(0, aO o0), (1, aI (x1))] [] τ (RV (fun τ => (PRI σ τ o0 lx K V (σ.I (o0 + 1) 2) (rwN σ o0 (σ.I (o0 + 1) 2))) ∧ (KPq o0 σ τ))) := fun z0 z1 h0 h1 => (key _ _ _).2.1 z0 z1 h0 h1 rfl rfl rfl
  have k2_ : ∀ (x1 : Int) (x2 : Int) (τ : Sto), SF σ τ → ((KPq o0 σ τ) ∧ (0 ≤ x1 ∧ x1 < (σ.I (o0 + 1) 2)) ∧ (PRI σ τ o0 lx K V x1 (rwN σ o0 x1 + 1)) ∧ (τ.I (o0 + 21) x1 = rwN σ o0 x1) ∧ (lfN σ o0 x1) ∧ (alN (fun k => τ.I (o0 + 23) (601 * rwN σ o0 x1 + k) = 0) x2) ∧ (0 ≤ x2 ∧ x2 ≤ (σ.I (o0 + 15) 7))) → VV E mX5_prepare (d + 1) 113 [(0, aO o0), (1, aI (x1)), (2, aI (x2))] [] τ (RV (fun τ => (PRI σ τ o0 lx K V (σ.I (o0 + 1) 2) (rwN σ o0 (σ.I (o0 + 1) 2))) ∧ (KPq o0 σ τ))) := fun z0 z1 z2 h0 h1 => (key _ _ _).2.2 z0 z1 z2 h0 h1 rfl rfl rfl
  clear key
  refine ucX5_prepare_0W (lx := lx) (K := K) (V := V) hL ho0 ?_
  refine ⟨?_, ?_⟩
  · omega
  refine ⟨?_, ?_⟩
  · (first | omega | exact ⟨by omega, by omega⟩ | assumption)
  refine ⟨?_, ?_⟩
  · (first | omega | exact ⟨by omega, by omega⟩ | assumption)
  refine ⟨?_, ?_⟩
  · (first | omega | exact ⟨by omega, by omega⟩ | assumption)
  refine ⟨?_, ?_⟩
  · (first | omega | exact ⟨by omega, by omega⟩ | assumption)
  refine ⟨?_, ?_⟩
  · (first | assumption | (clear k0_ k1_ k2_; intro i h0 h1; grind (splits := 16) (ematch := 30) (gen := 30) [-Prod, inR, inL, bd_0_20_at, bd_0_59_at, bd_0_250_at, bd_m1_15_at, bd_0_500_at, bd_0_499_at, bd_0_20000_at, = fI_wI, = sx16_sx16]))
  refine ⟨?_, ?_⟩
  · (first | omega | exact ⟨by omega, by omega⟩ | assumption)
  rintro σ8 gσ8 ⟨eσ8_0, eσ8_1⟩
  have kσ8 : KPq o0 σ σ8 := KPq_of_KCn eσ8_1
  have kσ8r := eσ8_1.1.1
  have k8 : Ch (wsPr o0) σ8 σ8 := Ch.rf
  have kc8 : ∀ c i, c ≠ o0 + 17 → c ≠ o0 + 18 → σ8.I c i = σ.I c i := fun c i a b => eσ8_1.2 c i (by unfold wsCn; omega)
  intro σ9 eσ9 gσ9
  have kσ9 : KPq o0 σ8 σ9 := KPq_w eσ9 (by unfold wsPq wsPr; omega)
  intro σ10 eσ10 gσ10
  have kσ10 : KPq o0 σ9 σ10 := KPq_w eσ10 (by unfold wsPq wsPr; omega)
  intro σ11 eσ11 gσ11
  have kσ11 : KPq o0 σ10 σ11 := KPq_w eσ11 (by unfold wsPq wsPr; omega)
  intro σ12 eσ12 gσ12
  have kσ12 : KPq o0 σ11 σ12 := KPq_w eσ12 (by unfold wsPq wsPr; omega)
  have c12 : ∀ c i, ¬ (c = o0 ∧ (i = 6 ∨ i = 12 ∨ i = 13)) → ¬ (c = o0 + 27 ∧ i = 0) → σ12.I c i = σ8.I c i := fun c i a b => (by rw [eσ12, I_wI, if_neg b, eσ11, I_wI, if_neg (by omega), eσ10, I_wI, if_neg (by omega), eσ9, I_wI, if_neg (by omega)])
  have k12 : Ch (wsPr o0) σ8 σ12 := ⟨⟨by rw [eσ12, eσ11, eσ10, eσ9]; rfl, by rw [eσ12, eσ11, eσ10, eσ9]; rfl, by rw [eσ12, eσ11, eσ10, eσ9]; rfl⟩, fun c i q => c12 c i (fun z => q (by unfold wsPr; omega)) (fun z => q (by unfold wsPr; omega))⟩
  have v6 : σ12.I o0 6 = 0 := (by rw [eσ12, I_ne _ _ _ _ (by omega), eσ11, I_nj _ _ _ _ (by decide), eσ10, I_nj _ _ _ _ (by decide), eσ9, I_same])
  have v12 : σ12.I o0 12 = 0 := (by rw [eσ12, I_ne _ _ _ _ (by omega), eσ11, I_nj _ _ _ _ (by decide), eσ10, I_same])
  have v13 : σ12.I o0 13 = 0 := (by rw [eσ12, I_ne _ _ _ _ (by omega), eσ11, I_same])
  have v27 : σ12.I (o0 + 27) 0 = 0 := (by rw [eσ12, I_same])
  have hb12 : PBD σ12 o0 := PBD_e p26 (fun c i q => (c12 c i (by omega) (by omega)).trans (kc8 c i (by omega) (by omega)))
  have hP0 : PR0 σ σ12 o0 0 := ⟨σ8, ⟨eσ8_1, eσ8_0⟩, k12, ⟨v6, v12, v13, v27⟩, fun i a b => by omega, hb12⟩
  refine k0_ _ _ ((((gσ8.tr gσ9).tr gσ10).tr gσ11).tr gσ12) ⟨?_, ?_, ?_⟩
  · exact (Ch.tr (Ch.tr (Ch.tr (Ch.tr kσ8 kσ9) kσ10) kσ11) kσ12)
  · (first | omega | exact ⟨by omega, by omega⟩ | assumption)
  · (clear k0_ k1_ k2_; exact hP0)
