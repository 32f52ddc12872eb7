/-! contracts: printed by tools/mk.py out of s98zzzo_ctX1.py -/
set_option maxRecDepth 100000
set_option maxHeartbeats 800000
/-! the constructor of SearchHouse, piece 1 -/
theorem wcX281 : WF 137 1447576 cX281 := ⟨by decide, wcX280⟩
def cX282 : List (Nat × Nat × Nat × Nat) := (0, 3, 601, 137) :: cX281
theorem wcX282 : WF 138 1448177 cX282 := ⟨rfl, by decide, wcX281⟩
def cX283 : List (Nat × Nat × Nat × Nat) := (1, 136, 0, 137) :: cX282
theorem wcX283 : WF 138 1448177 cX283 := ⟨by decide, wcX282⟩
def cX284 : List (Nat × Nat × Nat × Nat) := (0, 0, 12, 138) :: cX283
theorem wcX284 : WF 139 1448189 cX284 := ⟨rfl, by decide, wcX283⟩
def cX285 : List (Nat × Nat × Nat × Nat) := (1, 136, 2, 138) :: cX284
theorem wcX285 : WF 139 1448189 cX285 := ⟨by decide, wcX284⟩
def cX286 : List (Nat × Nat × Nat × Nat) := (0, 0, 12, 139) :: cX285
theorem wcX286 : WF 140 1448201 cX286 := ⟨rfl, by decide, wcX285⟩
def cX287 : List (Nat × Nat × Nat × Nat) := (1, 136, 3, 139) :: cX286
theorem wcX287 : WF 140 1448201 cX287 := ⟨by decide, wcX286⟩
def cX288 : List (Nat × Nat × Nat × Nat) := (0, 0, 601, 140) :: cX287
theorem wcX288 : WF 141 1448802 cX288 := ⟨rfl, by decide, wcX287⟩
def cX289 : List (Nat × Nat × Nat × Nat) := (1, 136, 4, 140) :: cX288
theorem wcX289 : WF 141 1448802 cX289 := ⟨by decide, wcX288⟩
def cX290 : List (Nat × Nat × Nat × Nat) := (0, 0, 601, 141) :: cX289
theorem wcX290 : WF 142 1449403 cX290 := ⟨rfl, by decide, wcX289⟩
def cX291 : List (Nat × Nat × Nat × Nat) := (1, 136, 5, 141) :: cX290
theorem wcX291 : WF 142 1449403 cX291 := ⟨by decide, wcX290⟩
theorem ct_X0_8_2 {E : XE} {d : Nat} (hd : 2 ≤ d) : CC E mX6_init d [aO 136, aO 0] (crun cX280 e00) (RV (fun τ => τ = crun cX291 e00)) := by
  refine v_aload_n 0 DX6_init_0 rfl rfl ?_
  refine v_aload_n 1 DX6_init_1 rfl rfl ?_
  refine v_putR (ci := 6) (kf := 9) (z := 10) DX6_init_2 (csh wcX280 (by decide +kernel)) rfl (by decide) (Or.inr (Or.inr ⟨rfl, rfl, rfl, q861⟩)) (fun _ _ => rfl) rfl rfl (Or.inr (cR wcX280 (by decide +kernel))) ?_
  show VV E mX6_init d 5 _ _ (crun cX281 e00) _
  refine v_aload_n 0 DX6_init_5 rfl rfl ?_
  refine v_objInit DX6_init_6 q841 q309 q310 (by omega) (by decide) ?_
  refine v_aload_n 0 DX6_init_9 rfl rfl ?_
  refine v_sipush DX6_init_10 (by decide) ?_
  refine v_newa (t := 3) (z := 601) DX6_init_13 rfl (by decide) q807 rfl (by decide) (cn_ok wcX281 (by decide)) (cz_ok wcX281 (by decide)) ?_
  rw [cnn wcX281]
  show VV E mX6_init d 15 _ _ (crun cX282 e00) _
  refine v_putR (ci := 6) (kf := 0) (z := 10) DX6_init_15 (csh wcX282 (by decide +kernel)) rfl (by decide) (Or.inr (Or.inr ⟨rfl, rfl, rfl, q842⟩)) (fun _ _ => rfl) rfl rfl (Or.inr (cR wcX282 (by decide +kernel))) ?_
  show VV E mX6_init d 18 _ _ (crun cX283 e00) _
  refine v_aload_n 0 DX6_init_18 rfl rfl ?_
  refine v_bipush DX6_init_19 (by decide) ?_
  refine v_newa (t := 0) (z := 12) DX6_init_21 rfl (by decide) q337 rfl (by decide) (cn_ok wcX283 (by decide)) (cz_ok wcX283 (by decide)) ?_
  rw [cnn wcX283]
  show VV E mX6_init d 23 _ _ (crun cX284 e00) _
  refine v_putR (ci := 6) (kf := 2) (z := 10) DX6_init_23 (csh wcX284 (by decide +kernel)) rfl (by decide) (Or.inr (Or.inr ⟨rfl, rfl, rfl, q847⟩)) (fun _ _ => rfl) rfl rfl (Or.inr (cR wcX284 (by decide +kernel))) ?_
  show VV E mX6_init d 26 _ _ (crun cX285 e00) _
  refine v_aload_n 0 DX6_init_26 rfl rfl ?_
  refine v_bipush DX6_init_27 (by decide) ?_
  refine v_newa (t := 0) (z := 12) DX6_init_29 rfl (by decide) q337 rfl (by decide) (cn_ok wcX285 (by decide)) (cz_ok wcX285 (by decide)) ?_
  rw [cnn wcX285]
  show VV E mX6_init d 31 _ _ (crun cX286 e00) _
  refine v_putR (ci := 6) (kf := 3) (z := 10) DX6_init_31 (csh wcX286 (by decide +kernel)) rfl (by decide) (Or.inr (Or.inr ⟨rfl, rfl, rfl, q849⟩)) (fun _ _ => rfl) rfl rfl (Or.inr (cR wcX286 (by decide +kernel))) ?_
  show VV E mX6_init d 34 _ _ (crun cX287 e00) _
  refine v_aload_n 0 DX6_init_34 rfl rfl ?_
  refine v_sipush DX6_init_35 (by decide) ?_
  refine v_newa (t := 0) (z := 601) DX6_init_38 rfl (by decide) q337 rfl (by decide) (cn_ok wcX287 (by decide)) (cz_ok wcX287 (by decide)) ?_
  rw [cnn wcX287]
  show VV E mX6_init d 40 _ _ (crun cX288 e00) _
  refine v_putR (ci := 6) (kf := 4) (z := 10) DX6_init_40 (csh wcX288 (by decide +kernel)) rfl (by decide) (Or.inr (Or.inr ⟨rfl, rfl, rfl, q851⟩)) (fun _ _ => rfl) rfl rfl (Or.inr (cR wcX288 (by decide +kernel))) ?_
  show VV E mX6_init d 43 _ _ (crun cX289 e00) _
  refine v_aload_n 0 DX6_init_43 rfl rfl ?_
  refine v_sipush DX6_init_44 (by decide) ?_
  refine v_newa (t := 0) (z := 601) DX6_init_47 rfl (by decide) q337 rfl (by decide) (cn_ok wcX289 (by decide)) (cz_ok wcX289 (by decide)) ?_
  rw [cnn wcX289]
  show VV E mX6_init d 49 _ _ (crun cX290 e00) _
  refine v_putR (ci := 6) (kf := 5) (z := 10) DX6_init_49 (csh wcX290 (by decide +kernel)) rfl (by decide) (Or.inr (Or.inr ⟨rfl, rfl, rfl, q853⟩)) (fun _ _ => rfl) rfl rfl (Or.inr (cR wcX290 (by decide +kernel))) ?_
  show VV E mX6_init d 52 _ _ (crun cX291 e00) _
  exact v_vret DX6_init_52 rfl (RV_mk rfl)
def cX292 : List (Nat × Nat × Nat × Nat) := (1, 121, 1, 136) :: cX291
theorem wcX292 : WF 142 1449403 cX292 := ⟨by decide, wcX291⟩
def cX293 : List (Nat × Nat × Nat × Nat) := (0, 0, 200, 142) :: cX292
theorem wcX293 : WF 143 1449603 cX293 := ⟨rfl, by decide, wcX292⟩
def cX294 : List (Nat × Nat × Nat × Nat) := (1, 121, 3, 142) :: cX293
theorem wcX294 : WF 143 1449603 cX294 := ⟨by decide, wcX293⟩
def cX295 : List (Nat × Nat × Nat × Nat) := (0, 4, 200, 143) :: cX294
theorem wcX295 : WF 144 1449803 cX295 := ⟨rfl, by decide, wcX294⟩
def cX296 : List (Nat × Nat × Nat × Nat) := (1, 121, 4, 143) :: cX295
theorem wcX296 : WF 144 1449803 cX296 := ⟨by decide, wcX295⟩
def cX297 : List (Nat × Nat × Nat × Nat) := (0, 2, 36060, 144) :: cX296
theorem wcX297 : WF 145 1485863 cX297 := ⟨rfl, by decide, wcX296⟩
def cX298 : List (Nat × Nat × Nat × Nat) := (1, 121, 5, 144) :: cX297
theorem wcX298 : WF 145 1485863 cX298 := ⟨by decide, wcX297⟩
def cX299 : List (Nat × Nat × Nat × Nat) := (0, 0, 200, 145) :: cX298
theorem wcX299 : WF 146 1486063 cX299 := ⟨rfl, by decide, wcX298⟩
def cX300 : List (Nat × Nat × Nat × Nat) := (1, 121, 7, 145) :: cX299
theorem wcX300 : WF 146 1486063 cX300 := ⟨by decide, wcX299⟩
def cX301 : List (Nat × Nat × Nat × Nat) := (0, 0, 200, 146) :: cX300
theorem wcX301 : WF 147 1486263 cX301 := ⟨rfl, by decide, wcX300⟩
def cX302 : List (Nat × Nat × Nat × Nat) := (1, 121, 8, 146) :: cX301
theorem wcX302 : WF 147 1486263 cX302 := ⟨by decide, wcX301⟩
def cX303 : List (Nat × Nat × Nat × Nat) := (0, 0, 1000, 147) :: cX302
theorem wcX303 : WF 148 1487263 cX303 := ⟨rfl, by decide, wcX302⟩
def cX304 : List (Nat × Nat × Nat × Nat) := (1, 121, 9, 147) :: cX303
theorem wcX304 : WF 148 1487263 cX304 := ⟨by decide, wcX303⟩
def cX305 : List (Nat × Nat × Nat × Nat) := (0, 0, 1001, 148) :: cX304
theorem wcX305 : WF 149 1488264 cX305 := ⟨rfl, by decide, wcX304⟩
def cX306 : List (Nat × Nat × Nat × Nat) := (1, 121, 10, 148) :: cX305
theorem wcX306 : WF 149 1488264 cX306 := ⟨by decide, wcX305⟩
def cX307 : List (Nat × Nat × Nat × Nat) := (0, 0, 6000, 149) :: cX306
theorem wcX307 : WF 150 1494264 cX307 := ⟨rfl, by decide, wcX306⟩
def cX308 : List (Nat × Nat × Nat × Nat) := (1, 121, 11, 149) :: cX307
theorem wcX308 : WF 150 1494264 cX308 := ⟨by decide, wcX307⟩
def cX309 : List (Nat × Nat × Nat × Nat) := (0, 4, 72120, 150) :: cX308
theorem wcX309 : WF 151 1566384 cX309 := ⟨rfl, by decide, wcX308⟩
def cX310 : List (Nat × Nat × Nat × Nat) := (1, 121, 14, 150) :: cX309
theorem wcX310 : WF 151 1566384 cX310 := ⟨by decide, wcX309⟩
def cX311 : List (Nat × Nat × Nat × Nat) := (0, 1, 20, 151) :: cX310
theorem wcX311 : WF 152 1566404 cX311 := ⟨rfl, by decide, wcX310⟩
def cX312 : List (Nat × Nat × Nat × Nat) := (1, 121, 15, 151) :: cX311
theorem wcX312 : WF 152 1566404 cX312 := ⟨by decide, wcX311⟩
def cX313 : List (Nat × Nat × Nat × Nat) := (0, 4, 128, 152) :: cX312
theorem wcX313 : WF 153 1566532 cX313 := ⟨rfl, by decide, wcX312⟩
def cX314 : List (Nat × Nat × Nat × Nat) := (1, 121, 17, 152) :: cX313
theorem wcX314 : WF 153 1566532 cX314 := ⟨by decide, wcX313⟩
def cX315 : List (Nat × Nat × Nat × Nat) := (0, 0, 512, 153) :: cX314
theorem wcX315 : WF 154 1567044 cX315 := ⟨rfl, by decide, wcX314⟩
def cX316 : List (Nat × Nat × Nat × Nat) := (1, 121, 18, 153) :: cX315
theorem wcX316 : WF 154 1567044 cX316 := ⟨by decide, wcX315⟩
def cX317 : List (Nat × Nat × Nat × Nat) := (0, 3, 512, 154) :: cX316
theorem wcX317 : WF 155 1567556 cX317 := ⟨rfl, by decide, wcX316⟩
def cX318 : List (Nat × Nat × Nat × Nat) := (1, 121, 19, 154) :: cX317
theorem wcX318 : WF 155 1567556 cX318 := ⟨by decide, wcX317⟩
theorem ct_X0_8 {E : XE} {d : Nat} (hd : 3 ≤ d) : CC E mX5_init d [aO 121, aO 0] (crun cX250 e00) (RV (fun τ => τ = crun cX318 e00)) := by
  obtain ⟨d, rfl⟩ : ∃ e, d = e + 1 := ⟨d - 1, by omega⟩
  refine v_aload_n 0 DX5_init_0 rfl rfl ?_
  refine v_aload_n 1 DX5_init_1 rfl rfl ?_
  refine v_putR (ci := 5) (kf := 20) (z := 21) DX5_init_2 (csh wcX250 (by decide +kernel)) rfl (by decide) (Or.inr (Or.inr ⟨rfl, rfl, rfl, q908⟩)) (fun _ _ => rfl) rfl rfl (Or.inr (cR wcX250 (by decide +kernel))) ?_
  show VV E mX5_init (d + 1) 5 _ _ (crun cX251 e00) _
  refine v_aload_n 0 DX5_init_5 rfl rfl ?_
  refine v_objInit DX5_init_6 q833 q309 q310 (by omega) (by decide) ?_
  refine v_aload_n 0 DX5_init_9 rfl rfl ?_
  refine v_new (ci := 3) (z := 17) DX5_init_10 rfl q834 q713 q256 (cn_ok wcX251 (by decide)) (cz_ok wcX251 (by decide)) ?_
  rw [cnn wcX251]
  show VV E mX5_init (d + 1) 13 _ _ (crun cX252 e00) _
  refine v_dup DX5_init_13 rfl ?_
  refine v_invI (as := []) (b := 122) (st := [aO 122, aO 121]) DX5_init_14 rfl okX3_init (Or.inr ⟨_, q835⟩) q715 q716 rfl npX3_init (ct_X0_8_1 (d := d) (by omega)) (Nat.le_of_ble_eq_true rfl) (Nat.le_refl _) (Nat.le_of_ble_eq_true rfl) (RV_ret (fun τ g e => ?_)) RV_thr
  subst e
  refine v_putR (ci := 5) (kf := 0) (z := 21) DX5_init_17 (csh wcX278 (by decide +kernel)) rfl (by decide) (Or.inr (Or.inr ⟨rfl, rfl, rfl, q885⟩)) (fun _ _ => rfl) rfl rfl (Or.inr (cR wcX278 (by decide +kernel))) ?_
  show VV E mX5_init (d + 1) 20 _ _ (crun cX279 e00) _
  refine v_aload_n 0 DX5_init_20 rfl rfl ?_
  refine v_new (ci := 6) (z := 10) DX5_init_21 rfl q836 q837 q259 (cn_ok wcX279 (by decide)) (cz_ok wcX279 (by decide)) ?_
  rw [cnn wcX279]
  show VV E mX5_init (d + 1) 24 _ _ (crun cX280 e00) _
  refine v_dup DX5_init_24 rfl ?_
  refine v_aload_n 0 DX5_init_25 rfl rfl ?_
  refine w_getR (ci := 5) (kf := 20) (kz := 20) DX5_init_26 (csh wcX280 (q := (105, 21)) (by decide +kernel)) rfl (by decide) rfl (Or.inl q908) (fun _ _ => rfl) (cR wcX280 (k := 20) (v := some 0) (by decide +kernel)) ?_
  refine v_invI (as := [aO 0]) (b := 136) (st := [aO 136, aO 121]) DX5_init_29 rfl okX6_init (Or.inr ⟨_, q838⟩) q839 q840 rfl npX6_init (ct_X0_8_2 (d := d) (by omega)) (Nat.le_of_ble_eq_true rfl) (Nat.le_refl _) (Nat.le_of_ble_eq_true rfl) (RV_ret (fun τ g e => ?_)) RV_thr
  subst e
  refine v_putR (ci := 5) (kf := 1) (z := 21) DX5_init_32 (csh wcX291 (by decide +kernel)) rfl (by decide) (Or.inr (Or.inr ⟨rfl, rfl, rfl, q887⟩)) (fun _ _ => rfl) rfl rfl (Or.inr (cR wcX291 (by decide +kernel))) ?_
  show VV E mX5_init (d + 1) 35 _ _ (crun cX292 e00) _
  refine v_aload_n 0 DX5_init_35 rfl rfl ?_
  refine v_sipush DX5_init_36 (by decide) ?_
  refine v_newa (t := 0) (z := 200) DX5_init_39 rfl (by decide) q337 rfl (by decide) (cn_ok wcX292 (by decide)) (cz_ok wcX292 (by decide)) ?_
  rw [cnn wcX292]
  show VV E mX5_init (d + 1) 41 _ _ (crun cX293 e00) _
  refine v_putR (ci := 5) (kf := 3) (z := 21) DX5_init_41 (csh wcX293 (by decide +kernel)) rfl (by decide) (Or.inr (Or.inr ⟨rfl, rfl, rfl, q891⟩)) (fun _ _ => rfl) rfl rfl (Or.inr (cR wcX293 (by decide +kernel))) ?_
  show VV E mX5_init (d + 1) 44 _ _ (crun cX294 e00) _
  refine v_aload_n 0 DX5_init_44 rfl rfl ?_
  refine v_sipush DX5_init_45 (by decide) ?_
  refine v_newa (t := 4) (z := 200) DX5_init_48 rfl (by decide) q806 rfl (by decide) (cn_ok wcX294 (by decide)) (cz_ok wcX294 (by decide)) ?_
  rw [cnn wcX294]
  show VV E mX5_init (d + 1) 50 _ _ (crun cX295 e00) _
  refine v_putR (ci := 5) (kf := 4) (z := 21) DX5_init_50 (csh wcX295 (by decide +kernel)) rfl (by decide) (Or.inr (Or.inr ⟨rfl, rfl, rfl, q892⟩)) (fun _ _ => rfl) rfl rfl (Or.inr (cR wcX295 (by decide +kernel))) ?_
  show VV E mX5_init (d + 1) 53 _ _ (crun cX296 e00) _
  refine v_aload_n 0 DX5_init_53 rfl rfl ?_
  refine v_ldc (x := 36060) DX5_init_54 q883 rfl ?_
  refine v_newa (t := 2) (z := 36060) DX5_init_56 rfl (by decide) q805 rfl (by decide) (cn_ok wcX296 (by decide)) (cz_ok wcX296 (by decide)) ?_
  rw [cnn wcX296]
  show VV E mX5_init (d + 1) 58 _ _ (crun cX297 e00) _
  refine v_putR (ci := 5) (kf := 5) (z := 21) DX5_init_58 (csh wcX297 (by decide +kernel)) rfl (by decide) (Or.inr (Or.inr ⟨rfl, rfl, rfl, q893⟩)) (fun _ _ => rfl) rfl rfl (Or.inr (cR wcX297 (by decide +kernel))) ?_
  show VV E mX5_init (d + 1) 61 _ _ (crun cX298 e00) _
  refine v_aload_n 0 DX5_init_61 rfl rfl ?_
  refine v_sipush DX5_init_62 (by decide) ?_
  refine v_newa (t := 0) (z := 200) DX5_init_65 rfl (by decide) q337 rfl (by decide) (cn_ok wcX298 (by decide)) (cz_ok wcX298 (by decide)) ?_
  rw [cnn wcX298]
  show VV E mX5_init (d + 1) 67 _ _ (crun cX299 e00) _
  refine v_putR (ci := 5) (kf := 7) (z := 21) DX5_init_67 (csh wcX299 (by decide +kernel)) rfl (by decide) (Or.inr (Or.inr ⟨rfl, rfl, rfl, q895⟩)) (fun _ _ => rfl) rfl rfl (Or.inr (cR wcX299 (by decide +kernel))) ?_
  show VV E mX5_init (d + 1) 70 _ _ (crun cX300 e00) _
  refine v_aload_n 0 DX5_init_70 rfl rfl ?_
  refine v_sipush DX5_init_71 (by decide) ?_
  refine v_newa (t := 0) (z := 200) DX5_init_74 rfl (by decide) q337 rfl (by decide) (cn_ok wcX300 (by decide)) (cz_ok wcX300 (by decide)) ?_
  rw [cnn wcX300]
  show VV E mX5_init (d + 1) 76 _ _ (crun cX301 e00) _
  refine v_putR (ci := 5) (kf := 8) (z := 21) DX5_init_76 (csh wcX301 (by decide +kernel)) rfl (by decide) (Or.inr (Or.inr ⟨rfl, rfl, rfl, q896⟩)) (fun _ _ => rfl) rfl rfl (Or.inr (cR wcX301 (by decide +kernel))) ?_
  show VV E mX5_init (d + 1) 79 _ _ (crun cX302 e00) _
  refine v_aload_n 0 DX5_init_79 rfl rfl ?_
  refine v_sipush DX5_init_80 (by decide) ?_
  refine v_newa (t := 0) (z := 1000) DX5_init_83 rfl (by decide) q337 rfl (by decide) (cn_ok wcX302 (by decide)) (cz_ok wcX302 (by decide)) ?_
  rw [cnn wcX302]
  show VV E mX5_init (d + 1) 85 _ _ (crun cX303 e00) _
  refine v_putR (ci := 5) (kf := 9) (z := 21) DX5_init_85 (csh wcX303 (by decide +kernel)) rfl (by decide) (Or.inr (Or.inr ⟨rfl, rfl, rfl, q897⟩)) (fun _ _ => rfl) rfl rfl (Or.inr (cR wcX303 (by decide +kernel))) ?_
  show VV E mX5_init (d + 1) 88 _ _ (crun cX304 e00) _
  refine v_aload_n 0 DX5_init_88 rfl rfl ?_
  refine v_sipush DX5_init_89 (by decide) ?_
  refine v_newa (t := 0) (z := 1001) DX5_init_92 rfl (by decide) q337 rfl (by decide) (cn_ok wcX304 (by decide)) (cz_ok wcX304 (by decide)) ?_
  rw [cnn wcX304]
  show VV E mX5_init (d + 1) 94 _ _ (crun cX305 e00) _
  refine v_putR (ci := 5) (kf := 10) (z := 21) DX5_init_94 (csh wcX305 (by decide +kernel)) rfl (by decide) (Or.inr (Or.inr ⟨rfl, rfl, rfl, q898⟩)) (fun _ _ => rfl) rfl rfl (Or.inr (cR wcX305 (by decide +kernel))) ?_
  show VV E mX5_init (d + 1) 97 _ _ (crun cX306 e00) _
  refine v_aload_n 0 DX5_init_97 rfl rfl ?_
  refine v_sipush DX5_init_98 (by decide) ?_
  refine v_newa (t := 0) (z := 6000) DX5_init_101 rfl (by decide) q337 rfl (by decide) (cn_ok wcX306 (by decide)) (cz_ok wcX306 (by decide)) ?_
  rw [cnn wcX306]
  show VV E mX5_init (d + 1) 103 _ _ (crun cX307 e00) _
  refine v_putR (ci := 5) (kf := 11) (z := 21) DX5_init_103 (csh wcX307 (by decide +kernel)) rfl (by decide) (Or.inr (Or.inr ⟨rfl, rfl, rfl, q899⟩)) (fun _ _ => rfl) rfl rfl (Or.inr (cR wcX307 (by decide +kernel))) ?_
  show VV E mX5_init (d + 1) 106 _ _ (crun cX308 e00) _
  refine v_aload_n 0 DX5_init_106 rfl rfl ?_
  refine v_ldc (x := 72120) DX5_init_107 q884 rfl ?_
  refine v_newa (t := 4) (z := 72120) DX5_init_109 rfl (by decide) q806 rfl (by decide) (cn_ok wcX308 (by decide)) (cz_ok wcX308 (by decide)) ?_
  rw [cnn wcX308]
  show VV E mX5_init (d + 1) 111 _ _ (crun cX309 e00) _
  refine v_putR (ci := 5) (kf := 14) (z := 21) DX5_init_111 (csh wcX309 (by decide +kernel)) rfl (by decide) (Or.inr (Or.inr ⟨rfl, rfl, rfl, q902⟩)) (fun _ _ => rfl) rfl rfl (Or.inr (cR wcX309 (by decide +kernel))) ?_
  show VV E mX5_init (d + 1) 114 _ _ (crun cX310 e00) _
  refine v_aload_n 0 DX5_init_114 rfl rfl ?_
  refine v_bipush DX5_init_115 (by decide) ?_
  refine v_newa (t := 1) (z := 20) DX5_init_117 rfl (by decide) q336 rfl (by decide) (cn_ok wcX310 (by decide)) (cz_ok wcX310 (by decide)) ?_
  rw [cnn wcX310]
  show VV E mX5_init (d + 1) 119 _ _ (crun cX311 e00) _
  refine v_putR (ci := 5) (kf := 15) (z := 21) DX5_init_119 (csh wcX311 (by decide +kernel)) rfl (by decide) (Or.inr (Or.inr ⟨rfl, rfl, rfl, q903⟩)) (fun _ _ => rfl) rfl rfl (Or.inr (cR wcX311 (by decide +kernel))) ?_
  show VV E mX5_init (d + 1) 122 _ _ (crun cX312 e00) _
  refine v_aload_n 0 DX5_init_122 rfl rfl ?_
  refine v_sipush DX5_init_123 (by decide) ?_
  refine v_newa (t := 4) (z := 128) DX5_init_126 rfl (by decide) q806 rfl (by decide) (cn_ok wcX312 (by decide)) (cz_ok wcX312 (by decide)) ?_
  rw [cnn wcX312]
  show VV E mX5_init (d + 1) 128 _ _ (crun cX313 e00) _
  refine v_putR (ci := 5) (kf := 17) (z := 21) DX5_init_128 (csh wcX313 (by decide +kernel)) rfl (by decide) (Or.inr (Or.inr ⟨rfl, rfl, rfl, q905⟩)) (fun _ _ => rfl) rfl rfl (Or.inr (cR wcX313 (by decide +kernel))) ?_
  show VV E mX5_init (d + 1) 131 _ _ (crun cX314 e00) _
  refine v_aload_n 0 DX5_init_131 rfl rfl ?_
  refine v_sipush DX5_init_132 (by decide) ?_
  refine v_newa (t := 0) (z := 512) DX5_init_135 rfl (by decide) q337 rfl (by decide) (cn_ok wcX314 (by decide)) (cz_ok wcX314 (by decide)) ?_
  rw [cnn wcX314]
  show VV E mX5_init (d + 1) 137 _ _ (crun cX315 e00) _
  refine v_putR (ci := 5) (kf := 18) (z := 21) DX5_init_137 (csh wcX315 (by decide +kernel)) rfl (by decide) (Or.inr (Or.inr ⟨rfl, rfl, rfl, q906⟩)) (fun _ _ => rfl) rfl rfl (Or.inr (cR wcX315 (by decide +kernel))) ?_
  show VV E mX5_init (d + 1) 140 _ _ (crun cX316 e00) _
  refine v_aload_n 0 DX5_init_140 rfl rfl ?_
  refine v_sipush DX5_init_141 (by decide) ?_
  refine v_newa (t := 3) (z := 512) DX5_init_144 rfl (by decide) q807 rfl (by decide) (cn_ok wcX316 (by decide)) (cz_ok wcX316 (by decide)) ?_
  rw [cnn wcX316]
  show VV E mX5_init (d + 1) 146 _ _ (crun cX317 e00) _
  refine v_putR (ci := 5) (kf := 19) (z := 21) DX5_init_146 (csh wcX317 (by decide +kernel)) rfl (by decide) (Or.inr (Or.inr ⟨rfl, rfl, rfl, q907⟩)) (fun _ _ => rfl) rfl rfl (Or.inr (cR wcX317 (by decide +kernel))) ?_
  show VV E mX5_init (d + 1) 149 _ _ (crun cX318 e00) _
  exact v_vret DX5_init_149 rfl (RV_mk rfl)
def cX319 : List (Nat × Nat × Nat × Nat) := (1, 0, 61, 121) :: cX318
theorem wcX319 : WF 155 1567556 cX319 := ⟨by decide, wcX318⟩
def cX320 : List (Nat × Nat × Nat × Nat) := (0, 105, 21, 155) :: cX319
theorem wcX320 : WF 156 1567577 cX320 := ⟨rfl, by decide, wcX319⟩
def cX321 : List (Nat × Nat × Nat × Nat) := (1, 155, 20, 0) :: cX320
theorem wcX321 : WF 156 1567577 cX321 := ⟨by decide, wcX320⟩
def cX322 : List (Nat × Nat × Nat × Nat) := (0, 103, 17, 156) :: cX321
theorem wcX322 : WF 157 1567594 cX322 := ⟨rfl, by decide, wcX321⟩
def cX323 : List (Nat × Nat × Nat × Nat) := (0, 1, 400, 157) :: cX322
theorem wcX323 : WF 158 1567994 cX323 := ⟨rfl, by decide, wcX322⟩
def cX324 : List (Nat × Nat × Nat × Nat) := (1, 156, 0, 157) :: cX323
theorem wcX324 : WF 158 1567994 cX324 := ⟨by decide, wcX323⟩
def cX325 : List (Nat × Nat × Nat × Nat) := (0, 0, 200, 158) :: cX324
theorem wcX325 : WF 159 1568194 cX325 := ⟨rfl, by decide, wcX324⟩
def cX326 : List (Nat × Nat × Nat × Nat) := (1, 156, 5, 158) :: cX325
theorem wcX326 : WF 159 1568194 cX326 := ⟨by decide, wcX325⟩
def cX327 : List (Nat × Nat × Nat × Nat) := (0, 0, 200, 159) :: cX326
theorem wcX327 : WF 160 1568394 cX327 := ⟨rfl, by decide, wcX326⟩
def cX328 : List (Nat × Nat × Nat × Nat) := (1, 156, 6, 159) :: cX327
theorem wcX328 : WF 160 1568394 cX328 := ⟨by decide, wcX327⟩
def cX329 : List (Nat × Nat × Nat × Nat) := (0, 0, 200, 160) :: cX328
theorem wcX329 : WF 161 1568594 cX329 := ⟨rfl, by decide, wcX328⟩
def cX330 : List (Nat × Nat × Nat × Nat) := (1, 156, 7, 160) :: cX329
theorem wcX330 : WF 161 1568594 cX330 := ⟨by decide, wcX329⟩
def cX331 : List (Nat × Nat × Nat × Nat) := (0, 0, 200, 161) :: cX330
theorem wcX331 : WF 162 1568794 cX331 := ⟨rfl, by decide, wcX330⟩
def cX332 : List (Nat × Nat × Nat × Nat) := (1, 156, 8, 161) :: cX331
theorem wcX332 : WF 162 1568794 cX332 := ⟨by decide, wcX331⟩
def cX333 : List (Nat × Nat × Nat × Nat) := (0, 4, 200, 162) :: cX332
theorem wcX333 : WF 163 1568994 cX333 := ⟨rfl, by decide, wcX332⟩
def cX334 : List (Nat × Nat × Nat × Nat) := (1, 156, 9, 162) :: cX333
theorem wcX334 : WF 163 1568994 cX334 := ⟨by decide, wcX333⟩
def cX335 : List (Nat × Nat × Nat × Nat) := (0, 0, 200, 163) :: cX334
theorem wcX335 : WF 164 1569194 cX335 := ⟨rfl, by decide, wcX334⟩
def cX336 : List (Nat × Nat × Nat × Nat) := (1, 156, 10, 163) :: cX335
theorem wcX336 : WF 164 1569194 cX336 := ⟨by decide, wcX335⟩
def cX337 : List (Nat × Nat × Nat × Nat) := (0, 0, 200, 164) :: cX336
theorem wcX337 : WF 165 1569394 cX337 := ⟨rfl, by decide, wcX336⟩
def cX338 : List (Nat × Nat × Nat × Nat) := (1, 156, 11, 164) :: cX337
theorem wcX338 : WF 165 1569394 cX338 := ⟨by decide, wcX337⟩
def cX339 : List (Nat × Nat × Nat × Nat) := (0, 0, 200, 165) :: cX338
theorem wcX339 : WF 166 1569594 cX339 := ⟨rfl, by decide, wcX338⟩
def cX340 : List (Nat × Nat × Nat × Nat) := (1, 156, 12, 165) :: cX339
theorem wcX340 : WF 166 1569594 cX340 := ⟨by decide, wcX339⟩
def cX341 : List (Nat × Nat × Nat × Nat) := (0, 0, 200, 166) :: cX340
theorem wcX341 : WF 167 1569794 cX341 := ⟨rfl, by decide, wcX340⟩
def cX342 : List (Nat × Nat × Nat × Nat) := (1, 156, 13, 166) :: cX341
theorem wcX342 : WF 167 1569794 cX342 := ⟨by decide, wcX341⟩
def cX343 : List (Nat × Nat × Nat × Nat) := (0, 4, 200, 167) :: cX342
theorem wcX343 : WF 168 1569994 cX343 := ⟨rfl, by decide, wcX342⟩
def cX344 : List (Nat × Nat × Nat × Nat) := (1, 156, 14, 167) :: cX343
theorem wcX344 : WF 168 1569994 cX344 := ⟨by decide, wcX343⟩
def cX345 : List (Nat × Nat × Nat × Nat) := (0, 4, 200, 168) :: cX344
theorem wcX345 : WF 169 1570194 cX345 := ⟨rfl, by decide, wcX344⟩
def cX346 : List (Nat × Nat × Nat × Nat) := (1, 156, 15, 168) :: cX345
theorem wcX346 : WF 169 1570194 cX346 := ⟨by decide, wcX345⟩
def cX347 : List (Nat × Nat × Nat × Nat) := (0, 4, 200, 169) :: cX346
theorem wcX347 : WF 170 1570394 cX347 := ⟨rfl, by decide, wcX346⟩
def cX348 : List (Nat × Nat × Nat × Nat) := (1, 156, 16, 169) :: cX347
theorem wcX348 : WF 170 1570394 cX348 := ⟨by decide, wcX347⟩
theorem ct_X0_9_1 {E : XE} {d : Nat} (hd : 2 ≤ d) : CC E mX3_init d [aO 156] (crun cX322 e00) (RV (fun τ => τ = crun cX348 e00)) := by
  refine v_aload_n 0 DX3_init_0 rfl rfl ?_
  refine v_objInit DX3_init_1 q717 q309 q310 (by omega) (by decide) ?_
  refine v_aload_n 0 DX3_init_4 rfl rfl ?_
  refine v_sipush DX3_init_5 (by decide) ?_
  refine v_newa (t := 1) (z := 400) DX3_init_8 rfl (by decide) q336 rfl (by decide) (cn_ok wcX322 (by decide)) (cz_ok wcX322 (by decide)) ?_
  rw [cnn wcX322]
  show VV E mX3_init d 10 _ _ (crun cX323 e00) _
  refine v_putR (ci := 3) (kf := 0) (z := 17) DX3_init_10 (csh wcX323 (by decide +kernel)) rfl (by decide) (Or.inr (Or.inr ⟨rfl, rfl, rfl, q718⟩)) (fun _ _ => rfl) rfl rfl (Or.inr (cR wcX323 (by decide +kernel))) ?_
  show VV E mX3_init d 13 _ _ (crun cX324 e00) _
  refine v_aload_n 0 DX3_init_13 rfl rfl ?_
  refine v_sipush DX3_init_14 (by decide) ?_
  refine v_newa (t := 0) (z := 200) DX3_init_17 rfl (by decide) q337 rfl (by decide) (cn_ok wcX324 (by decide)) (cz_ok wcX324 (by decide)) ?_
  rw [cnn wcX324]
  show VV E mX3_init d 19 _ _ (crun cX325 e00) _
  refine v_putR (ci := 3) (kf := 5) (z := 17) DX3_init_19 (csh wcX325 (by decide +kernel)) rfl (by decide) (Or.inr (Or.inr ⟨rfl, rfl, rfl, q734⟩)) (fun _ _ => rfl) rfl rfl (Or.inr (cR wcX325 (by decide +kernel))) ?_
  show VV E mX3_init d 22 _ _ (crun cX326 e00) _
  refine v_aload_n 0 DX3_init_22 rfl rfl ?_
  refine v_sipush DX3_init_23 (by decide) ?_
  refine v_newa (t := 0) (z := 200) DX3_init_26 rfl (by decide) q337 rfl (by decide) (cn_ok wcX326 (by decide)) (cz_ok wcX326 (by decide)) ?_
  rw [cnn wcX326]
  show VV E mX3_init d 28 _ _ (crun cX327 e00) _
  refine v_putR (ci := 3) (kf := 6) (z := 17) DX3_init_28 (csh wcX327 (by decide +kernel)) rfl (by decide) (Or.inr (Or.inr ⟨rfl, rfl, rfl, q737⟩)) (fun _ _ => rfl) rfl rfl (Or.inr (cR wcX327 (by decide +kernel))) ?_
  show VV E mX3_init d 31 _ _ (crun cX328 e00) _
  refine v_aload_n 0 DX3_init_31 rfl rfl ?_
  refine v_sipush DX3_init_32 (by decide) ?_
  refine v_newa (t := 0) (z := 200) DX3_init_35 rfl (by decide) q337 rfl (by decide) (cn_ok wcX328 (by decide)) (cz_ok wcX328 (by decide)) ?_
  rw [cnn wcX328]
  show VV E mX3_init d 37 _ _ (crun cX329 e00) _
  refine v_putR (ci := 3) (kf := 7) (z := 17) DX3_init_37 (csh wcX329 (by decide +kernel)) rfl (by decide) (Or.inr (Or.inr ⟨rfl, rfl, rfl, q740⟩)) (fun _ _ => rfl) rfl rfl (Or.inr (cR wcX329 (by decide +kernel))) ?_
  show VV E mX3_init d 40 _ _ (crun cX330 e00) _
  refine v_aload_n 0 DX3_init_40 rfl rfl ?_
  refine v_sipush DX3_init_41 (by decide) ?_
  refine v_newa (t := 0) (z := 200) DX3_init_44 rfl (by decide) q337 rfl (by decide) (cn_ok wcX330 (by decide)) (cz_ok wcX330 (by decide)) ?_
  rw [cnn wcX330]
  show VV E mX3_init d 46 _ _ (crun cX331 e00) _
  refine v_putR (ci := 3) (kf := 8) (z := 17) DX3_init_46 (csh wcX331 (by decide +kernel)) rfl (by decide) (Or.inr (Or.inr ⟨rfl, rfl, rfl, q743⟩)) (fun _ _ => rfl) rfl rfl (Or.inr (cR wcX331 (by decide +kernel))) ?_
  show VV E mX3_init d 49 _ _ (crun cX332 e00) _
  refine v_aload_n 0 DX3_init_49 rfl rfl ?_
  refine v_sipush DX3_init_50 (by decide) ?_
  refine v_newa (t := 4) (z := 200) DX3_init_53 rfl (by decide) q806 rfl (by decide) (cn_ok wcX332 (by decide)) (cz_ok wcX332 (by decide)) ?_
  rw [cnn wcX332]
  show VV E mX3_init d 55 _ _ (crun cX333 e00) _
  refine v_putR (ci := 3) (kf := 9) (z := 17) DX3_init_55 (csh wcX333 (by decide +kernel)) rfl (by decide) (Or.inr (Or.inr ⟨rfl, rfl, rfl, q746⟩)) (fun _ _ => rfl) rfl rfl (Or.inr (cR wcX333 (by decide +kernel))) ?_
  show VV E mX3_init d 58 _ _ (crun cX334 e00) _
  refine v_aload_n 0 DX3_init_58 rfl rfl ?_
  refine v_sipush DX3_init_59 (by decide) ?_
  refine v_newa (t := 0) (z := 200) DX3_init_62 rfl (by decide) q337 rfl (by decide) (cn_ok wcX334 (by decide)) (cz_ok wcX334 (by decide)) ?_
  rw [cnn wcX334]
  show VV E mX3_init d 64 _ _ (crun cX335 e00) _
  refine v_putR (ci := 3) (kf := 10) (z := 17) DX3_init_64 (csh wcX335 (by decide +kernel)) rfl (by decide) (Or.inr (Or.inr ⟨rfl, rfl, rfl, q749⟩)) (fun _ _ => rfl) rfl rfl (Or.inr (cR wcX335 (by decide +kernel))) ?_
  show VV E mX3_init d 67 _ _ (crun cX336 e00) _
  refine v_aload_n 0 DX3_init_67 rfl rfl ?_
  refine v_sipush DX3_init_68 (by decide) ?_
  refine v_newa (t := 0) (z := 200) DX3_init_71 rfl (by decide) q337 rfl (by decide) (cn_ok wcX336 (by decide)) (cz_ok wcX336 (by decide)) ?_
  rw [cnn wcX336]
  show VV E mX3_init d 73 _ _ (crun cX337 e00) _
  refine v_putR (ci := 3) (kf := 11) (z := 17) DX3_init_73 (csh wcX337 (by decide +kernel)) rfl (by decide) (Or.inr (Or.inr ⟨rfl, rfl, rfl, q752⟩)) (fun _ _ => rfl) rfl rfl (Or.inr (cR wcX337 (by decide +kernel))) ?_
  show VV E mX3_init d 76 _ _ (crun cX338 e00) _
  refine v_aload_n 0 DX3_init_76 rfl rfl ?_
  refine v_sipush DX3_init_77 (by decide) ?_
  refine v_newa (t := 0) (z := 200) DX3_init_80 rfl (by decide) q337 rfl (by decide) (cn_ok wcX338 (by decide)) (cz_ok wcX338 (by decide)) ?_
  rw [cnn wcX338]
  show VV E mX3_init d 82 _ _ (crun cX339 e00) _
  refine v_putR (ci := 3) (kf := 12) (z := 17) DX3_init_82 (csh wcX339 (by decide +kernel)) rfl (by decide) (Or.inr (Or.inr ⟨rfl, rfl, rfl, q755⟩)) (fun _ _ => rfl) rfl rfl (Or.inr (cR wcX339 (by decide +kernel))) ?_
  show VV E mX3_init d 85 _ _ (crun cX340 e00) _
  refine v_aload_n 0 DX3_init_85 rfl rfl ?_
  refine v_sipush DX3_init_86 (by decide) ?_
  refine v_newa (t := 0) (z := 200) DX3_init_89 rfl (by decide) q337 rfl (by decide) (cn_ok wcX340 (by decide)) (cz_ok wcX340 (by decide)) ?_
  rw [cnn wcX340]
  show VV E mX3_init d 91 _ _ (crun cX341 e00) _
  refine v_putR (ci := 3) (kf := 13) (z := 17) DX3_init_91 (csh wcX341 (by decide +kernel)) rfl (by decide) (Or.inr (Or.inr ⟨rfl, rfl, rfl, q758⟩)) (fun _ _ => rfl) rfl rfl (Or.inr (cR wcX341 (by decide +kernel))) ?_
  show VV E mX3_init d 94 _ _ (crun cX342 e00) _
  refine v_aload_n 0 DX3_init_94 rfl rfl ?_
  refine v_sipush DX3_init_95 (by decide) ?_
  refine v_newa (t := 4) (z := 200) DX3_init_98 rfl (by decide) q806 rfl (by decide) (cn_ok wcX342 (by decide)) (cz_ok wcX342 (by decide)) ?_
  rw [cnn wcX342]
  show VV E mX3_init d 100 _ _ (crun cX343 e00) _
  refine v_putR (ci := 3) (kf := 14) (z := 17) DX3_init_100 (csh wcX343 (by decide +kernel)) rfl (by decide) (Or.inr (Or.inr ⟨rfl, rfl, rfl, q761⟩)) (fun _ _ => rfl) rfl rfl (Or.inr (cR wcX343 (by decide +kernel))) ?_
  show VV E mX3_init d 103 _ _ (crun cX344 e00) _
  refine v_aload_n 0 DX3_init_103 rfl rfl ?_
  refine v_sipush DX3_init_104 (by decide) ?_
  refine v_newa (t := 4) (z := 200) DX3_init_107 rfl (by decide) q806 rfl (by decide) (cn_ok wcX344 (by decide)) (cz_ok wcX344 (by decide)) ?_
  rw [cnn wcX344]
  show VV E mX3_init d 109 _ _ (crun cX345 e00) _
  refine v_putR (ci := 3) (kf := 15) (z := 17) DX3_init_109 (csh wcX345 (by decide +kernel)) rfl (by decide) (Or.inr (Or.inr ⟨rfl, rfl, rfl, q764⟩)) (fun _ _ => rfl) rfl rfl (Or.inr (cR wcX345 (by decide +kernel))) ?_
  show VV E mX3_init d 112 _ _ (crun cX346 e00) _
  refine v_aload_n 0 DX3_init_112 rfl rfl ?_
  refine v_sipush DX3_init_113 (by decide) ?_
  refine v_newa (t := 4) (z := 200) DX3_init_116 rfl (by decide) q806 rfl (by decide) (cn_ok wcX346 (by decide)) (cz_ok wcX346 (by decide)) ?_
  rw [cnn wcX346]
  show VV E mX3_init d 118 _ _ (crun cX347 e00) _
  refine v_putR (ci := 3) (kf := 16) (z := 17) DX3_init_118 (csh wcX347 (by decide +kernel)) rfl (by decide) (Or.inr (Or.inr ⟨rfl, rfl, rfl, q767⟩)) (fun _ _ => rfl) rfl rfl (Or.inr (cR wcX347 (by decide +kernel))) ?_
  show VV E mX3_init d 121 _ _ (crun cX348 e00) _
  exact v_vret DX3_init_121 rfl (RV_mk rfl)
def cX349 : List (Nat × Nat × Nat × Nat) := (1, 155, 0, 156) :: cX348
theorem wcX349 : WF 170 1570394 cX349 := ⟨by decide, wcX348⟩
def cX350 : List (Nat × Nat × Nat × Nat) := (0, 106, 10, 170) :: cX349
theorem wcX350 : WF 171 1570404 cX350 := ⟨rfl, by decide, wcX349⟩
def cX351 : List (Nat × Nat × Nat × Nat) := (1, 170, 9, 0) :: cX350
theorem wcX351 : WF 171 1570404 cX351 := ⟨by decide, wcX350⟩
def cX352 : List (Nat × Nat × Nat × Nat) := (0, 3, 601, 171) :: cX351
theorem wcX352 : WF 172 1571005 cX352 := ⟨rfl, by decide, wcX351⟩
def cX353 : List (Nat × Nat × Nat × Nat) := (1, 170, 0, 171) :: cX352
theorem wcX353 : WF 172 1571005 cX353 := ⟨by decide, wcX352⟩
def cX354 : List (Nat × Nat × Nat × Nat) := (0, 0, 12, 172) :: cX353
theorem wcX354 : WF 173 1571017 cX354 := ⟨rfl, by decide, wcX353⟩
def cX355 : List (Nat × Nat × Nat × Nat) := (1, 170, 2, 172) :: cX354
theorem wcX355 : WF 173 1571017 cX355 := ⟨by decide, wcX354⟩
def cX356 : List (Nat × Nat × Nat × Nat) := (0, 0, 12, 173) :: cX355
theorem wcX356 : WF 174 1571029 cX356 := ⟨rfl, by decide, wcX355⟩
def cX357 : List (Nat × Nat × Nat × Nat) := (1, 170, 3, 173) :: cX356
theorem wcX357 : WF 174 1571029 cX357 := ⟨by decide, wcX356⟩
def cX358 : List (Nat × Nat × Nat × Nat) := (0, 0, 601, 174) :: cX357
theorem wcX358 : WF 175 1571630 cX358 := ⟨rfl, by decide, wcX357⟩
def cX359 : List (Nat × Nat × Nat × Nat) := (1, 170, 4, 174) :: cX358
theorem wcX359 : WF 175 1571630 cX359 := ⟨by decide, wcX358⟩
def cX360 : List (Nat × Nat × Nat × Nat) := (0, 0, 601, 175) :: cX359
theorem wcX360 : WF 176 1572231 cX360 := ⟨rfl, by decide, wcX359⟩
def cX361 : List (Nat × Nat × Nat × Nat) := (1, 170, 5, 175) :: cX360
theorem wcX361 : WF 176 1572231 cX361 := ⟨by decide, wcX360⟩
theorem ct_X0_9_2 {E : XE} {d : Nat} (hd : 2 ≤ d) : CC E mX6_init d [aO 170, aO 0] (crun cX350 e00) (RV (fun τ => τ = crun cX361 e00)) := by
  refine v_aload_n 0 DX6_init_0 rfl rfl ?_
  refine v_aload_n 1 DX6_init_1 rfl rfl ?_
  refine v_putR (ci := 6) (kf := 9) (z := 10) DX6_init_2 (csh wcX350 (by decide +kernel)) rfl (by decide) (Or.inr (Or.inr ⟨rfl, rfl, rfl, q861⟩)) (fun _ _ => rfl) rfl rfl (Or.inr (cR wcX350 (by decide +kernel))) ?_
  show VV E mX6_init d 5 _ _ (crun cX351 e00) _
  refine v_aload_n 0 DX6_init_5 rfl rfl ?_
  refine v_objInit DX6_init_6 q841 q309 q310 (by omega) (by decide) ?_
  refine v_aload_n 0 DX6_init_9 rfl rfl ?_
  refine v_sipush DX6_init_10 (by decide) ?_
  refine v_newa (t := 3) (z := 601) DX6_init_13 rfl (by decide) q807 rfl (by decide) (cn_ok wcX351 (by decide)) (cz_ok wcX351 (by decide)) ?_
  rw [cnn wcX351]
  show VV E mX6_init d 15 _ _ (crun cX352 e00) _
  refine v_putR (ci := 6) (kf := 0) (z := 10) DX6_init_15 (csh wcX352 (by decide +kernel)) rfl (by decide) (Or.inr (Or.inr ⟨rfl, rfl, rfl, q842⟩)) (fun _ _ => rfl) rfl rfl (Or.inr (cR wcX352 (by decide +kernel))) ?_
  show VV E mX6_init d 18 _ _ (crun cX353 e00) _
  refine v_aload_n 0 DX6_init_18 rfl rfl ?_
  refine v_bipush DX6_init_19 (by decide) ?_
  refine v_newa (t := 0) (z := 12) DX6_init_21 rfl (by decide) q337 rfl (by decide) (cn_ok wcX353 (by decide)) (cz_ok wcX353 (by decide)) ?_
  rw [cnn wcX353]
  show VV E mX6_init d 23 _ _ (crun cX354 e00) _
  refine v_putR (ci := 6) (kf := 2) (z := 10) DX6_init_23 (csh wcX354 (by decide +kernel)) rfl (by decide) (Or.inr (Or.inr ⟨rfl, rfl, rfl, q847⟩)) (fun _ _ => rfl) rfl rfl (Or.inr (cR wcX354 (by decide +kernel))) ?_
  show VV E mX6_init d 26 _ _ (crun cX355 e00) _
  refine v_aload_n 0 DX6_init_26 rfl rfl ?_
  refine v_bipush DX6_init_27 (by decide) ?_
  refine v_newa (t := 0) (z := 12) DX6_init_29 rfl (by decide) q337 rfl (by decide) (cn_ok wcX355 (by decide)) (cz_ok wcX355 (by decide)) ?_
  rw [cnn wcX355]
  show VV E mX6_init d 31 _ _ (crun cX356 e00) _
  refine v_putR (ci := 6) (kf := 3) (z := 10) DX6_init_31 (csh wcX356 (by decide +kernel)) rfl (by decide) (Or.inr (Or.inr ⟨rfl, rfl, rfl, q849⟩)) (fun _ _ => rfl) rfl rfl (Or.inr (cR wcX356 (by decide +kernel))) ?_
  show VV E mX6_init d 34 _ _ (crun cX357 e00) _
  refine v_aload_n 0 DX6_init_34 rfl rfl ?_
  refine v_sipush DX6_init_35 (by decide) ?_
  refine v_newa (t := 0) (z := 601) DX6_init_38 rfl (by decide) q337 rfl (by decide) (cn_ok wcX357 (by decide)) (cz_ok wcX357 (by decide)) ?_
  rw [cnn wcX357]
  show VV E mX6_init d 40 _ _ (crun cX358 e00) _
  refine v_putR (ci := 6) (kf := 4) (z := 10) DX6_init_40 (csh wcX358 (by decide +kernel)) rfl (by decide) (Or.inr (Or.inr ⟨rfl, rfl, rfl, q851⟩)) (fun _ _ => rfl) rfl rfl (Or.inr (cR wcX358 (by decide +kernel))) ?_
  show VV E mX6_init d 43 _ _ (crun cX359 e00) _
  refine v_aload_n 0 DX6_init_43 rfl rfl ?_
  refine v_sipush DX6_init_44 (by decide) ?_
  refine v_newa (t := 0) (z := 601) DX6_init_47 rfl (by decide) q337 rfl (by decide) (cn_ok wcX359 (by decide)) (cz_ok wcX359 (by decide)) ?_
  rw [cnn wcX359]
  show VV E mX6_init d 49 _ _ (crun cX360 e00) _
  refine v_putR (ci := 6) (kf := 5) (z := 10) DX6_init_49 (csh wcX360 (by decide +kernel)) rfl (by decide) (Or.inr (Or.inr ⟨rfl, rfl, rfl, q853⟩)) (fun _ _ => rfl) rfl rfl (Or.inr (cR wcX360 (by decide +kernel))) ?_
  show VV E mX6_init d 52 _ _ (crun cX361 e00) _
  exact v_vret DX6_init_52 rfl (RV_mk rfl)
def cX362 : List (Nat × Nat × Nat × Nat) := (1, 155, 1, 170) :: cX361
theorem wcX362 : WF 176 1572231 cX362 := ⟨by decide, wcX361⟩
def cX363 : List (Nat × Nat × Nat × Nat) := (0, 0, 200, 176) :: cX362
theorem wcX363 : WF 177 1572431 cX363 := ⟨rfl, by decide, wcX362⟩
def cX364 : List (Nat × Nat × Nat × Nat) := (1, 155, 3, 176) :: cX363
theorem wcX364 : WF 177 1572431 cX364 := ⟨by decide, wcX363⟩
def cX365 : List (Nat × Nat × Nat × Nat) := (0, 4, 200, 177) :: cX364
theorem wcX365 : WF 178 1572631 cX365 := ⟨rfl, by decide, wcX364⟩
def cX366 : List (Nat × Nat × Nat × Nat) := (1, 155, 4, 177) :: cX365
theorem wcX366 : WF 178 1572631 cX366 := ⟨by decide, wcX365⟩
def cX367 : List (Nat × Nat × Nat × Nat) := (0, 2, 36060, 178) :: cX366
theorem wcX367 : WF 179 1608691 cX367 := ⟨rfl, by decide, wcX366⟩
def cX368 : List (Nat × Nat × Nat × Nat) := (1, 155, 5, 178) :: cX367
theorem wcX368 : WF 179 1608691 cX368 := ⟨by decide, wcX367⟩
def cX369 : List (Nat × Nat × Nat × Nat) := (0, 0, 200, 179) :: cX368
theorem wcX369 : WF 180 1608891 cX369 := ⟨rfl, by decide, wcX368⟩
def cX370 : List (Nat × Nat × Nat × Nat) := (1, 155, 7, 179) :: cX369
theorem wcX370 : WF 180 1608891 cX370 := ⟨by decide, wcX369⟩
def cX371 : List (Nat × Nat × Nat × Nat) := (0, 0, 200, 180) :: cX370
theorem wcX371 : WF 181 1609091 cX371 := ⟨rfl, by decide, wcX370⟩
def cX372 : List (Nat × Nat × Nat × Nat) := (1, 155, 8, 180) :: cX371
theorem wcX372 : WF 181 1609091 cX372 := ⟨by decide, wcX371⟩
def cX373 : List (Nat × Nat × Nat × Nat) := (0, 0, 1000, 181) :: cX372
theorem wcX373 : WF 182 1610091 cX373 := ⟨rfl, by decide, wcX372⟩
def cX374 : List (Nat × Nat × Nat × Nat) := (1, 155, 9, 181) :: cX373
theorem wcX374 : WF 182 1610091 cX374 := ⟨by decide, wcX373⟩
def cX375 : List (Nat × Nat × Nat × Nat) := (0, 0, 1001, 182) :: cX374
theorem wcX375 : WF 183 1611092 cX375 := ⟨rfl, by decide, wcX374⟩
def cX376 : List (Nat × Nat × Nat × Nat) := (1, 155, 10, 182) :: cX375
theorem wcX376 : WF 183 1611092 cX376 := ⟨by decide, wcX375⟩
def cX377 : List (Nat × Nat × Nat × Nat) := (0, 0, 6000, 183) :: cX376
theorem wcX377 : WF 184 1617092 cX377 := ⟨rfl, by decide, wcX376⟩
def cX378 : List (Nat × Nat × Nat × Nat) := (1, 155, 11, 183) :: cX377
theorem wcX378 : WF 184 1617092 cX378 := ⟨by decide, wcX377⟩
def cX379 : List (Nat × Nat × Nat × Nat) := (0, 4, 72120, 184) :: cX378
theorem wcX379 : WF 185 1689212 cX379 := ⟨rfl, by decide, wcX378⟩
def cX380 : List (Nat × Nat × Nat × Nat) := (1, 155, 14, 184) :: cX379
theorem wcX380 : WF 185 1689212 cX380 := ⟨by decide, wcX379⟩
def cX381 : List (Nat × Nat × Nat × Nat) := (0, 1, 20, 185) :: cX380
theorem wcX381 : WF 186 1689232 cX381 := ⟨rfl, by decide, wcX380⟩
def cX382 : List (Nat × Nat × Nat × Nat) := (1, 155, 15, 185) :: cX381
theorem wcX382 : WF 186 1689232 cX382 := ⟨by decide, wcX381⟩
def cX383 : List (Nat × Nat × Nat × Nat) := (0, 4, 128, 186) :: cX382
theorem wcX383 : WF 187 1689360 cX383 := ⟨rfl, by decide, wcX382⟩
def cX384 : List (Nat × Nat × Nat × Nat) := (1, 155, 17, 186) :: cX383
theorem wcX384 : WF 187 1689360 cX384 := ⟨by decide, wcX383⟩
def cX385 : List (Nat × Nat × Nat × Nat) := (0, 0, 512, 187) :: cX384
theorem wcX385 : WF 188 1689872 cX385 := ⟨rfl, by decide, wcX384⟩
def cX386 : List (Nat × Nat × Nat × Nat) := (1, 155, 18, 187) :: cX385
theorem wcX386 : WF 188 1689872 cX386 := ⟨by decide, wcX385⟩
def cX387 : List (Nat × Nat × Nat × Nat) := (0, 3, 512, 188) :: cX386
theorem wcX387 : WF 189 1690384 cX387 := ⟨rfl, by decide, wcX386⟩
def cX388 : List (Nat × Nat × Nat × Nat) := (1, 155, 19, 188) :: cX387
theorem wcX388 : WF 189 1690384 cX388 := ⟨by decide, wcX387⟩
theorem ct_X0_9 {E : XE} {d : Nat} (hd : 3 ≤ d) : CC E mX5_init d [aO 155, aO 0] (crun cX320 e00) (RV (fun τ => τ = crun cX388 e00)) := by
  obtain ⟨d, rfl⟩ : ∃ e, d = e + 1 := ⟨d - 1, by omega⟩
  refine v_aload_n 0 DX5_init_0 rfl rfl ?_
  refine v_aload_n 1 DX5_init_1 rfl rfl ?_
  refine v_putR (ci := 5) (kf := 20) (z := 21) DX5_init_2 (csh wcX320 (by decide +kernel)) rfl (by decide) (Or.inr (Or.inr ⟨rfl, rfl, rfl, q908⟩)) (fun _ _ => rfl) rfl rfl (Or.inr (cR wcX320 (by decide +kernel))) ?_
  show VV E mX5_init (d + 1) 5 _ _ (crun cX321 e00) _
  refine v_aload_n 0 DX5_init_5 rfl rfl ?_
  refine v_objInit DX5_init_6 q833 q309 q310 (by omega) (by decide) ?_
  refine v_aload_n 0 DX5_init_9 rfl rfl ?_
  refine v_new (ci := 3) (z := 17) DX5_init_10 rfl q834 q713 q256 (cn_ok wcX321 (by decide)) (cz_ok wcX321 (by decide)) ?_
  rw [cnn wcX321]
  show VV E mX5_init (d + 1) 13 _ _ (crun cX322 e00) _
  refine v_dup DX5_init_13 rfl ?_
  refine v_invI (as := []) (b := 156) (st := [aO 156, aO 155]) DX5_init_14 rfl okX3_init (Or.inr ⟨_, q835⟩) q715 q716 rfl npX3_init (ct_X0_9_1 (d := d) (by omega)) (Nat.le_of_ble_eq_true rfl) (Nat.le_refl _) (Nat.le_of_ble_eq_true rfl) (RV_ret (fun τ g e => ?_)) RV_thr
  subst e
  refine v_putR (ci := 5) (kf := 0) (z := 21) DX5_init_17 (csh wcX348 (by decide +kernel)) rfl (by decide) (Or.inr (Or.inr ⟨rfl, rfl, rfl, q885⟩)) (fun _ _ => rfl) rfl rfl (Or.inr (cR wcX348 (by decide +kernel))) ?_
  show VV E mX5_init (d + 1) 20 _ _ (crun cX349 e00) _
  refine v_aload_n 0 DX5_init_20 rfl rfl ?_
  refine v_new (ci := 6) (z := 10) DX5_init_21 rfl q836 q837 q259 (cn_ok wcX349 (by decide)) (cz_ok wcX349 (by decide)) ?_
  rw [cnn wcX349]
  show VV E mX5_init (d + 1) 24 _ _ (crun cX350 e00) _
  refine v_dup DX5_init_24 rfl ?_
  refine v_aload_n 0 DX5_init_25 rfl rfl ?_
  refine w_getR (ci := 5) (kf := 20) (kz := 20) DX5_init_26 (csh wcX350 (q := (105, 21)) (by decide +kernel)) rfl (by decide) rfl (Or.inl q908) (fun _ _ => rfl) (cR wcX350 (k := 20) (v := some 0) (by decide +kernel)) ?_
  refine v_invI (as := [aO 0]) (b := 170) (st := [aO 170, aO 155]) DX5_init_29 rfl okX6_init (Or.inr ⟨_, q838⟩) q839 q840 rfl npX6_init (ct_X0_9_2 (d := d) (by omega)) (Nat.le_of_ble_eq_true rfl) (Nat.le_refl _) (Nat.le_of_ble_eq_true rfl) (RV_ret (fun τ g e => ?_)) RV_thr
  subst e
  refine v_putR (ci := 5) (kf := 1) (z := 21) DX5_init_32 (csh wcX361 (by decide +kernel)) rfl (by decide) (Or.inr (Or.inr ⟨rfl, rfl, rfl, q887⟩)) (fun _ _ => rfl) rfl rfl (Or.inr (cR wcX361 (by decide +kernel))) ?_
  show VV E mX5_init (d + 1) 35 _ _ (crun cX362 e00) _
  refine v_aload_n 0 DX5_init_35 rfl rfl ?_
  refine v_sipush DX5_init_36 (by decide) ?_
  refine v_newa (t := 0) (z := 200) DX5_init_39 rfl (by decide) q337 rfl (by decide) (cn_ok wcX362 (by decide)) (cz_ok wcX362 (by decide)) ?_
  rw [cnn wcX362]
  show VV E mX5_init (d + 1) 41 _ _ (crun cX363 e00) _
  refine v_putR (ci := 5) (kf := 3) (z := 21) DX5_init_41 (csh wcX363 (by decide +kernel)) rfl (by decide) (Or.inr (Or.inr ⟨rfl, rfl, rfl, q891⟩)) (fun _ _ => rfl) rfl rfl (Or.inr (cR wcX363 (by decide +kernel))) ?_
  show VV E mX5_init (d + 1) 44 _ _ (crun cX364 e00) _
  refine v_aload_n 0 DX5_init_44 rfl rfl ?_
  refine v_sipush DX5_init_45 (by decide) ?_
  refine v_newa (t := 4) (z := 200) DX5_init_48 rfl (by decide) q806 rfl (by decide) (cn_ok wcX364 (by decide)) (cz_ok wcX364 (by decide)) ?_
  rw [cnn wcX364]
  show VV E mX5_init (d + 1) 50 _ _ (crun cX365 e00) _
  refine v_putR (ci := 5) (kf := 4) (z := 21) DX5_init_50 (csh wcX365 (by decide +kernel)) rfl (by decide) (Or.inr (Or.inr ⟨rfl, rfl, rfl, q892⟩)) (fun _ _ => rfl) rfl rfl (Or.inr (cR wcX365 (by decide +kernel))) ?_
  show VV E mX5_init (d + 1) 53 _ _ (crun cX366 e00) _
  refine v_aload_n 0 DX5_init_53 rfl rfl ?_
  refine v_ldc (x := 36060) DX5_init_54 q883 rfl ?_
  refine v_newa (t := 2) (z := 36060) DX5_init_56 rfl (by decide) q805 rfl (by decide) (cn_ok wcX366 (by decide)) (cz_ok wcX366 (by decide)) ?_
  rw [cnn wcX366]
  show VV E mX5_init (d + 1) 58 _ _ (crun cX367 e00) _
  refine v_putR (ci := 5) (kf := 5) (z := 21) DX5_init_58 (csh wcX367 (by decide +kernel)) rfl (by decide) (Or.inr (Or.inr ⟨rfl, rfl, rfl, q893⟩)) (fun _ _ => rfl) rfl rfl (Or.inr (cR wcX367 (by decide +kernel))) ?_
  show VV E mX5_init (d + 1) 61 _ _ (crun cX368 e00) _
  refine v_aload_n 0 DX5_init_61 rfl rfl ?_
  refine v_sipush DX5_init_62 (by decide) ?_
  refine v_newa (t := 0) (z := 200) DX5_init_65 rfl (by decide) q337 rfl (by decide) (cn_ok wcX368 (by decide)) (cz_ok wcX368 (by decide)) ?_
  rw [cnn wcX368]
  show VV E mX5_init (d + 1) 67 _ _ (crun cX369 e00) _
  refine v_putR (ci := 5) (kf := 7) (z := 21) DX5_init_67 (csh wcX369 (by decide +kernel)) rfl (by decide) (Or.inr (Or.inr ⟨rfl, rfl, rfl, q895⟩)) (fun _ _ => rfl) rfl rfl (Or.inr (cR wcX369 (by decide +kernel))) ?_
  show VV E mX5_init (d + 1) 70 _ _ (crun cX370 e00) _
  refine v_aload_n 0 DX5_init_70 rfl rfl ?_
  refine v_sipush DX5_init_71 (by decide) ?_
  refine v_newa (t := 0) (z := 200) DX5_init_74 rfl (by decide) q337 rfl (by decide) (cn_ok wcX370 (by decide)) (cz_ok wcX370 (by decide)) ?_
  rw [cnn wcX370]
  show VV E mX5_init (d + 1) 76 _ _ (crun cX371 e00) _
  refine v_putR (ci := 5) (kf := 8) (z := 21) DX5_init_76 (csh wcX371 (by decide +kernel)) rfl (by decide) (Or.inr (Or.inr ⟨rfl, rfl, rfl, q896⟩)) (fun _ _ => rfl) rfl rfl (Or.inr (cR wcX371 (by decide +kernel))) ?_
  show VV E mX5_init (d + 1) 79 _ _ (crun cX372 e00) _
  refine v_aload_n 0 DX5_init_79 rfl rfl ?_
  refine v_sipush DX5_init_80 (by decide) ?_
  refine v_newa (t := 0) (z := 1000) DX5_init_83 rfl (by decide) q337 rfl (by decide) (cn_ok wcX372 (by decide)) (cz_ok wcX372 (by decide)) ?_
  rw [cnn wcX372]
  show VV E mX5_init (d + 1) 85 _ _ (crun cX373 e00) _
  refine v_putR (ci := 5) (kf := 9) (z := 21) DX5_init_85 (csh wcX373 (by decide +kernel)) rfl (by decide) (Or.inr (Or.inr ⟨rfl, rfl, rfl, q897⟩)) (fun _ _ => rfl) rfl rfl (Or.inr (cR wcX373 (by decide +kernel))) ?_
  show VV E mX5_init (d + 1) 88 _ _ (crun cX374 e00) _
  refine v_aload_n 0 DX5_init_88 rfl rfl ?_
  refine v_sipush DX5_init_89 (by decide) ?_
  refine v_newa (t := 0) (z := 1001) DX5_init_92 rfl (by decide) q337 rfl (by decide) (cn_ok wcX374 (by decide)) (cz_ok wcX374 (by decide)) ?_
  rw [cnn wcX374]
  show VV E mX5_init (d + 1) 94 _ _ (crun cX375 e00) _
  refine v_putR (ci := 5) (kf := 10) (z := 21) DX5_init_94 (csh wcX375 (by decide +kernel)) rfl (by decide) (Or.inr (Or.inr ⟨rfl, rfl, rfl, q898⟩)) (fun _ _ => rfl) rfl rfl (Or.inr (cR wcX375 (by decide +kernel))) ?_
  show VV E mX5_init (d + 1) 97 _ _ (crun cX376 e00) _
  refine v_aload_n 0 DX5_init_97 rfl rfl ?_
  refine v_sipush DX5_init_98 (by decide) ?_
  refine v_newa (t := 0) (z := 6000) DX5_init_101 rfl (by decide) q337 rfl (by decide) (cn_ok wcX376 (by decide)) (cz_ok wcX376 (by decide)) ?_
  rw [cnn wcX376]
  show VV E mX5_init (d + 1) 103 _ _ (crun cX377 e00) _
  refine v_putR (ci := 5) (kf := 11) (z := 21) DX5_init_103 (csh wcX377 (by decide +kernel)) rfl (by decide) (Or.inr (Or.inr ⟨rfl, rfl, rfl, q899⟩)) (fun _ _ => rfl) rfl rfl (Or.inr (cR wcX377 (by decide +kernel))) ?_
  show VV E mX5_init (d + 1) 106 _ _ (crun cX378 e00) _
  refine v_aload_n 0 DX5_init_106 rfl rfl ?_
  refine v_ldc (x := 72120) DX5_init_107 q884 rfl ?_
  refine v_newa (t := 4) (z := 72120) DX5_init_109 rfl (by decide) q806 rfl (by decide) (cn_ok wcX378 (by decide)) (cz_ok wcX378 (by decide)) ?_
  rw [cnn wcX378]
  show VV E mX5_init (d + 1) 111 _ _ (crun cX379 e00) _
  refine v_putR (ci := 5) (kf := 14) (z := 21) DX5_init_111 (csh wcX379 (by decide +kernel)) rfl (by decide) (Or.inr (Or.inr ⟨rfl, rfl, rfl, q902⟩)) (fun _ _ => rfl) rfl rfl (Or.inr (cR wcX379 (by decide +kernel))) ?_
  show VV E mX5_init (d + 1) 114 _ _ (crun cX380 e00) _
  refine v_aload_n 0 DX5_init_114 rfl rfl ?_
  refine v_bipush DX5_init_115 (by decide) ?_
  refine v_newa (t := 1) (z := 20) DX5_init_117 rfl (by decide) q336 rfl (by decide) (cn_ok wcX380 (by decide)) (cz_ok wcX380 (by decide)) ?_
  rw [cnn wcX380]
  show VV E mX5_init (d + 1) 119 _ _ (crun cX381 e00) _
  refine v_putR (ci := 5) (kf := 15) (z := 21) DX5_init_119 (csh wcX381 (by decide +kernel)) rfl (by decide) (Or.inr (Or.inr ⟨rfl, rfl, rfl, q903⟩)) (fun _ _ => rfl) rfl rfl (Or.inr (cR wcX381 (by decide +kernel))) ?_
  show VV E mX5_init (d + 1) 122 _ _ (crun cX382 e00) _
  refine v_aload_n 0 DX5_init_122 rfl rfl ?_
  refine v_sipush DX5_init_123 (by decide) ?_
  refine v_newa (t := 4) (z := 128) DX5_init_126 rfl (by decide) q806 rfl (by decide) (cn_ok wcX382 (by decide)) (cz_ok wcX382 (by decide)) ?_
  rw [cnn wcX382]
  show VV E mX5_init (d + 1) 128 _ _ (crun cX383 e00) _
  refine v_putR (ci := 5) (kf := 17) (z := 21) DX5_init_128 (csh wcX383 (by decide +kernel)) rfl (by decide) (Or.inr (Or.inr ⟨rfl, rfl, rfl, q905⟩)) (fun _ _ => rfl) rfl rfl (Or.inr (cR wcX383 (by decide +kernel))) ?_
  show VV E mX5_init (d + 1) 131 _ _ (crun cX384 e00) _
  refine v_aload_n 0 DX5_init_131 rfl rfl ?_
  refine v_sipush DX5_init_132 (by decide) ?_
  refine v_newa (t := 0) (z := 512) DX5_init_135 rfl (by decide) q337 rfl (by decide) (cn_ok wcX384 (by decide)) (cz_ok wcX384 (by decide)) ?_
  rw [cnn wcX384]
  show VV E mX5_init (d + 1) 137 _ _ (crun cX385 e00) _
  refine v_putR (ci := 5) (kf := 18) (z := 21) DX5_init_137 (csh wcX385 (by decide +kernel)) rfl (by decide) (Or.inr (Or.inr ⟨rfl, rfl, rfl, q906⟩)) (fun _ _ => rfl) rfl rfl (Or.inr (cR wcX385 (by decide +kernel))) ?_
  show VV E mX5_init (d + 1) 140 _ _ (crun cX386 e00) _
  refine v_aload_n 0 DX5_init_140 rfl rfl ?_
  refine v_sipush DX5_init_141 (by decide) ?_
  refine v_newa (t := 3) (z := 512) DX5_init_144 rfl (by decide) q807 rfl (by decide) (cn_ok wcX386 (by decide)) (cz_ok wcX386 (by decide)) ?_
  rw [cnn wcX386]
  show VV E mX5_init (d + 1) 146 _ _ (crun cX387 e00) _
  refine v_putR (ci := 5) (kf := 19) (z := 21) DX5_init_146 (csh wcX387 (by decide +kernel)) rfl (by decide) (Or.inr (Or.inr ⟨rfl, rfl, rfl, q907⟩)) (fun _ _ => rfl) rfl rfl (Or.inr (cR wcX387 (by decide +kernel))) ?_
  show VV E mX5_init (d + 1) 149 _ _ (crun cX388 e00) _
  exact v_vret DX5_init_149 rfl (RV_mk rfl)
def cX389 : List (Nat × Nat × Nat × Nat) := (1, 0, 62, 155) :: cX388
theorem wcX389 : WF 189 1690384 cX389 := ⟨by decide, wcX388⟩
def cX390 : List (Nat × Nat × Nat × Nat) := (3, 0, 64, 1) :: cX389
theorem wcX390 : WF 189 1690384 cX390 := ⟨by decide, wcX389⟩
def cX391 : List (Nat × Nat × Nat × Nat) := (0, 0, 600, 189) :: cX390
theorem wcX391 : WF 190 1690984 cX391 := ⟨rfl, by decide, wcX390⟩
def cX392 : List (Nat × Nat × Nat × Nat) := (1, 0, 66, 189) :: cX391
theorem wcX392 : WF 190 1690984 cX392 := ⟨by decide, wcX391⟩
def cX393 : List (Nat × Nat × Nat × Nat) := (0, 4, 600, 190) :: cX392
theorem wcX393 : WF 191 1691584 cX393 := ⟨rfl, by decide, wcX392⟩
def cX394 : List (Nat × Nat × Nat × Nat) := (1, 0, 67, 190) :: cX393
theorem wcX394 : WF 191 1691584 cX394 := ⟨by decide, wcX393⟩
def cX395 : List (Nat × Nat × Nat × Nat) := (0, 4, 600, 191) :: cX394
theorem wcX395 : WF 192 1692184 cX395 := ⟨rfl, by decide, wcX394⟩
def cX396 : List (Nat × Nat × Nat × Nat) := (1, 0, 68, 191) :: cX395
theorem wcX396 : WF 192 1692184 cX396 := ⟨by decide, wcX395⟩
def cX397 : List (Nat × Nat × Nat × Nat) := (0, 3, 600, 192) :: cX396
theorem wcX397 : WF 193 1692784 cX397 := ⟨rfl, by decide, wcX396⟩
def cX398 : List (Nat × Nat × Nat × Nat) := (1, 0, 69, 192) :: cX397
theorem wcX398 : WF 193 1692784 cX398 := ⟨by decide, wcX397⟩
def cX399 : List (Nat × Nat × Nat × Nat) := (0, 0, 6000, 193) :: cX398
theorem wcX399 : WF 194 1698784 cX399 := ⟨rfl, by decide, wcX398⟩
def cX400 : List (Nat × Nat × Nat × Nat) := (1, 0, 72, 193) :: cX399
theorem wcX400 : WF 194 1698784 cX400 := ⟨by decide, wcX399⟩
def cX401 : List (Nat × Nat × Nat × Nat) := (0, 0, 6000, 194) :: cX400
theorem wcX401 : WF 195 1704784 cX401 := ⟨rfl, by decide, wcX400⟩
def cX402 : List (Nat × Nat × Nat × Nat) := (1, 0, 73, 194) :: cX401
theorem wcX402 : WF 195 1704784 cX402 := ⟨by decide, wcX401⟩
def cX403 : List (Nat × Nat × Nat × Nat) := (0, 0, 6000, 195) :: cX402
theorem wcX403 : WF 196 1710784 cX403 := ⟨rfl, by decide, wcX402⟩
def cX404 : List (Nat × Nat × Nat × Nat) := (1, 0, 74, 195) :: cX403
theorem wcX404 : WF 196 1710784 cX404 := ⟨by decide, wcX403⟩
def cX405 : List (Nat × Nat × Nat × Nat) := (0, 4, 6000, 196) :: cX404
theorem wcX405 : WF 197 1716784 cX405 := ⟨rfl, by decide, wcX404⟩
def cX406 : List (Nat × Nat × Nat × Nat) := (1, 0, 76, 196) :: cX405
theorem wcX406 : WF 197 1716784 cX406 := ⟨by decide, wcX405⟩
def cX407 : List (Nat × Nat × Nat × Nat) := (0, 0, 6000, 197) :: cX406
theorem wcX407 : WF 198 1722784 cX407 := ⟨rfl, by decide, wcX406⟩
def cX408 : List (Nat × Nat × Nat × Nat) := (1, 0, 77, 197) :: cX407
theorem wcX408 : WF 198 1722784 cX408 := ⟨by decide, wcX407⟩
def cX409 : List (Nat × Nat × Nat × Nat) := (0, 0, 6000, 198) :: cX408
theorem wcX409 : WF 199 1728784 cX409 := ⟨rfl, by decide, wcX408⟩
def cX410 : List (Nat × Nat × Nat × Nat) := (1, 0, 78, 198) :: cX409
theorem wcX410 : WF 199 1728784 cX410 := ⟨by decide, wcX409⟩
def cX411 : List (Nat × Nat × Nat × Nat) := (0, 0, 36500, 199) :: cX410
theorem wcX411 : WF 200 1765284 cX411 := ⟨rfl, by decide, wcX410⟩
def cX412 : List (Nat × Nat × Nat × Nat) := (1, 0, 81, 199) :: cX411
theorem wcX412 : WF 200 1765284 cX412 := ⟨by decide, wcX411⟩
def cX413 : List (Nat × Nat × Nat × Nat) := (0, 0, 6000, 200) :: cX412
theorem wcX413 : WF 201 1771284 cX413 := ⟨rfl, by decide, wcX412⟩
def cX414 : List (Nat × Nat × Nat × Nat) := (1, 0, 82, 200) :: cX413
theorem wcX414 : WF 201 1771284 cX414 := ⟨by decide, wcX413⟩
def cX415 : List (Nat × Nat × Nat × Nat) := (0, 0, 11, 201) :: cX414
theorem wcX415 : WF 202 1771295 cX415 := ⟨rfl, by decide, wcX414⟩
def cX416 : List (Nat × Nat × Nat × Nat) := (1, 0, 83, 201) :: cX415
theorem wcX416 : WF 202 1771295 cX416 := ⟨by decide, wcX415⟩
def cX417 : List (Nat × Nat × Nat × Nat) := (0, 0, 11, 202) :: cX416
theorem wcX417 : WF 203 1771306 cX417 := ⟨rfl, by decide, wcX416⟩
def cX418 : List (Nat × Nat × Nat × Nat) := (1, 0, 84, 202) :: cX417
theorem wcX418 : WF 203 1771306 cX418 := ⟨by decide, wcX417⟩
def cX419 : List (Nat × Nat × Nat × Nat) := (0, 0, 11, 203) :: cX418
theorem wcX419 : WF 204 1771317 cX419 := ⟨rfl, by decide, wcX418⟩
def cX420 : List (Nat × Nat × Nat × Nat) := (1, 0, 85, 203) :: cX419
theorem wcX420 : WF 204 1771317 cX420 := ⟨by decide, wcX419⟩
def cX421 : List (Nat × Nat × Nat × Nat) := (0, 1, 200, 204) :: cX420
theorem wcX421 : WF 205 1771517 cX421 := ⟨rfl, by decide, wcX420⟩
def cX422 : List (Nat × Nat × Nat × Nat) := (1, 0, 86, 204) :: cX421
theorem wcX422 : WF 205 1771517 cX422 := ⟨by decide, wcX421⟩
def cX423 : List (Nat × Nat × Nat × Nat) := (0, 0, 10, 205) :: cX422
theorem wcX423 : WF 206 1771527 cX423 := ⟨rfl, by decide, wcX422⟩
def cX424 : List (Nat × Nat × Nat × Nat) := (1, 0, 87, 205) :: cX423
theorem wcX424 : WF 206 1771527 cX424 := ⟨by decide, wcX423⟩
def cX425 : List (Nat × Nat × Nat × Nat) := (0, 0, 36500, 206) :: cX424
theorem wcX425 : WF 207 1808027 cX425 := ⟨rfl, by decide, wcX424⟩
def cX426 : List (Nat × Nat × Nat × Nat) := (1, 0, 89, 206) :: cX425
theorem wcX426 : WF 207 1808027 cX426 := ⟨by decide, wcX425⟩
def cX427 : List (Nat × Nat × Nat × Nat) := (0, 0, 6, 207) :: cX426
theorem wcX427 : WF 208 1808033 cX427 := ⟨rfl, by decide, wcX426⟩
def cX428 : List (Nat × Nat × Nat × Nat) := (1, 0, 90, 207) :: cX427
theorem wcX428 : WF 208 1808033 cX428 := ⟨by decide, wcX427⟩
def cX429 : List (Nat × Nat × Nat × Nat) := (0, 4, 6, 208) :: cX428
theorem wcX429 : WF 209 1808039 cX429 := ⟨rfl, by decide, wcX428⟩
def cX430 : List (Nat × Nat × Nat × Nat) := (1, 0, 91, 208) :: cX429
theorem wcX430 : WF 209 1808039 cX430 := ⟨by decide, wcX429⟩
def cX431 : List (Nat × Nat × Nat × Nat) := (0, 0, 20, 209) :: cX430
theorem wcX431 : WF 210 1808059 cX431 := ⟨rfl, by decide, wcX430⟩
def cX432 : List (Nat × Nat × Nat × Nat) := (1, 0, 93, 209) :: cX431
theorem wcX432 : WF 210 1808059 cX432 := ⟨by decide, wcX431⟩
def cX433 : List (Nat × Nat × Nat × Nat) := (2, 0, 95, 1) :: cX432
theorem wcX433 : WF 210 1808059 cX433 := ⟨by decide, wcX432⟩
def cX434 : List (Nat × Nat × Nat × Nat) := (2, 0, 96, 1) :: cX433
theorem wcX434 : WF 210 1808059 cX434 := ⟨by decide, wcX433⟩
def cX435 : List (Nat × Nat × Nat × Nat) := (0, 3, 8, 210) :: cX434
theorem wcX435 : WF 211 1808067 cX435 := ⟨rfl, by decide, wcX434⟩
def cX436 : List (Nat × Nat × Nat × Nat) := (1, 0, 97, 210) :: cX435
theorem wcX436 : WF 211 1808067 cX436 := ⟨by decide, wcX435⟩
def cX437 : List (Nat × Nat × Nat × Nat) := (0, 0, 8, 211) :: cX436
theorem wcX437 : WF 212 1808075 cX437 := ⟨rfl, by decide, wcX436⟩
def cX438 : List (Nat × Nat × Nat × Nat) := (1, 0, 98, 211) :: cX437
theorem wcX438 : WF 212 1808075 cX438 := ⟨by decide, wcX437⟩
def cX439 : List (Nat × Nat × Nat × Nat) := (0, 1, 30000, 212) :: cX438
theorem wcX439 : WF 213 1838075 cX439 := ⟨rfl, by decide, wcX438⟩
def cX440 : List (Nat × Nat × Nat × Nat) := (1, 0, 99, 212) :: cX439
theorem wcX440 : WF 213 1838075 cX440 := ⟨by decide, wcX439⟩
def cX441 : List (Nat × Nat × Nat × Nat) := (0, 1, 30000, 213) :: cX440
theorem wcX441 : WF 214 1868075 cX441 := ⟨rfl, by decide, wcX440⟩
def cX442 : List (Nat × Nat × Nat × Nat) := (1, 0, 102, 213) :: cX441
theorem wcX442 : WF 214 1868075 cX442 := ⟨by decide, wcX441⟩
def cX443 : List (Nat × Nat × Nat × Nat) := (0, 107, 3, 214) :: cX442
theorem wcX443 : WF 215 1868078 cX443 := ⟨rfl, by decide, wcX442⟩
theorem DX7_init_0 : DD cX7_init 0 1 1 (.aload_n 0) := ⟨by decide +kernel, rfl⟩
theorem DX7_init_1 : DD cX7_init 1 1 2 (.aload_n 1) := ⟨by decide +kernel, rfl⟩
theorem DX7_init_2 : DD cX7_init 2 3 5 (.putfield 3) := ⟨by decide +kernel, rfl⟩
theorem DX7_init_5 : DD cX7_init 5 1 6 (.aload_n 0) := ⟨by decide +kernel, rfl⟩
theorem DX7_init_6 : DD cX7_init 6 3 9 (.invokespecial 9) := ⟨by decide +kernel, rfl⟩
theorem DX7_init_9 : DD cX7_init 9 1 10 (.return_) := ⟨by decide +kernel, rfl⟩
def cX444 : List (Nat × Nat × Nat × Nat) := (1, 214, 2, 0) :: cX443
theorem wcX444 : WF 215 1868078 cX444 := ⟨by decide, wcX443⟩
theorem ct_X0_10 {E : XE} {d : Nat} (hd : 2 ≤ d) : CC E mX7_init d [aO 214, aO 0] (crun cX443 e00) (RV (fun τ => τ = crun cX444 e00)) := by
  refine v_aload_n 0 DX7_init_0 rfl rfl ?_
  refine v_aload_n 1 DX7_init_1 rfl rfl ?_
  refine v_putR (ci := 7) (kf := 2) (z := 3) DX7_init_2 (csh wcX443 (by decide +kernel)) rfl (by decide) (Or.inr (Or.inr ⟨rfl, rfl, rfl, q960⟩)) (fun _ _ => rfl) rfl rfl (Or.inr (cR wcX443 (by decide +kernel))) ?_
  show VV E mX7_init d 5 _ _ (crun cX444 e00) _
  refine v_aload_n 0 DX7_init_5 rfl rfl ?_
  refine v_objInit DX7_init_6 q957 q309 q310 (by omega) (by decide) ?_
  exact v_vret DX7_init_9 rfl (RV_mk rfl)
def cX445 : List (Nat × Nat × Nat × Nat) := (1, 0, 103, 214) :: cX444
theorem wcX445 : WF 215 1868078 cX445 := ⟨by decide, wcX444⟩
def cX446 : List (Nat × Nat × Nat × Nat) := (4, 25, 8192, 1) :: cX445
theorem wcX446 : WF 215 1868078 cX446 := ⟨by decide, wcX445⟩
def cX447 : List (Nat × Nat × Nat × Nat) := (2, 18, 7, 0) :: cX446
theorem wcX447 : WF 215 1868078 cX447 := ⟨by decide, wcX446⟩
def cX448 : List (Nat × Nat × Nat × Nat) := (0, 108, 3, 215) :: cX447
theorem wcX448 : WF 216 1868081 cX448 := ⟨rfl, by decide, wcX447⟩
theorem DX8_init_0 : DD cX8_init 0 1 1 (.aload_n 0) := ⟨by decide +kernel, rfl⟩
theorem DX8_init_1 : DD cX8_init 1 3 4 (.invokespecial 1) := ⟨by decide +kernel, rfl⟩
theorem DX8_init_4 : DD cX8_init 4 1 5 (.aload_n 0) := ⟨by decide +kernel, rfl⟩
theorem DX8_init_5 : DD cX8_init 5 3 8 (.new 7) := ⟨by decide +kernel, rfl⟩
theorem DX8_init_8 : DD cX8_init 8 1 9 (.dup) := ⟨by decide +kernel, rfl⟩
theorem DX8_init_9 : DD cX8_init 9 3 12 (.invokespecial 9) := ⟨by decide +kernel, rfl⟩
theorem DX8_init_12 : DD cX8_init 12 3 15 (.putfield 10) := ⟨by decide +kernel, rfl⟩
theorem DX8_init_15 : DD cX8_init 15 1 16 (.return_) := ⟨by decide +kernel, rfl⟩
def cX449 : List (Nat × Nat × Nat × Nat) := (0, 103, 17, 216) :: cX448
theorem wcX449 : WF 217 1868098 cX449 := ⟨rfl, by decide, wcX448⟩
def cX450 : List (Nat × Nat × Nat × Nat) := (0, 1, 400, 217) :: cX449
theorem wcX450 : WF 218 1868498 cX450 := ⟨rfl, by decide, wcX449⟩
def cX451 : List (Nat × Nat × Nat × Nat) := (1, 216, 0, 217) :: cX450
theorem wcX451 : WF 218 1868498 cX451 := ⟨by decide, wcX450⟩
def cX452 : List (Nat × Nat × Nat × Nat) := (0, 0, 200, 218) :: cX451
theorem wcX452 : WF 219 1868698 cX452 := ⟨rfl, by decide, wcX451⟩
def cX453 : List (Nat × Nat × Nat × Nat) := (1, 216, 5, 218) :: cX452
theorem wcX453 : WF 219 1868698 cX453 := ⟨by decide, wcX452⟩
def cX454 : List (Nat × Nat × Nat × Nat) := (0, 0, 200, 219) :: cX453
theorem wcX454 : WF 220 1868898 cX454 := ⟨rfl, by decide, wcX453⟩
def cX455 : List (Nat × Nat × Nat × Nat) := (1, 216, 6, 219) :: cX454
theorem wcX455 : WF 220 1868898 cX455 := ⟨by decide, wcX454⟩
def cX456 : List (Nat × Nat × Nat × Nat) := (0, 0, 200, 220) :: cX455
theorem wcX456 : WF 221 1869098 cX456 := ⟨rfl, by decide, wcX455⟩
def cX457 : List (Nat × Nat × Nat × Nat) := (1, 216, 7, 220) :: cX456
theorem wcX457 : WF 221 1869098 cX457 := ⟨by decide, wcX456⟩
def cX458 : List (Nat × Nat × Nat × Nat) := (0, 0, 200, 221) :: cX457
theorem wcX458 : WF 222 1869298 cX458 := ⟨rfl, by decide, wcX457⟩
def cX459 : List (Nat × Nat × Nat × Nat) := (1, 216, 8, 221) :: cX458
theorem wcX459 : WF 222 1869298 cX459 := ⟨by decide, wcX458⟩
def cX460 : List (Nat × Nat × Nat × Nat) := (0, 4, 200, 222) :: cX459
theorem wcX460 : WF 223 1869498 cX460 := ⟨rfl, by decide, wcX459⟩
def cX461 : List (Nat × Nat × Nat × Nat) := (1, 216, 9, 222) :: cX460
theorem wcX461 : WF 223 1869498 cX461 := ⟨by decide, wcX460⟩
def cX462 : List (Nat × Nat × Nat × Nat) := (0, 0, 200, 223) :: cX461
theorem wcX462 : WF 224 1869698 cX462 := ⟨rfl, by decide, wcX461⟩
def cX463 : List (Nat × Nat × Nat × Nat) := (1, 216, 10, 223) :: cX462
theorem wcX463 : WF 224 1869698 cX463 := ⟨by decide, wcX462⟩
def cX464 : List (Nat × Nat × Nat × Nat) := (0, 0, 200, 224) :: cX463
theorem wcX464 : WF 225 1869898 cX464 := ⟨rfl, by decide, wcX463⟩
def cX465 : List (Nat × Nat × Nat × Nat) := (1, 216, 11, 224) :: cX464
theorem wcX465 : WF 225 1869898 cX465 := ⟨by decide, wcX464⟩
def cX466 : List (Nat × Nat × Nat × Nat) := (0, 0, 200, 225) :: cX465
theorem wcX466 : WF 226 1870098 cX466 := ⟨rfl, by decide, wcX465⟩
def cX467 : List (Nat × Nat × Nat × Nat) := (1, 216, 12, 225) :: cX466
theorem wcX467 : WF 226 1870098 cX467 := ⟨by decide, wcX466⟩
def cX468 : List (Nat × Nat × Nat × Nat) := (0, 0, 200, 226) :: cX467
theorem wcX468 : WF 227 1870298 cX468 := ⟨rfl, by decide, wcX467⟩
def cX469 : List (Nat × Nat × Nat × Nat) := (1, 216, 13, 226) :: cX468
theorem wcX469 : WF 227 1870298 cX469 := ⟨by decide, wcX468⟩
def cX470 : List (Nat × Nat × Nat × Nat) := (0, 4, 200, 227) :: cX469
theorem wcX470 : WF 228 1870498 cX470 := ⟨rfl, by decide, wcX469⟩
def cX471 : List (Nat × Nat × Nat × Nat) := (1, 216, 14, 227) :: cX470
theorem wcX471 : WF 228 1870498 cX471 := ⟨by decide, wcX470⟩
def cX472 : List (Nat × Nat × Nat × Nat) := (0, 4, 200, 228) :: cX471
theorem wcX472 : WF 229 1870698 cX472 := ⟨rfl, by decide, wcX471⟩
def cX473 : List (Nat × Nat × Nat × Nat) := (1, 216, 15, 228) :: cX472
theorem wcX473 : WF 229 1870698 cX473 := ⟨by decide, wcX472⟩
def cX474 : List (Nat × Nat × Nat × Nat) := (0, 4, 200, 229) :: cX473
theorem wcX474 : WF 230 1870898 cX474 := ⟨rfl, by decide, wcX473⟩
def cX475 : List (Nat × Nat × Nat × Nat) := (1, 216, 16, 229) :: cX474
theorem wcX475 : WF 230 1870898 cX475 := ⟨by decide, wcX474⟩
theorem ct_X0_11_1 {E : XE} {d : Nat} (hd : 2 ≤ d) : CC E mX3_init d [aO 216] (crun cX449 e00) (RV (fun τ => τ = crun cX475 e00)) := by
  refine v_aload_n 0 DX3_init_0 rfl rfl ?_
  refine v_objInit DX3_init_1 q717 q309 q310 (by omega) (by decide) ?_
  refine v_aload_n 0 DX3_init_4 rfl rfl ?_
  refine v_sipush DX3_init_5 (by decide) ?_
  refine v_newa (t := 1) (z := 400) DX3_init_8 rfl (by decide) q336 rfl (by decide) (cn_ok wcX449 (by decide)) (cz_ok wcX449 (by decide)) ?_
  rw [cnn wcX449]
  show VV E mX3_init d 10 _ _ (crun cX450 e00) _
  refine v_putR (ci := 3) (kf := 0) (z := 17) DX3_init_10 (csh wcX450 (by decide +kernel)) rfl (by decide) (Or.inr (Or.inr ⟨rfl, rfl, rfl, q718⟩)) (fun _ _ => rfl) rfl rfl (Or.inr (cR wcX450 (by decide +kernel))) ?_
  show VV E mX3_init d 13 _ _ (crun cX451 e00) _
  refine v_aload_n 0 DX3_init_13 rfl rfl ?_
  refine v_sipush DX3_init_14 (by decide) ?_
  refine v_newa (t := 0) (z := 200) DX3_init_17 rfl (by decide) q337 rfl (by decide) (cn_ok wcX451 (by decide)) (cz_ok wcX451 (by decide)) ?_
  rw [cnn wcX451]
  show VV E mX3_init d 19 _ _ (crun cX452 e00) _
  refine v_putR (ci := 3) (kf := 5) (z := 17) DX3_init_19 (csh wcX452 (by decide +kernel)) rfl (by decide) (Or.inr (Or.inr ⟨rfl, rfl, rfl, q734⟩)) (fun _ _ => rfl) rfl rfl (Or.inr (cR wcX452 (by decide +kernel))) ?_
  show VV E mX3_init d 22 _ _ (crun cX453 e00) _
  refine v_aload_n 0 DX3_init_22 rfl rfl ?_
  refine v_sipush DX3_init_23 (by decide) ?_
  refine v_newa (t := 0) (z := 200) DX3_init_26 rfl (by decide) q337 rfl (by decide) (cn_ok wcX453 (by decide)) (cz_ok wcX453 (by decide)) ?_
  rw [cnn wcX453]
  show VV E mX3_init d 28 _ _ (crun cX454 e00) _
  refine v_putR (ci := 3) (kf := 6) (z := 17) DX3_init_28 (csh wcX454 (by decide +kernel)) rfl (by decide) (Or.inr (Or.inr ⟨rfl, rfl, rfl, q737⟩)) (fun _ _ => rfl) rfl rfl (Or.inr (cR wcX454 (by decide +kernel))) ?_
  show VV E mX3_init d 31 _ _ (crun cX455 e00) _
  refine v_aload_n 0 DX3_init_31 rfl rfl ?_
  refine v_sipush DX3_init_32 (by decide) ?_
  refine v_newa (t := 0) (z := 200) DX3_init_35 rfl (by decide) q337 rfl (by decide) (cn_ok wcX455 (by decide)) (cz_ok wcX455 (by decide)) ?_
  rw [cnn wcX455]
  show VV E mX3_init d 37 _ _ (crun cX456 e00) _
  refine v_putR (ci := 3) (kf := 7) (z := 17) DX3_init_37 (csh wcX456 (by decide +kernel)) rfl (by decide) (Or.inr (Or.inr ⟨rfl, rfl, rfl, q740⟩)) (fun _ _ => rfl) rfl rfl (Or.inr (cR wcX456 (by decide +kernel))) ?_
  show VV E mX3_init d 40 _ _ (crun cX457 e00) _
  refine v_aload_n 0 DX3_init_40 rfl rfl ?_
  refine v_sipush DX3_init_41 (by decide) ?_
  refine v_newa (t := 0) (z := 200) DX3_init_44 rfl (by decide) q337 rfl (by decide) (cn_ok wcX457 (by decide)) (cz_ok wcX457 (by decide)) ?_
  rw [cnn wcX457]
  show VV E mX3_init d 46 _ _ (crun cX458 e00) _
  refine v_putR (ci := 3) (kf := 8) (z := 17) DX3_init_46 (csh wcX458 (by decide +kernel)) rfl (by decide) (Or.inr (Or.inr ⟨rfl, rfl, rfl, q743⟩)) (fun _ _ => rfl) rfl rfl (Or.inr (cR wcX458 (by decide +kernel))) ?_
  show VV E mX3_init d 49 _ _ (crun cX459 e00) _
  refine v_aload_n 0 DX3_init_49 rfl rfl ?_
  refine v_sipush DX3_init_50 (by decide) ?_
  refine v_newa (t := 4) (z := 200) DX3_init_53 rfl (by decide) q806 rfl (by decide) (cn_ok wcX459 (by decide)) (cz_ok wcX459 (by decide)) ?_
  rw [cnn wcX459]
  show VV E mX3_init d 55 _ _ (crun cX460 e00) _
  refine v_putR (ci := 3) (kf := 9) (z := 17) DX3_init_55 (csh wcX460 (by decide +kernel)) rfl (by decide) (Or.inr (Or.inr ⟨rfl, rfl, rfl, q746⟩)) (fun _ _ => rfl) rfl rfl (Or.inr (cR wcX460 (by decide +kernel))) ?_
  show VV E mX3_init d 58 _ _ (crun cX461 e00) _
  refine v_aload_n 0 DX3_init_58 rfl rfl ?_
  refine v_sipush DX3_init_59 (by decide) ?_
  refine v_newa (t := 0) (z := 200) DX3_init_62 rfl (by decide) q337 rfl (by decide) (cn_ok wcX461 (by decide)) (cz_ok wcX461 (by decide)) ?_
  rw [cnn wcX461]
  show VV E mX3_init d 64 _ _ (crun cX462 e00) _
  refine v_putR (ci := 3) (kf := 10) (z := 17) DX3_init_64 (csh wcX462 (by decide +kernel)) rfl (by decide) (Or.inr (Or.inr ⟨rfl, rfl, rfl, q749⟩)) (fun _ _ => rfl) rfl rfl (Or.inr (cR wcX462 (by decide +kernel))) ?_
  show VV E mX3_init d 67 _ _ (crun cX463 e00) _
  refine v_aload_n 0 DX3_init_67 rfl rfl ?_
  refine v_sipush DX3_init_68 (by decide) ?_
  refine v_newa (t := 0) (z := 200) DX3_init_71 rfl (by decide) q337 rfl (by decide) (cn_ok wcX463 (by decide)) (cz_ok wcX463 (by decide)) ?_
  rw [cnn wcX463]
  show VV E mX3_init d 73 _ _ (crun cX464 e00) _
  refine v_putR (ci := 3) (kf := 11) (z := 17) DX3_init_73 (csh wcX464 (by decide +kernel)) rfl (by decide) (Or.inr (Or.inr ⟨rfl, rfl, rfl, q752⟩)) (fun _ _ => rfl) rfl rfl (Or.inr (cR wcX464 (by decide +kernel))) ?_
  show VV E mX3_init d 76 _ _ (crun cX465 e00) _
  refine v_aload_n 0 DX3_init_76 rfl rfl ?_
  refine v_sipush DX3_init_77 (by decide) ?_
  refine v_newa (t := 0) (z := 200) DX3_init_80 rfl (by decide) q337 rfl (by decide) (cn_ok wcX465 (by decide)) (cz_ok wcX465 (by decide)) ?_
  rw [cnn wcX465]
  show VV E mX3_init d 82 _ _ (crun cX466 e00) _
  refine v_putR (ci := 3) (kf := 12) (z := 17) DX3_init_82 (csh wcX466 (by decide +kernel)) rfl (by decide) (Or.inr (Or.inr ⟨rfl, rfl, rfl, q755⟩)) (fun _ _ => rfl) rfl rfl (Or.inr (cR wcX466 (by decide +kernel))) ?_
  show VV E mX3_init d 85 _ _ (crun cX467 e00) _
  refine v_aload_n 0 DX3_init_85 rfl rfl ?_
  refine v_sipush DX3_init_86 (by decide) ?_
  refine v_newa (t := 0) (z := 200) DX3_init_89 rfl (by decide) q337 rfl (by decide) (cn_ok wcX467 (by decide)) (cz_ok wcX467 (by decide)) ?_
  rw [cnn wcX467]
  show VV E mX3_init d 91 _ _ (crun cX468 e00) _
  refine v_putR (ci := 3) (kf := 13) (z := 17) DX3_init_91 (csh wcX468 (by decide +kernel)) rfl (by decide) (Or.inr (Or.inr ⟨rfl, rfl, rfl, q758⟩)) (fun _ _ => rfl) rfl rfl (Or.inr (cR wcX468 (by decide +kernel))) ?_
  show VV E mX3_init d 94 _ _ (crun cX469 e00) _
  refine v_aload_n 0 DX3_init_94 rfl rfl ?_
  refine v_sipush DX3_init_95 (by decide) ?_
  refine v_newa (t := 4) (z := 200) DX3_init_98 rfl (by decide) q806 rfl (by decide) (cn_ok wcX469 (by decide)) (cz_ok wcX469 (by decide)) ?_
  rw [cnn wcX469]
  show VV E mX3_init d 100 _ _ (crun cX470 e00) _
  refine v_putR (ci := 3) (kf := 14) (z := 17) DX3_init_100 (csh wcX470 (by decide +kernel)) rfl (by decide) (Or.inr (Or.inr ⟨rfl, rfl, rfl, q761⟩)) (fun _ _ => rfl) rfl rfl (Or.inr (cR wcX470 (by decide +kernel))) ?_
  show VV E mX3_init d 103 _ _ (crun cX471 e00) _
  refine v_aload_n 0 DX3_init_103 rfl rfl ?_
  refine v_sipush DX3_init_104 (by decide) ?_
  refine v_newa (t := 4) (z := 200) DX3_init_107 rfl (by decide) q806 rfl (by decide) (cn_ok wcX471 (by decide)) (cz_ok wcX471 (by decide)) ?_
  rw [cnn wcX471]
  show VV E mX3_init d 109 _ _ (crun cX472 e00) _
  refine v_putR (ci := 3) (kf := 15) (z := 17) DX3_init_109 (csh wcX472 (by decide +kernel)) rfl (by decide) (Or.inr (Or.inr ⟨rfl, rfl, rfl, q764⟩)) (fun _ _ => rfl) rfl rfl (Or.inr (cR wcX472 (by decide +kernel))) ?_
  show VV E mX3_init d 112 _ _ (crun cX473 e00) _
  refine v_aload_n 0 DX3_init_112 rfl rfl ?_
  refine v_sipush DX3_init_113 (by decide) ?_
  refine v_newa (t := 4) (z := 200) DX3_init_116 rfl (by decide) q806 rfl (by decide) (cn_ok wcX473 (by decide)) (cz_ok wcX473 (by decide)) ?_
  rw [cnn wcX473]
  show VV E mX3_init d 118 _ _ (crun cX474 e00) _
  refine v_putR (ci := 3) (kf := 16) (z := 17) DX3_init_118 (csh wcX474 (by decide +kernel)) rfl (by decide) (Or.inr (Or.inr ⟨rfl, rfl, rfl, q767⟩)) (fun _ _ => rfl) rfl rfl (Or.inr (cR wcX474 (by decide +kernel))) ?_
  show VV E mX3_init d 121 _ _ (crun cX475 e00) _
  exact v_vret DX3_init_121 rfl (RV_mk rfl)
def cX476 : List (Nat × Nat × Nat × Nat) := (1, 215, 0, 216) :: cX475
theorem wcX476 : WF 230 1870898 cX476 := ⟨by decide, wcX475⟩
theorem ct_X0_11 {E : XE} {d : Nat} (hd : 3 ≤ d) : CC E mX8_init d [aO 215] (crun cX448 e00) (RV (fun τ => τ = crun cX476 e00)) := by
  obtain ⟨d, rfl⟩ : ∃ e, d = e + 1 := ⟨d - 1, by omega⟩
  refine v_aload_n 0 DX8_init_0 rfl rfl ?_
  refine v_objInit DX8_init_1 q976 q309 q310 (by omega) (by decide) ?_
  refine v_aload_n 0 DX8_init_4 rfl rfl ?_
  refine v_new (ci := 3) (z := 17) DX8_init_5 rfl q977 q713 q256 (cn_ok wcX448 (by decide)) (cz_ok wcX448 (by decide)) ?_
  rw [cnn wcX448]
  show VV E mX8_init (d + 1) 8 _ _ (crun cX449 e00) _
  refine v_dup DX8_init_8 rfl ?_
  refine v_invI (as := []) (b := 216) (st := [aO 216, aO 215]) DX8_init_9 rfl okX3_init (Or.inr ⟨_, q978⟩) q715 q716 rfl npX3_init (ct_X0_11_1 (d := d) (by omega)) (Nat.le_of_ble_eq_true rfl) (Nat.le_refl _) (Nat.le_of_ble_eq_true rfl) (RV_ret (fun τ g e => ?_)) RV_thr
  subst e
  refine v_putR (ci := 8) (kf := 0) (z := 3) DX8_init_12 (csh wcX475 (by decide +kernel)) rfl (by decide) (Or.inr (Or.inr ⟨rfl, rfl, rfl, q979⟩)) (fun _ _ => rfl) rfl rfl (Or.inr (cR wcX475 (by decide +kernel))) ?_
  show VV E mX8_init (d + 1) 15 _ _ (crun cX476 e00) _
  exact v_vret DX8_init_15 rfl (RV_mk rfl)
def cX477 : List (Nat × Nat × Nat × Nat) := (1, 50, 0, 215) :: cX476
theorem wcX477 : WF 230 1870898 cX477 := ⟨by decide, wcX476⟩
def cX478 : List (Nat × Nat × Nat × Nat) := (0, 108, 3, 230) :: cX477
theorem wcX478 : WF 231 1870901 cX478 := ⟨rfl, by decide, wcX477⟩
def cX479 : List (Nat × Nat × Nat × Nat) := (0, 103, 17, 231) :: cX478
theorem wcX479 : WF 232 1870918 cX479 := ⟨rfl, by decide, wcX478⟩
def cX480 : List (Nat × Nat × Nat × Nat) := (0, 1, 400, 232) :: cX479
theorem wcX480 : WF 233 1871318 cX480 := ⟨rfl, by decide, wcX479⟩
def cX481 : List (Nat × Nat × Nat × Nat) := (1, 231, 0, 232) :: cX480
theorem wcX481 : WF 233 1871318 cX481 := ⟨by decide, wcX480⟩
def cX482 : List (Nat × Nat × Nat × Nat) := (0, 0, 200, 233) :: cX481
theorem wcX482 : WF 234 1871518 cX482 := ⟨rfl, by decide, wcX481⟩
def cX483 : List (Nat × Nat × Nat × Nat) := (1, 231, 5, 233) :: cX482
theorem wcX483 : WF 234 1871518 cX483 := ⟨by decide, wcX482⟩
def cX484 : List (Nat × Nat × Nat × Nat) := (0, 0, 200, 234) :: cX483
theorem wcX484 : WF 235 1871718 cX484 := ⟨rfl, by decide, wcX483⟩
def cX485 : List (Nat × Nat × Nat × Nat) := (1, 231, 6, 234) :: cX484
theorem wcX485 : WF 235 1871718 cX485 := ⟨by decide, wcX484⟩
def cX486 : List (Nat × Nat × Nat × Nat) := (0, 0, 200, 235) :: cX485
theorem wcX486 : WF 236 1871918 cX486 := ⟨rfl, by decide, wcX485⟩
def cX487 : List (Nat × Nat × Nat × Nat) := (1, 231, 7, 235) :: cX486
theorem wcX487 : WF 236 1871918 cX487 := ⟨by decide, wcX486⟩
def cX488 : List (Nat × Nat × Nat × Nat) := (0, 0, 200, 236) :: cX487
theorem wcX488 : WF 237 1872118 cX488 := ⟨rfl, by decide, wcX487⟩
def cX489 : List (Nat × Nat × Nat × Nat) := (1, 231, 8, 236) :: cX488
theorem wcX489 : WF 237 1872118 cX489 := ⟨by decide, wcX488⟩
def cX490 : List (Nat × Nat × Nat × Nat) := (0, 4, 200, 237) :: cX489
theorem wcX490 : WF 238 1872318 cX490 := ⟨rfl, by decide, wcX489⟩
def cX491 : List (Nat × Nat × Nat × Nat) := (1, 231, 9, 237) :: cX490
theorem wcX491 : WF 238 1872318 cX491 := ⟨by decide, wcX490⟩
def cX492 : List (Nat × Nat × Nat × Nat) := (0, 0, 200, 238) :: cX491
theorem wcX492 : WF 239 1872518 cX492 := ⟨rfl, by decide, wcX491⟩
def cX493 : List (Nat × Nat × Nat × Nat) := (1, 231, 10, 238) :: cX492
theorem wcX493 : WF 239 1872518 cX493 := ⟨by decide, wcX492⟩
def cX494 : List (Nat × Nat × Nat × Nat) := (0, 0, 200, 239) :: cX493
theorem wcX494 : WF 240 1872718 cX494 := ⟨rfl, by decide, wcX493⟩
def cX495 : List (Nat × Nat × Nat × Nat) := (1, 231, 11, 239) :: cX494
theorem wcX495 : WF 240 1872718 cX495 := ⟨by decide, wcX494⟩
def cX496 : List (Nat × Nat × Nat × Nat) := (0, 0, 200, 240) :: cX495
theorem wcX496 : WF 241 1872918 cX496 := ⟨rfl, by decide, wcX495⟩
def cX497 : List (Nat × Nat × Nat × Nat) := (1, 231, 12, 240) :: cX496
theorem wcX497 : WF 241 1872918 cX497 := ⟨by decide, wcX496⟩
def cX498 : List (Nat × Nat × Nat × Nat) := (0, 0, 200, 241) :: cX497
theorem wcX498 : WF 242 1873118 cX498 := ⟨rfl, by decide, wcX497⟩
def cX499 : List (Nat × Nat × Nat × Nat) := (1, 231, 13, 241) :: cX498
theorem wcX499 : WF 242 1873118 cX499 := ⟨by decide, wcX498⟩
def cX500 : List (Nat × Nat × Nat × Nat) := (0, 4, 200, 242) :: cX499
theorem wcX500 : WF 243 1873318 cX500 := ⟨rfl, by decide, wcX499⟩
def cX501 : List (Nat × Nat × Nat × Nat) := (1, 231, 14, 242) :: cX500
theorem wcX501 : WF 243 1873318 cX501 := ⟨by decide, wcX500⟩
def cX502 : List (Nat × Nat × Nat × Nat) := (0, 4, 200, 243) :: cX501
theorem wcX502 : WF 244 1873518 cX502 := ⟨rfl, by decide, wcX501⟩
def cX503 : List (Nat × Nat × Nat × Nat) := (1, 231, 15, 243) :: cX502
theorem wcX503 : WF 244 1873518 cX503 := ⟨by decide, wcX502⟩
def cX504 : List (Nat × Nat × Nat × Nat) := (0, 4, 200, 244) :: cX503
theorem wcX504 : WF 245 1873718 cX504 := ⟨rfl, by decide, wcX503⟩
def cX505 : List (Nat × Nat × Nat × Nat) := (1, 231, 16, 244) :: cX504
theorem wcX505 : WF 245 1873718 cX505 := ⟨by decide, wcX504⟩
theorem ct_X0_12_1 {E : XE} {d : Nat} (hd : 2 ≤ d) : CC E mX3_init d [aO 231] (crun cX479 e00) (RV (fun τ => τ = crun cX505 e00)) := by
  refine v_aload_n 0 DX3_init_0 rfl rfl ?_
  refine v_objInit DX3_init_1 q717 q309 q310 (by omega) (by decide) ?_
  refine v_aload_n 0 DX3_init_4 rfl rfl ?_
  refine v_sipush DX3_init_5 (by decide) ?_
  refine v_newa (t := 1) (z := 400) DX3_init_8 rfl (by decide) q336 rfl (by decide) (cn_ok wcX479 (by decide)) (cz_ok wcX479 (by decide)) ?_
  rw [cnn wcX479]
  show VV E mX3_init d 10 _ _ (crun cX480 e00) _
  refine v_putR (ci := 3) (kf := 0) (z := 17) DX3_init_10 (csh wcX480 (by decide +kernel)) rfl (by decide) (Or.inr (Or.inr ⟨rfl, rfl, rfl, q718⟩)) (fun _ _ => rfl) rfl rfl (Or.inr (cR wcX480 (by decide +kernel))) ?_
  show VV E mX3_init d 13 _ _ (crun cX481 e00) _
  refine v_aload_n 0 DX3_init_13 rfl rfl ?_
  refine v_sipush DX3_init_14 (by decide) ?_
  refine v_newa (t := 0) (z := 200) DX3_init_17 rfl (by decide) q337 rfl (by decide) (cn_ok wcX481 (by decide)) (cz_ok wcX481 (by decide)) ?_
  rw [cnn wcX481]
  show VV E mX3_init d 19 _ _ (crun cX482 e00) _
  refine v_putR (ci := 3) (kf := 5) (z := 17) DX3_init_19 (csh wcX482 (by decide +kernel)) rfl (by decide) (Or.inr (Or.inr ⟨rfl, rfl, rfl, q734⟩)) (fun _ _ => rfl) rfl rfl (Or.inr (cR wcX482 (by decide +kernel))) ?_
  show VV E mX3_init d 22 _ _ (crun cX483 e00) _
  refine v_aload_n 0 DX3_init_22 rfl rfl ?_
  refine v_sipush DX3_init_23 (by decide) ?_
  refine v_newa (t := 0) (z := 200) DX3_init_26 rfl (by decide) q337 rfl (by decide) (cn_ok wcX483 (by decide)) (cz_ok wcX483 (by decide)) ?_
  rw [cnn wcX483]
  show VV E mX3_init d 28 _ _ (crun cX484 e00) _
  refine v_putR (ci := 3) (kf := 6) (z := 17) DX3_init_28 (csh wcX484 (by decide +kernel)) rfl (by decide) (Or.inr (Or.inr ⟨rfl, rfl, rfl, q737⟩)) (fun _ _ => rfl) rfl rfl (Or.inr (cR wcX484 (by decide +kernel))) ?_
  show VV E mX3_init d 31 _ _ (crun cX485 e00) _
  refine v_aload_n 0 DX3_init_31 rfl rfl ?_
  refine v_sipush DX3_init_32 (by decide) ?_
  refine v_newa (t := 0) (z := 200) DX3_init_35 rfl (by decide) q337 rfl (by decide) (cn_ok wcX485 (by decide)) (cz_ok wcX485 (by decide)) ?_
  rw [cnn wcX485]
  show VV E mX3_init d 37 _ _ (crun cX486 e00) _
  refine v_putR (ci := 3) (kf := 7) (z := 17) DX3_init_37 (csh wcX486 (by decide +kernel)) rfl (by decide) (Or.inr (Or.inr ⟨rfl, rfl, rfl, q740⟩)) (fun _ _ => rfl) rfl rfl (Or.inr (cR wcX486 (by decide +kernel))) ?_
  show VV E mX3_init d 40 _ _ (crun cX487 e00) _
  refine v_aload_n 0 DX3_init_40 rfl rfl ?_
  refine v_sipush DX3_init_41 (by decide) ?_
  refine v_newa (t := 0) (z := 200) DX3_init_44 rfl (by decide) q337 rfl (by decide) (cn_ok wcX487 (by decide)) (cz_ok wcX487 (by decide)) ?_
  rw [cnn wcX487]
  show VV E mX3_init d 46 _ _ (crun cX488 e00) _
  refine v_putR (ci := 3) (kf := 8) (z := 17) DX3_init_46 (csh wcX488 (by decide +kernel)) rfl (by decide) (Or.inr (Or.inr ⟨rfl, rfl, rfl, q743⟩)) (fun _ _ => rfl) rfl rfl (Or.inr (cR wcX488 (by decide +kernel))) ?_
  show VV E mX3_init d 49 _ _ (crun cX489 e00) _
  refine v_aload_n 0 DX3_init_49 rfl rfl ?_
  refine v_sipush DX3_init_50 (by decide) ?_
  refine v_newa (t := 4) (z := 200) DX3_init_53 rfl (by decide) q806 rfl (by decide) (cn_ok wcX489 (by decide)) (cz_ok wcX489 (by decide)) ?_
  rw [cnn wcX489]
  show VV E mX3_init d 55 _ _ (crun cX490 e00) _
  refine v_putR (ci := 3) (kf := 9) (z := 17) DX3_init_55 (csh wcX490 (by decide +kernel)) rfl (by decide) (Or.inr (Or.inr ⟨rfl, rfl, rfl, q746⟩)) (fun _ _ => rfl) rfl rfl (Or.inr (cR wcX490 (by decide +kernel))) ?_
  show VV E mX3_init d 58 _ _ (crun cX491 e00) _
  refine v_aload_n 0 DX3_init_58 rfl rfl ?_
  refine v_sipush DX3_init_59 (by decide) ?_
  refine v_newa (t := 0) (z := 200) DX3_init_62 rfl (by decide) q337 rfl (by decide) (cn_ok wcX491 (by decide)) (cz_ok wcX491 (by decide)) ?_
  rw [cnn wcX491]
  show VV E mX3_init d 64 _ _ (crun cX492 e00) _
  refine v_putR (ci := 3) (kf := 10) (z := 17) DX3_init_64 (csh wcX492 (by decide +kernel)) rfl (by decide) (Or.inr (Or.inr ⟨rfl, rfl, rfl, q749⟩)) (fun _ _ => rfl) rfl rfl (Or.inr (cR wcX492 (by decide +kernel))) ?_
  show VV E mX3_init d 67 _ _ (crun cX493 e00) _
  refine v_aload_n 0 DX3_init_67 rfl rfl ?_
  refine v_sipush DX3_init_68 (by decide) ?_
  refine v_newa (t := 0) (z := 200) DX3_init_71 rfl (by decide) q337 rfl (by decide) (cn_ok wcX493 (by decide)) (cz_ok wcX493 (by decide)) ?_
  rw [cnn wcX493]
  show VV E mX3_init d 73 _ _ (crun cX494 e00) _
  refine v_putR (ci := 3) (kf := 11) (z := 17) DX3_init_73 (csh wcX494 (by decide +kernel)) rfl (by decide) (Or.inr (Or.inr ⟨rfl, rfl, rfl, q752⟩)) (fun _ _ => rfl) rfl rfl (Or.inr (cR wcX494 (by decide +kernel))) ?_
  show VV E mX3_init d 76 _ _ (crun cX495 e00) _
  refine v_aload_n 0 DX3_init_76 rfl rfl ?_
  refine v_sipush DX3_init_77 (by decide) ?_
  refine v_newa (t := 0) (z := 200) DX3_init_80 rfl (by decide) q337 rfl (by decide) (cn_ok wcX495 (by decide)) (cz_ok wcX495 (by decide)) ?_
  rw [cnn wcX495]
  show VV E mX3_init d 82 _ _ (crun cX496 e00) _
  refine v_putR (ci := 3) (kf := 12) (z := 17) DX3_init_82 (csh wcX496 (by decide +kernel)) rfl (by decide) (Or.inr (Or.inr ⟨rfl, rfl, rfl, q755⟩)) (fun _ _ => rfl) rfl rfl (Or.inr (cR wcX496 (by decide +kernel))) ?_
  show VV E mX3_init d 85 _ _ (crun cX497 e00) _
  refine v_aload_n 0 DX3_init_85 rfl rfl ?_
  refine v_sipush DX3_init_86 (by decide) ?_
  refine v_newa (t := 0) (z := 200) DX3_init_89 rfl (by decide) q337 rfl (by decide) (cn_ok wcX497 (by decide)) (cz_ok wcX497 (by decide)) ?_
  rw [cnn wcX497]
  show VV E mX3_init d 91 _ _ (crun cX498 e00) _
  refine v_putR (ci := 3) (kf := 13) (z := 17) DX3_init_91 (csh wcX498 (by decide +kernel)) rfl (by decide) (Or.inr (Or.inr ⟨rfl, rfl, rfl, q758⟩)) (fun _ _ => rfl) rfl rfl (Or.inr (cR wcX498 (by decide +kernel))) ?_
  show VV E mX3_init d 94 _ _ (crun cX499 e00) _
  refine v_aload_n 0 DX3_init_94 rfl rfl ?_
  refine v_sipush DX3_init_95 (by decide) ?_
  refine v_newa (t := 4) (z := 200) DX3_init_98 rfl (by decide) q806 rfl (by decide) (cn_ok wcX499 (by decide)) (cz_ok wcX499 (by decide)) ?_
  rw [cnn wcX499]
  show VV E mX3_init d 100 _ _ (crun cX500 e00) _
  refine v_putR (ci := 3) (kf := 14) (z := 17) DX3_init_100 (csh wcX500 (by decide +kernel)) rfl (by decide) (Or.inr (Or.inr ⟨rfl, rfl, rfl, q761⟩)) (fun _ _ => rfl) rfl rfl (Or.inr (cR wcX500 (by decide +kernel))) ?_
  show VV E mX3_init d 103 _ _ (crun cX501 e00) _
  refine v_aload_n 0 DX3_init_103 rfl rfl ?_
  refine v_sipush DX3_init_104 (by decide) ?_
  refine v_newa (t := 4) (z := 200) DX3_init_107 rfl (by decide) q806 rfl (by decide) (cn_ok wcX501 (by decide)) (cz_ok wcX501 (by decide)) ?_
  rw [cnn wcX501]
  show VV E mX3_init d 109 _ _ (crun cX502 e00) _
  refine v_putR (ci := 3) (kf := 15) (z := 17) DX3_init_109 (csh wcX502 (by decide +kernel)) rfl (by decide) (Or.inr (Or.inr ⟨rfl, rfl, rfl, q764⟩)) (fun _ _ => rfl) rfl rfl (Or.inr (cR wcX502 (by decide +kernel))) ?_
  show VV E mX3_init d 112 _ _ (crun cX503 e00) _
  refine v_aload_n 0 DX3_init_112 rfl rfl ?_
  refine v_sipush DX3_init_113 (by decide) ?_
  refine v_newa (t := 4) (z := 200) DX3_init_116 rfl (by decide) q806 rfl (by decide) (cn_ok wcX503 (by decide)) (cz_ok wcX503 (by decide)) ?_
  rw [cnn wcX503]
  show VV E mX3_init d 118 _ _ (crun cX504 e00) _
  refine v_putR (ci := 3) (kf := 16) (z := 17) DX3_init_118 (csh wcX504 (by decide +kernel)) rfl (by decide) (Or.inr (Or.inr ⟨rfl, rfl, rfl, q767⟩)) (fun _ _ => rfl) rfl rfl (Or.inr (cR wcX504 (by decide +kernel))) ?_
  show VV E mX3_init d 121 _ _ (crun cX505 e00) _
  exact v_vret DX3_init_121 rfl (RV_mk rfl)
def cX506 : List (Nat × Nat × Nat × Nat) := (1, 230, 0, 231) :: cX505
theorem wcX506 : WF 245 1873718 cX506 := ⟨by decide, wcX505⟩
theorem ct_X0_12 {E : XE} {d : Nat} (hd : 3 ≤ d) : CC E mX8_init d [aO 230] (crun cX478 e00) (RV (fun τ => τ = crun cX506 e00)) := by
  obtain ⟨d, rfl⟩ : ∃ e, d = e + 1 := ⟨d - 1, by omega⟩
  refine v_aload_n 0 DX8_init_0 rfl rfl ?_
  refine v_objInit DX8_init_1 q976 q309 q310 (by omega) (by decide) ?_
  refine v_aload_n 0 DX8_init_4 rfl rfl ?_
  refine v_new (ci := 3) (z := 17) DX8_init_5 rfl q977 q713 q256 (cn_ok wcX478 (by decide)) (cz_ok wcX478 (by decide)) ?_
  rw [cnn wcX478]
  show VV E mX8_init (d + 1) 8 _ _ (crun cX479 e00) _
  refine v_dup DX8_init_8 rfl ?_
  refine v_invI (as := []) (b := 231) (st := [aO 231, aO 230]) DX8_init_9 rfl okX3_init (Or.inr ⟨_, q978⟩) q715 q716 rfl npX3_init (ct_X0_12_1 (d := d) (by omega)) (Nat.le_of_ble_eq_true rfl) (Nat.le_refl _) (Nat.le_of_ble_eq_true rfl) (RV_ret (fun τ g e => ?_)) RV_thr
  subst e
  refine v_putR (ci := 8) (kf := 0) (z := 3) DX8_init_12 (csh wcX505 (by decide +kernel)) rfl (by decide) (Or.inr (Or.inr ⟨rfl, rfl, rfl, q979⟩)) (fun _ _ => rfl) rfl rfl (Or.inr (cR wcX505 (by decide +kernel))) ?_
  show VV E mX8_init (d + 1) 15 _ _ (crun cX506 e00) _
  exact v_vret DX8_init_15 rfl (RV_mk rfl)
def cX507 : List (Nat × Nat × Nat × Nat) := (1, 50, 1, 230) :: cX506
theorem wcX507 : WF 245 1873718 cX507 := ⟨by decide, wcX506⟩
def cX508 : List (Nat × Nat × Nat × Nat) := (0, 108, 3, 245) :: cX507
theorem wcX508 : WF 246 1873721 cX508 := ⟨rfl, by decide, wcX507⟩
def cX509 : List (Nat × Nat × Nat × Nat) := (0, 103, 17, 246) :: cX508
theorem wcX509 : WF 247 1873738 cX509 := ⟨rfl, by decide, wcX508⟩
def cX510 : List (Nat × Nat × Nat × Nat) := (0, 1, 400, 247) :: cX509
theorem wcX510 : WF 248 1874138 cX510 := ⟨rfl, by decide, wcX509⟩
def cX511 : List (Nat × Nat × Nat × Nat) := (1, 246, 0, 247) :: cX510
theorem wcX511 : WF 248 1874138 cX511 := ⟨by decide, wcX510⟩
def cX512 : List (Nat × Nat × Nat × Nat) := (0, 0, 200, 248) :: cX511
theorem wcX512 : WF 249 1874338 cX512 := ⟨rfl, by decide, wcX511⟩
def cX513 : List (Nat × Nat × Nat × Nat) := (1, 246, 5, 248) :: cX512
theorem wcX513 : WF 249 1874338 cX513 := ⟨by decide, wcX512⟩
def cX514 : List (Nat × Nat × Nat × Nat) := (0, 0, 200, 249) :: cX513
theorem wcX514 : WF 250 1874538 cX514 := ⟨rfl, by decide, wcX513⟩
def cX515 : List (Nat × Nat × Nat × Nat) := (1, 246, 6, 249) :: cX514
theorem wcX515 : WF 250 1874538 cX515 := ⟨by decide, wcX514⟩
def cX516 : List (Nat × Nat × Nat × Nat) := (0, 0, 200, 250) :: cX515
theorem wcX516 : WF 251 1874738 cX516 := ⟨rfl, by decide, wcX515⟩
def cX517 : List (Nat × Nat × Nat × Nat) := (1, 246, 7, 250) :: cX516
theorem wcX517 : WF 251 1874738 cX517 := ⟨by decide, wcX516⟩
def cX518 : List (Nat × Nat × Nat × Nat) := (0, 0, 200, 251) :: cX517
theorem wcX518 : WF 252 1874938 cX518 := ⟨rfl, by decide, wcX517⟩
def cX519 : List (Nat × Nat × Nat × Nat) := (1, 246, 8, 251) :: cX518
theorem wcX519 : WF 252 1874938 cX519 := ⟨by decide, wcX518⟩
def cX520 : List (Nat × Nat × Nat × Nat) := (0, 4, 200, 252) :: cX519
theorem wcX520 : WF 253 1875138 cX520 := ⟨rfl, by decide, wcX519⟩
def cX521 : List (Nat × Nat × Nat × Nat) := (1, 246, 9, 252) :: cX520
theorem wcX521 : WF 253 1875138 cX521 := ⟨by decide, wcX520⟩
def cX522 : List (Nat × Nat × Nat × Nat) := (0, 0, 200, 253) :: cX521
theorem wcX522 : WF 254 1875338 cX522 := ⟨rfl, by decide, wcX521⟩
def cX523 : List (Nat × Nat × Nat × Nat) := (1, 246, 10, 253) :: cX522
theorem wcX523 : WF 254 1875338 cX523 := ⟨by decide, wcX522⟩
def cX524 : List (Nat × Nat × Nat × Nat) := (0, 0, 200, 254) :: cX523
theorem wcX524 : WF 255 1875538 cX524 := ⟨rfl, by decide, wcX523⟩
def cX525 : List (Nat × Nat × Nat × Nat) := (1, 246, 11, 254) :: cX524
theorem wcX525 : WF 255 1875538 cX525 := ⟨by decide, wcX524⟩
def cX526 : List (Nat × Nat × Nat × Nat) := (0, 0, 200, 255) :: cX525
theorem wcX526 : WF 256 1875738 cX526 := ⟨rfl, by decide, wcX525⟩
def cX527 : List (Nat × Nat × Nat × Nat) := (1, 246, 12, 255) :: cX526
theorem wcX527 : WF 256 1875738 cX527 := ⟨by decide, wcX526⟩
def cX528 : List (Nat × Nat × Nat × Nat) := (0, 0, 200, 256) :: cX527
theorem wcX528 : WF 257 1875938 cX528 := ⟨rfl, by decide, wcX527⟩
def cX529 : List (Nat × Nat × Nat × Nat) := (1, 246, 13, 256) :: cX528
theorem wcX529 : WF 257 1875938 cX529 := ⟨by decide, wcX528⟩
def cX530 : List (Nat × Nat × Nat × Nat) := (0, 4, 200, 257) :: cX529
theorem wcX530 : WF 258 1876138 cX530 := ⟨rfl, by decide, wcX529⟩
def cX531 : List (Nat × Nat × Nat × Nat) := (1, 246, 14, 257) :: cX530
theorem wcX531 : WF 258 1876138 cX531 := ⟨by decide, wcX530⟩
def cX532 : List (Nat × Nat × Nat × Nat) := (0, 4, 200, 258) :: cX531
theorem wcX532 : WF 259 1876338 cX532 := ⟨rfl, by decide, wcX531⟩
def cX533 : List (Nat × Nat × Nat × Nat) := (1, 246, 15, 258) :: cX532
theorem wcX533 : WF 259 1876338 cX533 := ⟨by decide, wcX532⟩
def cX534 : List (Nat × Nat × Nat × Nat) := (0, 4, 200, 259) :: cX533
theorem wcX534 : WF 260 1876538 cX534 := ⟨rfl, by decide, wcX533⟩
def cX535 : List (Nat × Nat × Nat × Nat) := (1, 246, 16, 259) :: cX534
theorem wcX535 : WF 260 1876538 cX535 := ⟨by decide, wcX534⟩
theorem ct_X0_13_1 {E : XE} {d : Nat} (hd : 2 ≤ d) : CC E mX3_init d [aO 246] (crun cX509 e00) (RV (fun τ => τ = crun cX535 e00)) := by
  refine v_aload_n 0 DX3_init_0 rfl rfl ?_
  refine v_objInit DX3_init_1 q717 q309 q310 (by omega) (by decide) ?_
  refine v_aload_n 0 DX3_init_4 rfl rfl ?_
  refine v_sipush DX3_init_5 (by decide) ?_
  refine v_newa (t := 1) (z := 400) DX3_init_8 rfl (by decide) q336 rfl (by decide) (cn_ok wcX509 (by decide)) (cz_ok wcX509 (by decide)) ?_
  rw [cnn wcX509]
  show VV E mX3_init d 10 _ _ (crun cX510 e00) _
  refine v_putR (ci := 3) (kf := 0) (z := 17) DX3_init_10 (csh wcX510 (by decide +kernel)) rfl (by decide) (Or.inr (Or.inr ⟨rfl, rfl, rfl, q718⟩)) (fun _ _ => rfl) rfl rfl (Or.inr (cR wcX510 (by decide +kernel))) ?_
  show VV E mX3_init d 13 _ _ (crun cX511 e00) _
  refine v_aload_n 0 DX3_init_13 rfl rfl ?_
  refine v_sipush DX3_init_14 (by decide) ?_
  refine v_newa (t := 0) (z := 200) DX3_init_17 rfl (by decide) q337 rfl (by decide) (cn_ok wcX511 (by decide)) (cz_ok wcX511 (by decide)) ?_
  rw [cnn wcX511]
  show VV E mX3_init d 19 _ _ (crun cX512 e00) _
  refine v_putR (ci := 3) (kf := 5) (z := 17) DX3_init_19 (csh wcX512 (by decide +kernel)) rfl (by decide) (Or.inr (Or.inr ⟨rfl, rfl, rfl, q734⟩)) (fun _ _ => rfl) rfl rfl (Or.inr (cR wcX512 (by decide +kernel))) ?_
  show VV E mX3_init d 22 _ _ (crun cX513 e00) _
  refine v_aload_n 0 DX3_init_22 rfl rfl ?_
  refine v_sipush DX3_init_23 (by decide) ?_
  refine v_newa (t := 0) (z := 200) DX3_init_26 rfl (by decide) q337 rfl (by decide) (cn_ok wcX513 (by decide)) (cz_ok wcX513 (by decide)) ?_
  rw [cnn wcX513]
  show VV E mX3_init d 28 _ _ (crun cX514 e00) _
  refine v_putR (ci := 3) (kf := 6) (z := 17) DX3_init_28 (csh wcX514 (by decide +kernel)) rfl (by decide) (Or.inr (Or.inr ⟨rfl, rfl, rfl, q737⟩)) (fun _ _ => rfl) rfl rfl (Or.inr (cR wcX514 (by decide +kernel))) ?_
  show VV E mX3_init d 31 _ _ (crun cX515 e00) _
  refine v_aload_n 0 DX3_init_31 rfl rfl ?_
  refine v_sipush DX3_init_32 (by decide) ?_
  refine v_newa (t := 0) (z := 200) DX3_init_35 rfl (by decide) q337 rfl (by decide) (cn_ok wcX515 (by decide)) (cz_ok wcX515 (by decide)) ?_
  rw [cnn wcX515]
  show VV E mX3_init d 37 _ _ (crun cX516 e00) _
  refine v_putR (ci := 3) (kf := 7) (z := 17) DX3_init_37 (csh wcX516 (by decide +kernel)) rfl (by decide) (Or.inr (Or.inr ⟨rfl, rfl, rfl, q740⟩)) (fun _ _ => rfl) rfl rfl (Or.inr (cR wcX516 (by decide +kernel))) ?_
  show VV E mX3_init d 40 _ _ (crun cX517 e00) _
  refine v_aload_n 0 DX3_init_40 rfl rfl ?_
  refine v_sipush DX3_init_41 (by decide) ?_
  refine v_newa (t := 0) (z := 200) DX3_init_44 rfl (by decide) q337 rfl (by decide) (cn_ok wcX517 (by decide)) (cz_ok wcX517 (by decide)) ?_
  rw [cnn wcX517]
  show VV E mX3_init d 46 _ _ (crun cX518 e00) _
  refine v_putR (ci := 3) (kf := 8) (z := 17) DX3_init_46 (csh wcX518 (by decide +kernel)) rfl (by decide) (Or.inr (Or.inr ⟨rfl, rfl, rfl, q743⟩)) (fun _ _ => rfl) rfl rfl (Or.inr (cR wcX518 (by decide +kernel))) ?_
  show VV E mX3_init d 49 _ _ (crun cX519 e00) _
  refine v_aload_n 0 DX3_init_49 rfl rfl ?_
  refine v_sipush DX3_init_50 (by decide) ?_
  refine v_newa (t := 4) (z := 200) DX3_init_53 rfl (by decide) q806 rfl (by decide) (cn_ok wcX519 (by decide)) (cz_ok wcX519 (by decide)) ?_
  rw [cnn wcX519]
  show VV E mX3_init d 55 _ _ (crun cX520 e00) _
  refine v_putR (ci := 3) (kf := 9) (z := 17) DX3_init_55 (csh wcX520 (by decide +kernel)) rfl (by decide) (Or.inr (Or.inr ⟨rfl, rfl, rfl, q746⟩)) (fun _ _ => rfl) rfl rfl (Or.inr (cR wcX520 (by decide +kernel))) ?_
  show VV E mX3_init d 58 _ _ (crun cX521 e00) _
  refine v_aload_n 0 DX3_init_58 rfl rfl ?_
  refine v_sipush DX3_init_59 (by decide) ?_
  refine v_newa (t := 0) (z := 200) DX3_init_62 rfl (by decide) q337 rfl (by decide) (cn_ok wcX521 (by decide)) (cz_ok wcX521 (by decide)) ?_
  rw [cnn wcX521]
  show VV E mX3_init d 64 _ _ (crun cX522 e00) _
  refine v_putR (ci := 3) (kf := 10) (z := 17) DX3_init_64 (csh wcX522 (by decide +kernel)) rfl (by decide) (Or.inr (Or.inr ⟨rfl, rfl, rfl, q749⟩)) (fun _ _ => rfl) rfl rfl (Or.inr (cR wcX522 (by decide +kernel))) ?_
  show VV E mX3_init d 67 _ _ (crun cX523 e00) _
  refine v_aload_n 0 DX3_init_67 rfl rfl ?_
  refine v_sipush DX3_init_68 (by decide) ?_
  refine v_newa (t := 0) (z := 200) DX3_init_71 rfl (by decide) q337 rfl (by decide) (cn_ok wcX523 (by decide)) (cz_ok wcX523 (by decide)) ?_
  rw [cnn wcX523]
  show VV E mX3_init d 73 _ _ (crun cX524 e00) _
  refine v_putR (ci := 3) (kf := 11) (z := 17) DX3_init_73 (csh wcX524 (by decide +kernel)) rfl (by decide) (Or.inr (Or.inr ⟨rfl, rfl, rfl, q752⟩)) (fun _ _ => rfl) rfl rfl (Or.inr (cR wcX524 (by decide +kernel))) ?_
  show VV E mX3_init d 76 _ _ (crun cX525 e00) _
  refine v_aload_n 0 DX3_init_76 rfl rfl ?_
  refine v_sipush DX3_init_77 (by decide) ?_
  refine v_newa (t := 0) (z := 200) DX3_init_80 rfl (by decide) q337 rfl (by decide) (cn_ok wcX525 (by decide)) (cz_ok wcX525 (by decide)) ?_
  rw [cnn wcX525]
  show VV E mX3_init d 82 _ _ (crun cX526 e00) _
  refine v_putR (ci := 3) (kf := 12) (z := 17) DX3_init_82 (csh wcX526 (by decide +kernel)) rfl (by decide) (Or.inr (Or.inr ⟨rfl, rfl, rfl, q755⟩)) (fun _ _ => rfl) rfl rfl (Or.inr (cR wcX526 (by decide +kernel))) ?_
  show VV E mX3_init d 85 _ _ (crun cX527 e00) _
  refine v_aload_n 0 DX3_init_85 rfl rfl ?_
  refine v_sipush DX3_init_86 (by decide) ?_
  refine v_newa (t := 0) (z := 200) DX3_init_89 rfl (by decide) q337 rfl (by decide) (cn_ok wcX527 (by decide)) (cz_ok wcX527 (by decide)) ?_
  rw [cnn wcX527]
  show VV E mX3_init d 91 _ _ (crun cX528 e00) _
  refine v_putR (ci := 3) (kf := 13) (z := 17) DX3_init_91 (csh wcX528 (by decide +kernel)) rfl (by decide) (Or.inr (Or.inr ⟨rfl, rfl, rfl, q758⟩)) (fun _ _ => rfl) rfl rfl (Or.inr (cR wcX528 (by decide +kernel))) ?_
  show VV E mX3_init d 94 _ _ (crun cX529 e00) _
  refine v_aload_n 0 DX3_init_94 rfl rfl ?_
  refine v_sipush DX3_init_95 (by decide) ?_
  refine v_newa (t := 4) (z := 200) DX3_init_98 rfl (by decide) q806 rfl (by decide) (cn_ok wcX529 (by decide)) (cz_ok wcX529 (by decide)) ?_
  rw [cnn wcX529]
  show VV E mX3_init d 100 _ _ (crun cX530 e00) _
  refine v_putR (ci := 3) (kf := 14) (z := 17) DX3_init_100 (csh wcX530 (by decide +kernel)) rfl (by decide) (Or.inr (Or.inr ⟨rfl, rfl, rfl, q761⟩)) (fun _ _ => rfl) rfl rfl (Or.inr (cR wcX530 (by decide +kernel))) ?_
  show VV E mX3_init d 103 _ _ (crun cX531 e00) _
  refine v_aload_n 0 DX3_init_103 rfl rfl ?_
  refine v_sipush DX3_init_104 (by decide) ?_
  refine v_newa (t := 4) (z := 200) DX3_init_107 rfl (by decide) q806 rfl (by decide) (cn_ok wcX531 (by decide)) (cz_ok wcX531 (by decide)) ?_
  rw [cnn wcX531]
  show VV E mX3_init d 109 _ _ (crun cX532 e00) _
  refine v_putR (ci := 3) (kf := 15) (z := 17) DX3_init_109 (csh wcX532 (by decide +kernel)) rfl (by decide) (Or.inr (Or.inr ⟨rfl, rfl, rfl, q764⟩)) (fun _ _ => rfl) rfl rfl (Or.inr (cR wcX532 (by decide +kernel))) ?_
  show VV E mX3_init d 112 _ _ (crun cX533 e00) _
  refine v_aload_n 0 DX3_init_112 rfl rfl ?_
  refine v_sipush DX3_init_113 (by decide) ?_
  refine v_newa (t := 4) (z := 200) DX3_init_116 rfl (by decide) q806 rfl (by decide) (cn_ok wcX533 (by decide)) (cz_ok wcX533 (by decide)) ?_
  rw [cnn wcX533]
  show VV E mX3_init d 118 _ _ (crun cX534 e00) _
  refine v_putR (ci := 3) (kf := 16) (z := 17) DX3_init_118 (csh wcX534 (by decide +kernel)) rfl (by decide) (Or.inr (Or.inr ⟨rfl, rfl, rfl, q767⟩)) (fun _ _ => rfl) rfl rfl (Or.inr (cR wcX534 (by decide +kernel))) ?_
  show VV E mX3_init d 121 _ _ (crun cX535 e00) _
  exact v_vret DX3_init_121 rfl (RV_mk rfl)
def cX536 : List (Nat × Nat × Nat × Nat) := (1, 245, 0, 246) :: cX535
theorem wcX536 : WF 260 1876538 cX536 := ⟨by decide, wcX535⟩
theorem ct_X0_13 {E : XE} {d : Nat} (hd : 3 ≤ d) : CC E mX8_init d [aO 245] (crun cX508 e00) (RV (fun τ => τ = crun cX536 e00)) := by
  obtain ⟨d, rfl⟩ : ∃ e, d = e + 1 := ⟨d - 1, by omega⟩
  refine v_aload_n 0 DX8_init_0 rfl rfl ?_
  refine v_objInit DX8_init_1 q976 q309 q310 (by omega) (by decide) ?_
  refine v_aload_n 0 DX8_init_4 rfl rfl ?_
  refine v_new (ci := 3) (z := 17) DX8_init_5 rfl q977 q713 q256 (cn_ok wcX508 (by decide)) (cz_ok wcX508 (by decide)) ?_
  rw [cnn wcX508]
  show VV E mX8_init (d + 1) 8 _ _ (crun cX509 e00) _
  refine v_dup DX8_init_8 rfl ?_
  refine v_invI (as := []) (b := 246) (st := [aO 246, aO 245]) DX8_init_9 rfl okX3_init (Or.inr ⟨_, q978⟩) q715 q716 rfl npX3_init (ct_X0_13_1 (d := d) (by omega)) (Nat.le_of_ble_eq_true rfl) (Nat.le_refl _) (Nat.le_of_ble_eq_true rfl) (RV_ret (fun τ g e => ?_)) RV_thr
  subst e
  refine v_putR (ci := 8) (kf := 0) (z := 3) DX8_init_12 (csh wcX535 (by decide +kernel)) rfl (by decide) (Or.inr (Or.inr ⟨rfl, rfl, rfl, q979⟩)) (fun _ _ => rfl) rfl rfl (Or.inr (cR wcX535 (by decide +kernel))) ?_
  show VV E mX8_init (d + 1) 15 _ _ (crun cX536 e00) _
  exact v_vret DX8_init_15 rfl (RV_mk rfl)
def cX537 : List (Nat × Nat × Nat × Nat) := (1, 50, 2, 245) :: cX536
theorem wcX537 : WF 260 1876538 cX537 := ⟨by decide, wcX536⟩
def cX538 : List (Nat × Nat × Nat × Nat) := (0, 108, 3, 260) :: cX537
theorem wcX538 : WF 261 1876541 cX538 := ⟨rfl, by decide, wcX537⟩
def cX539 : List (Nat × Nat × Nat × Nat) := (0, 103, 17, 261) :: cX538
theorem wcX539 : WF 262 1876558 cX539 := ⟨rfl, by decide, wcX538⟩
def cX540 : List (Nat × Nat × Nat × Nat) := (0, 1, 400, 262) :: cX539
theorem wcX540 : WF 263 1876958 cX540 := ⟨rfl, by decide, wcX539⟩
def cX541 : List (Nat × Nat × Nat × Nat) := (1, 261, 0, 262) :: cX540
theorem wcX541 : WF 263 1876958 cX541 := ⟨by decide, wcX540⟩
def cX542 : List (Nat × Nat × Nat × Nat) := (0, 0, 200, 263) :: cX541
theorem wcX542 : WF 264 1877158 cX542 := ⟨rfl, by decide, wcX541⟩
def cX543 : List (Nat × Nat × Nat × Nat) := (1, 261, 5, 263) :: cX542
theorem wcX543 : WF 264 1877158 cX543 := ⟨by decide, wcX542⟩
def cX544 : List (Nat × Nat × Nat × Nat) := (0, 0, 200, 264) :: cX543
theorem wcX544 : WF 265 1877358 cX544 := ⟨rfl, by decide, wcX543⟩
def cX545 : List (Nat × Nat × Nat × Nat) := (1, 261, 6, 264) :: cX544
theorem wcX545 : WF 265 1877358 cX545 := ⟨by decide, wcX544⟩
def cX546 : List (Nat × Nat × Nat × Nat) := (0, 0, 200, 265) :: cX545
theorem wcX546 : WF 266 1877558 cX546 := ⟨rfl, by decide, wcX545⟩
def cX547 : List (Nat × Nat × Nat × Nat) := (1, 261, 7, 265) :: cX546
theorem wcX547 : WF 266 1877558 cX547 := ⟨by decide, wcX546⟩
def cX548 : List (Nat × Nat × Nat × Nat) := (0, 0, 200, 266) :: cX547
theorem wcX548 : WF 267 1877758 cX548 := ⟨rfl, by decide, wcX547⟩
def cX549 : List (Nat × Nat × Nat × Nat) := (1, 261, 8, 266) :: cX548
theorem wcX549 : WF 267 1877758 cX549 := ⟨by decide, wcX548⟩
def cX550 : List (Nat × Nat × Nat × Nat) := (0, 4, 200, 267) :: cX549
theorem wcX550 : WF 268 1877958 cX550 := ⟨rfl, by decide, wcX549⟩
def cX551 : List (Nat × Nat × Nat × Nat) := (1, 261, 9, 267) :: cX550
theorem wcX551 : WF 268 1877958 cX551 := ⟨by decide, wcX550⟩
def cX552 : List (Nat × Nat × Nat × Nat) := (0, 0, 200, 268) :: cX551
theorem wcX552 : WF 269 1878158 cX552 := ⟨rfl, by decide, wcX551⟩
def cX553 : List (Nat × Nat × Nat × Nat) := (1, 261, 10, 268) :: cX552
theorem wcX553 : WF 269 1878158 cX553 := ⟨by decide, wcX552⟩
def cX554 : List (Nat × Nat × Nat × Nat) := (0, 0, 200, 269) :: cX553
theorem wcX554 : WF 270 1878358 cX554 := ⟨rfl, by decide, wcX553⟩
def cX555 : List (Nat × Nat × Nat × Nat) := (1, 261, 11, 269) :: cX554
theorem wcX555 : WF 270 1878358 cX555 := ⟨by decide, wcX554⟩
def cX556 : List (Nat × Nat × Nat × Nat) := (0, 0, 200, 270) :: cX555
theorem wcX556 : WF 271 1878558 cX556 := ⟨rfl, by decide, wcX555⟩
def cX557 : List (Nat × Nat × Nat × Nat) := (1, 261, 12, 270) :: cX556
theorem wcX557 : WF 271 1878558 cX557 := ⟨by decide, wcX556⟩
def cX558 : List (Nat × Nat × Nat × Nat) := (0, 0, 200, 271) :: cX557
theorem wcX558 : WF 272 1878758 cX558 := ⟨rfl, by decide, wcX557⟩
def cX559 : List (Nat × Nat × Nat × Nat) := (1, 261, 13, 271) :: cX558
theorem wcX559 : WF 272 1878758 cX559 := ⟨by decide, wcX558⟩
def cX560 : List (Nat × Nat × Nat × Nat) := (0, 4, 200, 272) :: cX559
theorem wcX560 : WF 273 1878958 cX560 := ⟨rfl, by decide, wcX559⟩
def cX561 : List (Nat × Nat × Nat × Nat) := (1, 261, 14, 272) :: cX560
theorem wcX561 : WF 273 1878958 cX561 := ⟨by decide, wcX560⟩
def cX562 : List (Nat × Nat × Nat × Nat) := (0, 4, 200, 273) :: cX561
theorem wcX562 : WF 274 1879158 cX562 := ⟨rfl, by decide, wcX561⟩
def cX563 : List (Nat × Nat × Nat × Nat) := (1, 261, 15, 273) :: cX562
theorem wcX563 : WF 274 1879158 cX563 := ⟨by decide, wcX562⟩
def cX564 : List (Nat × Nat × Nat × Nat) := (0, 4, 200, 274) :: cX563
theorem wcX564 : WF 275 1879358 cX564 := ⟨rfl, by decide, wcX563⟩
def cX565 : List (Nat × Nat × Nat × Nat) := (1, 261, 16, 274) :: cX564
theorem wcX565 : WF 275 1879358 cX565 := ⟨by decide, wcX564⟩
theorem ct_X0_14_1 {E : XE} {d : Nat} (hd : 2 ≤ d) : CC E mX3_init d [aO 261] (crun cX539 e00) (RV (fun τ => τ = crun cX565 e00)) := by
  refine v_aload_n 0 DX3_init_0 rfl rfl ?_
  refine v_objInit DX3_init_1 q717 q309 q310 (by omega) (by decide) ?_
  refine v_aload_n 0 DX3_init_4 rfl rfl ?_
  refine v_sipush DX3_init_5 (by decide) ?_
  refine v_newa (t := 1) (z := 400) DX3_init_8 rfl (by decide) q336 rfl (by decide) (cn_ok wcX539 (by decide)) (cz_ok wcX539 (by decide)) ?_
  rw [cnn wcX539]
  show VV E mX3_init d 10 _ _ (crun cX540 e00) _
  refine v_putR (ci := 3) (kf := 0) (z := 17) DX3_init_10 (csh wcX540 (by decide +kernel)) rfl (by decide) (Or.inr (Or.inr ⟨rfl, rfl, rfl, q718⟩)) (fun _ _ => rfl) rfl rfl (Or.inr (cR wcX540 (by decide +kernel))) ?_
  show VV E mX3_init d 13 _ _ (crun cX541 e00) _
  refine v_aload_n 0 DX3_init_13 rfl rfl ?_
  refine v_sipush DX3_init_14 (by decide) ?_
  refine v_newa (t := 0) (z := 200) DX3_init_17 rfl (by decide) q337 rfl (by decide) (cn_ok wcX541 (by decide)) (cz_ok wcX541 (by decide)) ?_
  rw [cnn wcX541]
  show VV E mX3_init d 19 _ _ (crun cX542 e00) _
  refine v_putR (ci := 3) (kf := 5) (z := 17) DX3_init_19 (csh wcX542 (by decide +kernel)) rfl (by decide) (Or.inr (Or.inr ⟨rfl, rfl, rfl, q734⟩)) (fun _ _ => rfl) rfl rfl (Or.inr (cR wcX542 (by decide +kernel))) ?_
  show VV E mX3_init d 22 _ _ (crun cX543 e00) _
  refine v_aload_n 0 DX3_init_22 rfl rfl ?_
  refine v_sipush DX3_init_23 (by decide) ?_
  refine v_newa (t := 0) (z := 200) DX3_init_26 rfl (by decide) q337 rfl (by decide) (cn_ok wcX543 (by decide)) (cz_ok wcX543 (by decide)) ?_
  rw [cnn wcX543]
  show VV E mX3_init d 28 _ _ (crun cX544 e00) _
  refine v_putR (ci := 3) (kf := 6) (z := 17) DX3_init_28 (csh wcX544 (by decide +kernel)) rfl (by decide) (Or.inr (Or.inr ⟨rfl, rfl, rfl, q737⟩)) (fun _ _ => rfl) rfl rfl (Or.inr (cR wcX544 (by decide +kernel))) ?_
  show VV E mX3_init d 31 _ _ (crun cX545 e00) _
  refine v_aload_n 0 DX3_init_31 rfl rfl ?_
  refine v_sipush DX3_init_32 (by decide) ?_
  refine v_newa (t := 0) (z := 200) DX3_init_35 rfl (by decide) q337 rfl (by decide) (cn_ok wcX545 (by decide)) (cz_ok wcX545 (by decide)) ?_
  rw [cnn wcX545]
  show VV E mX3_init d 37 _ _ (crun cX546 e00) _
  refine v_putR (ci := 3) (kf := 7) (z := 17) DX3_init_37 (csh wcX546 (by decide +kernel)) rfl (by decide) (Or.inr (Or.inr ⟨rfl, rfl, rfl, q740⟩)) (fun _ _ => rfl) rfl rfl (Or.inr (cR wcX546 (by decide +kernel))) ?_
  show VV E mX3_init d 40 _ _ (crun cX547 e00) _
  refine v_aload_n 0 DX3_init_40 rfl rfl ?_
  refine v_sipush DX3_init_41 (by decide) ?_
  refine v_newa (t := 0) (z := 200) DX3_init_44 rfl (by decide) q337 rfl (by decide) (cn_ok wcX547 (by decide)) (cz_ok wcX547 (by decide)) ?_
  rw [cnn wcX547]
  show VV E mX3_init d 46 _ _ (crun cX548 e00) _
  refine v_putR (ci := 3) (kf := 8) (z := 17) DX3_init_46 (csh wcX548 (by decide +kernel)) rfl (by decide) (Or.inr (Or.inr ⟨rfl, rfl, rfl, q743⟩)) (fun _ _ => rfl) rfl rfl (Or.inr (cR wcX548 (by decide +kernel))) ?_
  show VV E mX3_init d 49 _ _ (crun cX549 e00) _
  refine v_aload_n 0 DX3_init_49 rfl rfl ?_
  refine v_sipush DX3_init_50 (by decide) ?_
  refine v_newa (t := 4) (z := 200) DX3_init_53 rfl (by decide) q806 rfl (by decide) (cn_ok wcX549 (by decide)) (cz_ok wcX549 (by decide)) ?_
  rw [cnn wcX549]
  show VV E mX3_init d 55 _ _ (crun cX550 e00) _
  refine v_putR (ci := 3) (kf := 9) (z := 17) DX3_init_55 (csh wcX550 (by decide +kernel)) rfl (by decide) (Or.inr (Or.inr ⟨rfl, rfl, rfl, q746⟩)) (fun _ _ => rfl) rfl rfl (Or.inr (cR wcX550 (by decide +kernel))) ?_
  show VV E mX3_init d 58 _ _ (crun cX551 e00) _
  refine v_aload_n 0 DX3_init_58 rfl rfl ?_
  refine v_sipush DX3_init_59 (by decide) ?_
  refine v_newa (t := 0) (z := 200) DX3_init_62 rfl (by decide) q337 rfl (by decide) (cn_ok wcX551 (by decide)) (cz_ok wcX551 (by decide)) ?_
  rw [cnn wcX551]
  show VV E mX3_init d 64 _ _ (crun cX552 e00) _
  refine v_putR (ci := 3) (kf := 10) (z := 17) DX3_init_64 (csh wcX552 (by decide +kernel)) rfl (by decide) (Or.inr (Or.inr ⟨rfl, rfl, rfl, q749⟩)) (fun _ _ => rfl) rfl rfl (Or.inr (cR wcX552 (by decide +kernel))) ?_
  show VV E mX3_init d 67 _ _ (crun cX553 e00) _
  refine v_aload_n 0 DX3_init_67 rfl rfl ?_
  refine v_sipush DX3_init_68 (by decide) ?_
  refine v_newa (t := 0) (z := 200) DX3_init_71 rfl (by decide) q337 rfl (by decide) (cn_ok wcX553 (by decide)) (cz_ok wcX553 (by decide)) ?_
  rw [cnn wcX553]
  show VV E mX3_init d 73 _ _ (crun cX554 e00) _
  refine v_putR (ci := 3) (kf := 11) (z := 17) DX3_init_73 (csh wcX554 (by decide +kernel)) rfl (by decide) (Or.inr (Or.inr ⟨rfl, rfl, rfl, q752⟩)) (fun _ _ => rfl) rfl rfl (Or.inr (cR wcX554 (by decide +kernel))) ?_
  show VV E mX3_init d 76 _ _ (crun cX555 e00) _
  refine v_aload_n 0 DX3_init_76 rfl rfl ?_
  refine v_sipush DX3_init_77 (by decide) ?_
  refine v_newa (t := 0) (z := 200) DX3_init_80 rfl (by decide) q337 rfl (by decide) (cn_ok wcX555 (by decide)) (cz_ok wcX555 (by decide)) ?_
  rw [cnn wcX555]
  show VV E mX3_init d 82 _ _ (crun cX556 e00) _
  refine v_putR (ci := 3) (kf := 12) (z := 17) DX3_init_82 (csh wcX556 (by decide +kernel)) rfl (by decide) (Or.inr (Or.inr ⟨rfl, rfl, rfl, q755⟩)) (fun _ _ => rfl) rfl rfl (Or.inr (cR wcX556 (by decide +kernel))) ?_
  show VV E mX3_init d 85 _ _ (crun cX557 e00) _
  refine v_aload_n 0 DX3_init_85 rfl rfl ?_
  refine v_sipush DX3_init_86 (by decide) ?_
  refine v_newa (t := 0) (z := 200) DX3_init_89 rfl (by decide) q337 rfl (by decide) (cn_ok wcX557 (by decide)) (cz_ok wcX557 (by decide)) ?_
  rw [cnn wcX557]
  show VV E mX3_init d 91 _ _ (crun cX558 e00) _
  refine v_putR (ci := 3) (kf := 13) (z := 17) DX3_init_91 (csh wcX558 (by decide +kernel)) rfl (by decide) (Or.inr (Or.inr ⟨rfl, rfl, rfl, q758⟩)) (fun _ _ => rfl) rfl rfl (Or.inr (cR wcX558 (by decide +kernel))) ?_
  show VV E mX3_init d 94 _ _ (crun cX559 e00) _
  refine v_aload_n 0 DX3_init_94 rfl rfl ?_
  refine v_sipush DX3_init_95 (by decide) ?_
  refine v_newa (t := 4) (z := 200) DX3_init_98 rfl (by decide) q806 rfl (by decide) (cn_ok wcX559 (by decide)) (cz_ok wcX559 (by decide)) ?_
  rw [cnn wcX559]
  show VV E mX3_init d 100 _ _ (crun cX560 e00) _
  refine v_putR (ci := 3) (kf := 14) (z := 17) DX3_init_100 (csh wcX560 (by decide +kernel)) rfl (by decide) (Or.inr (Or.inr ⟨rfl, rfl, rfl, q761⟩)) (fun _ _ => rfl) rfl rfl (Or.inr (cR wcX560 (by decide +kernel))) ?_
  show VV E mX3_init d 103 _ _ (crun cX561 e00) _
  refine v_aload_n 0 DX3_init_103 rfl rfl ?_
  refine v_sipush DX3_init_104 (by decide) ?_
  refine v_newa (t := 4) (z := 200) DX3_init_107 rfl (by decide) q806 rfl (by decide) (cn_ok wcX561 (by decide)) (cz_ok wcX561 (by decide)) ?_
  rw [cnn wcX561]
  show VV E mX3_init d 109 _ _ (crun cX562 e00) _
  refine v_putR (ci := 3) (kf := 15) (z := 17) DX3_init_109 (csh wcX562 (by decide +kernel)) rfl (by decide) (Or.inr (Or.inr ⟨rfl, rfl, rfl, q764⟩)) (fun _ _ => rfl) rfl rfl (Or.inr (cR wcX562 (by decide +kernel))) ?_
  show VV E mX3_init d 112 _ _ (crun cX563 e00) _
  refine v_aload_n 0 DX3_init_112 rfl rfl ?_
  refine v_sipush DX3_init_113 (by decide) ?_
  refine v_newa (t := 4) (z := 200) DX3_init_116 rfl (by decide) q806 rfl (by decide) (cn_ok wcX563 (by decide)) (cz_ok wcX563 (by decide)) ?_
  rw [cnn wcX563]
  show VV E mX3_init d 118 _ _ (crun cX564 e00) _
  refine v_putR (ci := 3) (kf := 16) (z := 17) DX3_init_118 (csh wcX564 (by decide +kernel)) rfl (by decide) (Or.inr (Or.inr ⟨rfl, rfl, rfl, q767⟩)) (fun _ _ => rfl) rfl rfl (Or.inr (cR wcX564 (by decide +kernel))) ?_
  show VV E mX3_init d 121 _ _ (crun cX565 e00) _
  exact v_vret DX3_init_121 rfl (RV_mk rfl)
def cX566 : List (Nat × Nat × Nat × Nat) := (1, 260, 0, 261) :: cX565
theorem wcX566 : WF 275 1879358 cX566 := ⟨by decide, wcX565⟩
theorem ct_X0_14 {E : XE} {d : Nat} (hd : 3 ≤ d) : CC E mX8_init d [aO 260] (crun cX538 e00) (RV (fun τ => τ = crun cX566 e00)) := by
  obtain ⟨d, rfl⟩ : ∃ e, d = e + 1 := ⟨d - 1, by omega⟩
  refine v_aload_n 0 DX8_init_0 rfl rfl ?_
  refine v_objInit DX8_init_1 q976 q309 q310 (by omega) (by decide) ?_
  refine v_aload_n 0 DX8_init_4 rfl rfl ?_
  refine v_new (ci := 3) (z := 17) DX8_init_5 rfl q977 q713 q256 (cn_ok wcX538 (by decide)) (cz_ok wcX538 (by decide)) ?_
  rw [cnn wcX538]
  show VV E mX8_init (d + 1) 8 _ _ (crun cX539 e00) _
  refine v_dup DX8_init_8 rfl ?_
  refine v_invI (as := []) (b := 261) (st := [aO 261, aO 260]) DX8_init_9 rfl okX3_init (Or.inr ⟨_, q978⟩) q715 q716 rfl npX3_init (ct_X0_14_1 (d := d) (by omega)) (Nat.le_of_ble_eq_true rfl) (Nat.le_refl _) (Nat.le_of_ble_eq_true rfl) (RV_ret (fun τ g e => ?_)) RV_thr
  subst e
  refine v_putR (ci := 8) (kf := 0) (z := 3) DX8_init_12 (csh wcX565 (by decide +kernel)) rfl (by decide) (Or.inr (Or.inr ⟨rfl, rfl, rfl, q979⟩)) (fun _ _ => rfl) rfl rfl (Or.inr (cR wcX565 (by decide +kernel))) ?_
  show VV E mX8_init (d + 1) 15 _ _ (crun cX566 e00) _
  exact v_vret DX8_init_15 rfl (RV_mk rfl)
def cX567 : List (Nat × Nat × Nat × Nat) := (1, 50, 3, 260) :: cX566
theorem wcX567 : WF 275 1879358 cX567 := ⟨by decide, wcX566⟩
def cX568 : List (Nat × Nat × Nat × Nat) := (0, 103, 17, 275) :: cX567
theorem wcX568 : WF 276 1879375 cX568 := ⟨rfl, by decide, wcX567⟩
def cX569 : List (Nat × Nat × Nat × Nat) := (0, 1, 400, 276) :: cX568
theorem wcX569 : WF 277 1879775 cX569 := ⟨rfl, by decide, wcX568⟩
def cX570 : List (Nat × Nat × Nat × Nat) := (1, 275, 0, 276) :: cX569
theorem wcX570 : WF 277 1879775 cX570 := ⟨by decide, wcX569⟩
def cX571 : List (Nat × Nat × Nat × Nat) := (0, 0, 200, 277) :: cX570
theorem wcX571 : WF 278 1879975 cX571 := ⟨rfl, by decide, wcX570⟩
def cX572 : List (Nat × Nat × Nat × Nat) := (1, 275, 5, 277) :: cX571
theorem wcX572 : WF 278 1879975 cX572 := ⟨by decide, wcX571⟩
def cX573 : List (Nat × Nat × Nat × Nat) := (0, 0, 200, 278) :: cX572
theorem wcX573 : WF 279 1880175 cX573 := ⟨rfl, by decide, wcX572⟩
def cX574 : List (Nat × Nat × Nat × Nat) := (1, 275, 6, 278) :: cX573
theorem wcX574 : WF 279 1880175 cX574 := ⟨by decide, wcX573⟩
def cX575 : List (Nat × Nat × Nat × Nat) := (0, 0, 200, 279) :: cX574
theorem wcX575 : WF 280 1880375 cX575 := ⟨rfl, by decide, wcX574⟩
def cX576 : List (Nat × Nat × Nat × Nat) := (1, 275, 7, 279) :: cX575
theorem wcX576 : WF 280 1880375 cX576 := ⟨by decide, wcX575⟩
def cX577 : List (Nat × Nat × Nat × Nat) := (0, 0, 200, 280) :: cX576
theorem wcX577 : WF 281 1880575 cX577 := ⟨rfl, by decide, wcX576⟩
def cX578 : List (Nat × Nat × Nat × Nat) := (1, 275, 8, 280) :: cX577
theorem wcX578 : WF 281 1880575 cX578 := ⟨by decide, wcX577⟩
def cX579 : List (Nat × Nat × Nat × Nat) := (0, 4, 200, 281) :: cX578
theorem wcX579 : WF 282 1880775 cX579 := ⟨rfl, by decide, wcX578⟩
def cX580 : List (Nat × Nat × Nat × Nat) := (1, 275, 9, 281) :: cX579
theorem wcX580 : WF 282 1880775 cX580 := ⟨by decide, wcX579⟩
def cX581 : List (Nat × Nat × Nat × Nat) := (0, 0, 200, 282) :: cX580
theorem wcX581 : WF 283 1880975 cX581 := ⟨rfl, by decide, wcX580⟩
def cX582 : List (Nat × Nat × Nat × Nat) := (1, 275, 10, 282) :: cX581
theorem wcX582 : WF 283 1880975 cX582 := ⟨by decide, wcX581⟩
def cX583 : List (Nat × Nat × Nat × Nat) := (0, 0, 200, 283) :: cX582
theorem wcX583 : WF 284 1881175 cX583 := ⟨rfl, by decide, wcX582⟩
def cX584 : List (Nat × Nat × Nat × Nat) := (1, 275, 11, 283) :: cX583
theorem wcX584 : WF 284 1881175 cX584 := ⟨by decide, wcX583⟩
def cX585 : List (Nat × Nat × Nat × Nat) := (0, 0, 200, 284) :: cX584
theorem wcX585 : WF 285 1881375 cX585 := ⟨rfl, by decide, wcX584⟩
def cX586 : List (Nat × Nat × Nat × Nat) := (1, 275, 12, 284) :: cX585
theorem wcX586 : WF 285 1881375 cX586 := ⟨by decide, wcX585⟩
def cX587 : List (Nat × Nat × Nat × Nat) := (0, 0, 200, 285) :: cX586
theorem wcX587 : WF 286 1881575 cX587 := ⟨rfl, by decide, wcX586⟩
def cX588 : List (Nat × Nat × Nat × Nat) := (1, 275, 13, 285) :: cX587
theorem wcX588 : WF 286 1881575 cX588 := ⟨by decide, wcX587⟩
def cX589 : List (Nat × Nat × Nat × Nat) := (0, 4, 200, 286) :: cX588
theorem wcX589 : WF 287 1881775 cX589 := ⟨rfl, by decide, wcX588⟩
def cX590 : List (Nat × Nat × Nat × Nat) := (1, 275, 14, 286) :: cX589
theorem wcX590 : WF 287 1881775 cX590 := ⟨by decide, wcX589⟩
def cX591 : List (Nat × Nat × Nat × Nat) := (0, 4, 200, 287) :: cX590
theorem wcX591 : WF 288 1881975 cX591 := ⟨rfl, by decide, wcX590⟩
def cX592 : List (Nat × Nat × Nat × Nat) := (1, 275, 15, 287) :: cX591
theorem wcX592 : WF 288 1881975 cX592 := ⟨by decide, wcX591⟩
def cX593 : List (Nat × Nat × Nat × Nat) := (0, 4, 200, 288) :: cX592
theorem wcX593 : WF 289 1882175 cX593 := ⟨rfl, by decide, wcX592⟩
def cX594 : List (Nat × Nat × Nat × Nat) := (1, 275, 16, 288) :: cX593
theorem wcX594 : WF 289 1882175 cX594 := ⟨by decide, wcX593⟩
theorem ct_X0_15 {E : XE} {d : Nat} (hd : 2 ≤ d) : CC E mX3_init d [aO 275] (crun cX568 e00) (RV (fun τ => τ = crun cX594 e00)) := by
  refine v_aload_n 0 DX3_init_0 rfl rfl ?_
  refine v_objInit DX3_init_1 q717 q309 q310 (by omega) (by decide) ?_
  refine v_aload_n 0 DX3_init_4 rfl rfl ?_
  refine v_sipush DX3_init_5 (by decide) ?_
  refine v_newa (t := 1) (z := 400) DX3_init_8 rfl (by decide) q336 rfl (by decide) (cn_ok wcX568 (by decide)) (cz_ok wcX568 (by decide)) ?_
  rw [cnn wcX568]
  show VV E mX3_init d 10 _ _ (crun cX569 e00) _
  refine v_putR (ci := 3) (kf := 0) (z := 17) DX3_init_10 (csh wcX569 (by decide +kernel)) rfl (by decide) (Or.inr (Or.inr ⟨rfl, rfl, rfl, q718⟩)) (fun _ _ => rfl) rfl rfl (Or.inr (cR wcX569 (by decide +kernel))) ?_
  show VV E mX3_init d 13 _ _ (crun cX570 e00) _
  refine v_aload_n 0 DX3_init_13 rfl rfl ?_
  refine v_sipush DX3_init_14 (by decide) ?_
  refine v_newa (t := 0) (z := 200) DX3_init_17 rfl (by decide) q337 rfl (by decide) (cn_ok wcX570 (by decide)) (cz_ok wcX570 (by decide)) ?_
  rw [cnn wcX570]
  show VV E mX3_init d 19 _ _ (crun cX571 e00) _
  refine v_putR (ci := 3) (kf := 5) (z := 17) DX3_init_19 (csh wcX571 (by decide +kernel)) rfl (by decide) (Or.inr (Or.inr ⟨rfl, rfl, rfl, q734⟩)) (fun _ _ => rfl) rfl rfl (Or.inr (cR wcX571 (by decide +kernel))) ?_
  show VV E mX3_init d 22 _ _ (crun cX572 e00) _
  refine v_aload_n 0 DX3_init_22 rfl rfl ?_
  refine v_sipush DX3_init_23 (by decide) ?_
  refine v_newa (t := 0) (z := 200) DX3_init_26 rfl (by decide) q337 rfl (by decide) (cn_ok wcX572 (by decide)) (cz_ok wcX572 (by decide)) ?_
  rw [cnn wcX572]
  show VV E mX3_init d 28 _ _ (crun cX573 e00) _
  refine v_putR (ci := 3) (kf := 6) (z := 17) DX3_init_28 (csh wcX573 (by decide +kernel)) rfl (by decide) (Or.inr (Or.inr ⟨rfl, rfl, rfl, q737⟩)) (fun _ _ => rfl) rfl rfl (Or.inr (cR wcX573 (by decide +kernel))) ?_
  show VV E mX3_init d 31 _ _ (crun cX574 e00) _
  refine v_aload_n 0 DX3_init_31 rfl rfl ?_
  refine v_sipush DX3_init_32 (by decide) ?_
  refine v_newa (t := 0) (z := 200) DX3_init_35 rfl (by decide) q337 rfl (by decide) (cn_ok wcX574 (by decide)) (cz_ok wcX574 (by decide)) ?_
  rw [cnn wcX574]
  show VV E mX3_init d 37 _ _ (crun cX575 e00) _
  refine v_putR (ci := 3) (kf := 7) (z := 17) DX3_init_37 (csh wcX575 (by decide +kernel)) rfl (by decide) (Or.inr (Or.inr ⟨rfl, rfl, rfl, q740⟩)) (fun _ _ => rfl) rfl rfl (Or.inr (cR wcX575 (by decide +kernel))) ?_
  show VV E mX3_init d 40 _ _ (crun cX576 e00) _
  refine v_aload_n 0 DX3_init_40 rfl rfl ?_
  refine v_sipush DX3_init_41 (by decide) ?_
  refine v_newa (t := 0) (z := 200) DX3_init_44 rfl (by decide) q337 rfl (by decide) (cn_ok wcX576 (by decide)) (cz_ok wcX576 (by decide)) ?_
  rw [cnn wcX576]
  show VV E mX3_init d 46 _ _ (crun cX577 e00) _
  refine v_putR (ci := 3) (kf := 8) (z := 17) DX3_init_46 (csh wcX577 (by decide +kernel)) rfl (by decide) (Or.inr (Or.inr ⟨rfl, rfl, rfl, q743⟩)) (fun _ _ => rfl) rfl rfl (Or.inr (cR wcX577 (by decide +kernel))) ?_
  show VV E mX3_init d 49 _ _ (crun cX578 e00) _
  refine v_aload_n 0 DX3_init_49 rfl rfl ?_
  refine v_sipush DX3_init_50 (by decide) ?_
  refine v_newa (t := 4) (z := 200) DX3_init_53 rfl (by decide) q806 rfl (by decide) (cn_ok wcX578 (by decide)) (cz_ok wcX578 (by decide)) ?_
  rw [cnn wcX578]
  show VV E mX3_init d 55 _ _ (crun cX579 e00) _
  refine v_putR (ci := 3) (kf := 9) (z := 17) DX3_init_55 (csh wcX579 (by decide +kernel)) rfl (by decide) (Or.inr (Or.inr ⟨rfl, rfl, rfl, q746⟩)) (fun _ _ => rfl) rfl rfl (Or.inr (cR wcX579 (by decide +kernel))) ?_
  show VV E mX3_init d 58 _ _ (crun cX580 e00) _
  refine v_aload_n 0 DX3_init_58 rfl rfl ?_
  refine v_sipush DX3_init_59 (by decide) ?_
  refine v_newa (t := 0) (z := 200) DX3_init_62 rfl (by decide) q337 rfl (by decide) (cn_ok wcX580 (by decide)) (cz_ok wcX580 (by decide)) ?_
  rw [cnn wcX580]
  show VV E mX3_init d 64 _ _ (crun cX581 e00) _
  refine v_putR (ci := 3) (kf := 10) (z := 17) DX3_init_64 (csh wcX581 (by decide +kernel)) rfl (by decide) (Or.inr (Or.inr ⟨rfl, rfl, rfl, q749⟩)) (fun _ _ => rfl) rfl rfl (Or.inr (cR wcX581 (by decide +kernel))) ?_
  show VV E mX3_init d 67 _ _ (crun cX582 e00) _
  refine v_aload_n 0 DX3_init_67 rfl rfl ?_
  refine v_sipush DX3_init_68 (by decide) ?_
  refine v_newa (t := 0) (z := 200) DX3_init_71 rfl (by decide) q337 rfl (by decide) (cn_ok wcX582 (by decide)) (cz_ok wcX582 (by decide)) ?_
  rw [cnn wcX582]
  show VV E mX3_init d 73 _ _ (crun cX583 e00) _
  refine v_putR (ci := 3) (kf := 11) (z := 17) DX3_init_73 (csh wcX583 (by decide +kernel)) rfl (by decide) (Or.inr (Or.inr ⟨rfl, rfl, rfl, q752⟩)) (fun _ _ => rfl) rfl rfl (Or.inr (cR wcX583 (by decide +kernel))) ?_
  show VV E mX3_init d 76 _ _ (crun cX584 e00) _
  refine v_aload_n 0 DX3_init_76 rfl rfl ?_
  refine v_sipush DX3_init_77 (by decide) ?_
  refine v_newa (t := 0) (z := 200) DX3_init_80 rfl (by decide) q337 rfl (by decide) (cn_ok wcX584 (by decide)) (cz_ok wcX584 (by decide)) ?_
  rw [cnn wcX584]
  show VV E mX3_init d 82 _ _ (crun cX585 e00) _
  refine v_putR (ci := 3) (kf := 12) (z := 17) DX3_init_82 (csh wcX585 (by decide +kernel)) rfl (by decide) (Or.inr (Or.inr ⟨rfl, rfl, rfl, q755⟩)) (fun _ _ => rfl) rfl rfl (Or.inr (cR wcX585 (by decide +kernel))) ?_
  show VV E mX3_init d 85 _ _ (crun cX586 e00) _
  refine v_aload_n 0 DX3_init_85 rfl rfl ?_
  refine v_sipush DX3_init_86 (by decide) ?_
  refine v_newa (t := 0) (z := 200) DX3_init_89 rfl (by decide) q337 rfl (by decide) (cn_ok wcX586 (by decide)) (cz_ok wcX586 (by decide)) ?_
  rw [cnn wcX586]
  show VV E mX3_init d 91 _ _ (crun cX587 e00) _
  refine v_putR (ci := 3) (kf := 13) (z := 17) DX3_init_91 (csh wcX587 (by decide +kernel)) rfl (by decide) (Or.inr (Or.inr ⟨rfl, rfl, rfl, q758⟩)) (fun _ _ => rfl) rfl rfl (Or.inr (cR wcX587 (by decide +kernel))) ?_
  show VV E mX3_init d 94 _ _ (crun cX588 e00) _
  refine v_aload_n 0 DX3_init_94 rfl rfl ?_
  refine v_sipush DX3_init_95 (by decide) ?_
  refine v_newa (t := 4) (z := 200) DX3_init_98 rfl (by decide) q806 rfl (by decide) (cn_ok wcX588 (by decide)) (cz_ok wcX588 (by decide)) ?_
  rw [cnn wcX588]
  show VV E mX3_init d 100 _ _ (crun cX589 e00) _
  refine v_putR (ci := 3) (kf := 14) (z := 17) DX3_init_100 (csh wcX589 (by decide +kernel)) rfl (by decide) (Or.inr (Or.inr ⟨rfl, rfl, rfl, q761⟩)) (fun _ _ => rfl) rfl rfl (Or.inr (cR wcX589 (by decide +kernel))) ?_
  show VV E mX3_init d 103 _ _ (crun cX590 e00) _
  refine v_aload_n 0 DX3_init_103 rfl rfl ?_
  refine v_sipush DX3_init_104 (by decide) ?_
  refine v_newa (t := 4) (z := 200) DX3_init_107 rfl (by decide) q806 rfl (by decide) (cn_ok wcX590 (by decide)) (cz_ok wcX590 (by decide)) ?_
  rw [cnn wcX590]
  show VV E mX3_init d 109 _ _ (crun cX591 e00) _
  refine v_putR (ci := 3) (kf := 15) (z := 17) DX3_init_109 (csh wcX591 (by decide +kernel)) rfl (by decide) (Or.inr (Or.inr ⟨rfl, rfl, rfl, q764⟩)) (fun _ _ => rfl) rfl rfl (Or.inr (cR wcX591 (by decide +kernel))) ?_
  show VV E mX3_init d 112 _ _ (crun cX592 e00) _
  refine v_aload_n 0 DX3_init_112 rfl rfl ?_
  refine v_sipush DX3_init_113 (by decide) ?_
  refine v_newa (t := 4) (z := 200) DX3_init_116 rfl (by decide) q806 rfl (by decide) (cn_ok wcX592 (by decide)) (cz_ok wcX592 (by decide)) ?_
  rw [cnn wcX592]
  show VV E mX3_init d 118 _ _ (crun cX593 e00) _
  refine v_putR (ci := 3) (kf := 16) (z := 17) DX3_init_118 (csh wcX593 (by decide +kernel)) rfl (by decide) (Or.inr (Or.inr ⟨rfl, rfl, rfl, q767⟩)) (fun _ _ => rfl) rfl rfl (Or.inr (cR wcX593 (by decide +kernel))) ?_
  show VV E mX3_init d 121 _ _ (crun cX594 e00) _
  exact v_vret DX3_init_121 rfl (RV_mk rfl)
def cX595 : List (Nat × Nat × Nat × Nat) := (1, 79, 0, 275) :: cX594
theorem wcX595 : WF 289 1882175 cX595 := ⟨by decide, wcX594⟩
def cX596 : List (Nat × Nat × Nat × Nat) := (0, 103, 17, 289) :: cX595
theorem wcX596 : WF 290 1882192 cX596 := ⟨rfl, by decide, wcX595⟩
def cX597 : List (Nat × Nat × Nat × Nat) := (0, 1, 400, 290) :: cX596
theorem wcX597 : WF 291 1882592 cX597 := ⟨rfl, by decide, wcX596⟩
def cX598 : List (Nat × Nat × Nat × Nat) := (1, 289, 0, 290) :: cX597
theorem wcX598 : WF 291 1882592 cX598 := ⟨by decide, wcX597⟩
def cX599 : List (Nat × Nat × Nat × Nat) := (0, 0, 200, 291) :: cX598
theorem wcX599 : WF 292 1882792 cX599 := ⟨rfl, by decide, wcX598⟩
def cX600 : List (Nat × Nat × Nat × Nat) := (1, 289, 5, 291) :: cX599
theorem wcX600 : WF 292 1882792 cX600 := ⟨by decide, wcX599⟩
def cX601 : List (Nat × Nat × Nat × Nat) := (0, 0, 200, 292) :: cX600
theorem wcX601 : WF 293 1882992 cX601 := ⟨rfl, by decide, wcX600⟩
def cX602 : List (Nat × Nat × Nat × Nat) := (1, 289, 6, 292) :: cX601
theorem wcX602 : WF 293 1882992 cX602 := ⟨by decide, wcX601⟩
def cX603 : List (Nat × Nat × Nat × Nat) := (0, 0, 200, 293) :: cX602
theorem wcX603 : WF 294 1883192 cX603 := ⟨rfl, by decide, wcX602⟩
def cX604 : List (Nat × Nat × Nat × Nat) := (1, 289, 7, 293) :: cX603
theorem wcX604 : WF 294 1883192 cX604 := ⟨by decide, wcX603⟩
def cX605 : List (Nat × Nat × Nat × Nat) := (0, 0, 200, 294) :: cX604
theorem wcX605 : WF 295 1883392 cX605 := ⟨rfl, by decide, wcX604⟩
def cX606 : List (Nat × Nat × Nat × Nat) := (1, 289, 8, 294) :: cX605
theorem wcX606 : WF 295 1883392 cX606 := ⟨by decide, wcX605⟩
def cX607 : List (Nat × Nat × Nat × Nat) := (0, 4, 200, 295) :: cX606
theorem wcX607 : WF 296 1883592 cX607 := ⟨rfl, by decide, wcX606⟩
def cX608 : List (Nat × Nat × Nat × Nat) := (1, 289, 9, 295) :: cX607
theorem wcX608 : WF 296 1883592 cX608 := ⟨by decide, wcX607⟩
def cX609 : List (Nat × Nat × Nat × Nat) := (0, 0, 200, 296) :: cX608
theorem wcX609 : WF 297 1883792 cX609 := ⟨rfl, by decide, wcX608⟩
def cX610 : List (Nat × Nat × Nat × Nat) := (1, 289, 10, 296) :: cX609
theorem wcX610 : WF 297 1883792 cX610 := ⟨by decide, wcX609⟩
def cX611 : List (Nat × Nat × Nat × Nat) := (0, 0, 200, 297) :: cX610
theorem wcX611 : WF 298 1883992 cX611 := ⟨rfl, by decide, wcX610⟩
def cX612 : List (Nat × Nat × Nat × Nat) := (1, 289, 11, 297) :: cX611
theorem wcX612 : WF 298 1883992 cX612 := ⟨by decide, wcX611⟩
def cX613 : List (Nat × Nat × Nat × Nat) := (0, 0, 200, 298) :: cX612
theorem wcX613 : WF 299 1884192 cX613 := ⟨rfl, by decide, wcX612⟩
def cX614 : List (Nat × Nat × Nat × Nat) := (1, 289, 12, 298) :: cX613
theorem wcX614 : WF 299 1884192 cX614 := ⟨by decide, wcX613⟩
def cX615 : List (Nat × Nat × Nat × Nat) := (0, 0, 200, 299) :: cX614
theorem wcX615 : WF 300 1884392 cX615 := ⟨rfl, by decide, wcX614⟩
def cX616 : List (Nat × Nat × Nat × Nat) := (1, 289, 13, 299) :: cX615
theorem wcX616 : WF 300 1884392 cX616 := ⟨by decide, wcX615⟩
def cX617 : List (Nat × Nat × Nat × Nat) := (0, 4, 200, 300) :: cX616
theorem wcX617 : WF 301 1884592 cX617 := ⟨rfl, by decide, wcX616⟩
def cX618 : List (Nat × Nat × Nat × Nat) := (1, 289, 14, 300) :: cX617
theorem wcX618 : WF 301 1884592 cX618 := ⟨by decide, wcX617⟩
def cX619 : List (Nat × Nat × Nat × Nat) := (0, 4, 200, 301) :: cX618
theorem wcX619 : WF 302 1884792 cX619 := ⟨rfl, by decide, wcX618⟩
def cX620 : List (Nat × Nat × Nat × Nat) := (1, 289, 15, 301) :: cX619
theorem wcX620 : WF 302 1884792 cX620 := ⟨by decide, wcX619⟩
def cX621 : List (Nat × Nat × Nat × Nat) := (0, 4, 200, 302) :: cX620
theorem wcX621 : WF 303 1884992 cX621 := ⟨rfl, by decide, wcX620⟩
def cX622 : List (Nat × Nat × Nat × Nat) := (1, 289, 16, 302) :: cX621
theorem wcX622 : WF 303 1884992 cX622 := ⟨by decide, wcX621⟩
theorem ct_X0_16 {E : XE} {d : Nat} (hd : 2 ≤ d) : CC E mX3_init d [aO 289] (crun cX596 e00) (RV (fun τ => τ = crun cX622 e00)) := by
  refine v_aload_n 0 DX3_init_0 rfl rfl ?_
  refine v_objInit DX3_init_1 q717 q309 q310 (by omega) (by decide) ?_
  refine v_aload_n 0 DX3_init_4 rfl rfl ?_
  refine v_sipush DX3_init_5 (by decide) ?_
  refine v_newa (t := 1) (z := 400) DX3_init_8 rfl (by decide) q336 rfl (by decide) (cn_ok wcX596 (by decide)) (cz_ok wcX596 (by decide)) ?_
  rw [cnn wcX596]
  show VV E mX3_init d 10 _ _ (crun cX597 e00) _
  refine v_putR (ci := 3) (kf := 0) (z := 17) DX3_init_10 (csh wcX597 (by decide +kernel)) rfl (by decide) (Or.inr (Or.inr ⟨rfl, rfl, rfl, q718⟩)) (fun _ _ => rfl) rfl rfl (Or.inr (cR wcX597 (by decide +kernel))) ?_
  show VV E mX3_init d 13 _ _ (crun cX598 e00) _
  refine v_aload_n 0 DX3_init_13 rfl rfl ?_
  refine v_sipush DX3_init_14 (by decide) ?_
  refine v_newa (t := 0) (z := 200) DX3_init_17 rfl (by decide) q337 rfl (by decide) (cn_ok wcX598 (by decide)) (cz_ok wcX598 (by decide)) ?_
  rw [cnn wcX598]
  show VV E mX3_init d 19 _ _ (crun cX599 e00) _
  refine v_putR (ci := 3) (kf := 5) (z := 17) DX3_init_19 (csh wcX599 (by decide +kernel)) rfl (by decide) (Or.inr (Or.inr ⟨rfl, rfl, rfl, q734⟩)) (fun _ _ => rfl) rfl rfl (Or.inr (cR wcX599 (by decide +kernel))) ?_
  show VV E mX3_init d 22 _ _ (crun cX600 e00) _
  refine v_aload_n 0 DX3_init_22 rfl rfl ?_
  refine v_sipush DX3_init_23 (by decide) ?_
  refine v_newa (t := 0) (z := 200) DX3_init_26 rfl (by decide) q337 rfl (by decide) (cn_ok wcX600 (by decide)) (cz_ok wcX600 (by decide)) ?_
  rw [cnn wcX600]
  show VV E mX3_init d 28 _ _ (crun cX601 e00) _
  refine v_putR (ci := 3) (kf := 6) (z := 17) DX3_init_28 (csh wcX601 (by decide +kernel)) rfl (by decide) (Or.inr (Or.inr ⟨rfl, rfl, rfl, q737⟩)) (fun _ _ => rfl) rfl rfl (Or.inr (cR wcX601 (by decide +kernel))) ?_
  show VV E mX3_init d 31 _ _ (crun cX602 e00) _
  refine v_aload_n 0 DX3_init_31 rfl rfl ?_
  refine v_sipush DX3_init_32 (by decide) ?_
  refine v_newa (t := 0) (z := 200) DX3_init_35 rfl (by decide) q337 rfl (by decide) (cn_ok wcX602 (by decide)) (cz_ok wcX602 (by decide)) ?_
  rw [cnn wcX602]
  show VV E mX3_init d 37 _ _ (crun cX603 e00) _
  refine v_putR (ci := 3) (kf := 7) (z := 17) DX3_init_37 (csh wcX603 (by decide +kernel)) rfl (by decide) (Or.inr (Or.inr ⟨rfl, rfl, rfl, q740⟩)) (fun _ _ => rfl) rfl rfl (Or.inr (cR wcX603 (by decide +kernel))) ?_
  show VV E mX3_init d 40 _ _ (crun cX604 e00) _
  refine v_aload_n 0 DX3_init_40 rfl rfl ?_
  refine v_sipush DX3_init_41 (by decide) ?_
  refine v_newa (t := 0) (z := 200) DX3_init_44 rfl (by decide) q337 rfl (by decide) (cn_ok wcX604 (by decide)) (cz_ok wcX604 (by decide)) ?_
  rw [cnn wcX604]
  show VV E mX3_init d 46 _ _ (crun cX605 e00) _
  refine v_putR (ci := 3) (kf := 8) (z := 17) DX3_init_46 (csh wcX605 (by decide +kernel)) rfl (by decide) (Or.inr (Or.inr ⟨rfl, rfl, rfl, q743⟩)) (fun _ _ => rfl) rfl rfl (Or.inr (cR wcX605 (by decide +kernel))) ?_
  show VV E mX3_init d 49 _ _ (crun cX606 e00) _
  refine v_aload_n 0 DX3_init_49 rfl rfl ?_
  refine v_sipush DX3_init_50 (by decide) ?_
  refine v_newa (t := 4) (z := 200) DX3_init_53 rfl (by decide) q806 rfl (by decide) (cn_ok wcX606 (by decide)) (cz_ok wcX606 (by decide)) ?_
  rw [cnn wcX606]
  show VV E mX3_init d 55 _ _ (crun cX607 e00) _
  refine v_putR (ci := 3) (kf := 9) (z := 17) DX3_init_55 (csh wcX607 (by decide +kernel)) rfl (by decide) (Or.inr (Or.inr ⟨rfl, rfl, rfl, q746⟩)) (fun _ _ => rfl) rfl rfl (Or.inr (cR wcX607 (by decide +kernel))) ?_
  show VV E mX3_init d 58 _ _ (crun cX608 e00) _
  refine v_aload_n 0 DX3_init_58 rfl rfl ?_
  refine v_sipush DX3_init_59 (by decide) ?_
  refine v_newa (t := 0) (z := 200) DX3_init_62 rfl (by decide) q337 rfl (by decide) (cn_ok wcX608 (by decide)) (cz_ok wcX608 (by decide)) ?_
  rw [cnn wcX608]
  show VV E mX3_init d 64 _ _ (crun cX609 e00) _
  refine v_putR (ci := 3) (kf := 10) (z := 17) DX3_init_64 (csh wcX609 (by decide +kernel)) rfl (by decide) (Or.inr (Or.inr ⟨rfl, rfl, rfl, q749⟩)) (fun _ _ => rfl) rfl rfl (Or.inr (cR wcX609 (by decide +kernel))) ?_
  show VV E mX3_init d 67 _ _ (crun cX610 e00) _
  refine v_aload_n 0 DX3_init_67 rfl rfl ?_
  refine v_sipush DX3_init_68 (by decide) ?_
  refine v_newa (t := 0) (z := 200) DX3_init_71 rfl (by decide) q337 rfl (by decide) (cn_ok wcX610 (by decide)) (cz_ok wcX610 (by decide)) ?_
  rw [cnn wcX610]
  show VV E mX3_init d 73 _ _ (crun cX611 e00) _
  refine v_putR (ci := 3) (kf := 11) (z := 17) DX3_init_73 (csh wcX611 (by decide +kernel)) rfl (by decide) (Or.inr (Or.inr ⟨rfl, rfl, rfl, q752⟩)) (fun _ _ => rfl) rfl rfl (Or.inr (cR wcX611 (by decide +kernel))) ?_
  show VV E mX3_init d 76 _ _ (crun cX612 e00) _
  refine v_aload_n 0 DX3_init_76 rfl rfl ?_
  refine v_sipush DX3_init_77 (by decide) ?_
  refine v_newa (t := 0) (z := 200) DX3_init_80 rfl (by decide) q337 rfl (by decide) (cn_ok wcX612 (by decide)) (cz_ok wcX612 (by decide)) ?_
  rw [cnn wcX612]
  show VV E mX3_init d 82 _ _ (crun cX613 e00) _
  refine v_putR (ci := 3) (kf := 12) (z := 17) DX3_init_82 (csh wcX613 (by decide +kernel)) rfl (by decide) (Or.inr (Or.inr ⟨rfl, rfl, rfl, q755⟩)) (fun _ _ => rfl) rfl rfl (Or.inr (cR wcX613 (by decide +kernel))) ?_
  show VV E mX3_init d 85 _ _ (crun cX614 e00) _
  refine v_aload_n 0 DX3_init_85 rfl rfl ?_
  refine v_sipush DX3_init_86 (by decide) ?_
  refine v_newa (t := 0) (z := 200) DX3_init_89 rfl (by decide) q337 rfl (by decide) (cn_ok wcX614 (by decide)) (cz_ok wcX614 (by decide)) ?_
  rw [cnn wcX614]
  show VV E mX3_init d 91 _ _ (crun cX615 e00) _
  refine v_putR (ci := 3) (kf := 13) (z := 17) DX3_init_91 (csh wcX615 (by decide +kernel)) rfl (by decide) (Or.inr (Or.inr ⟨rfl, rfl, rfl, q758⟩)) (fun _ _ => rfl) rfl rfl (Or.inr (cR wcX615 (by decide +kernel))) ?_
  show VV E mX3_init d 94 _ _ (crun cX616 e00) _
  refine v_aload_n 0 DX3_init_94 rfl rfl ?_
  refine v_sipush DX3_init_95 (by decide) ?_
  refine v_newa (t := 4) (z := 200) DX3_init_98 rfl (by decide) q806 rfl (by decide) (cn_ok wcX616 (by decide)) (cz_ok wcX616 (by decide)) ?_
  rw [cnn wcX616]
  show VV E mX3_init d 100 _ _ (crun cX617 e00) _
  refine v_putR (ci := 3) (kf := 14) (z := 17) DX3_init_100 (csh wcX617 (by decide +kernel)) rfl (by decide) (Or.inr (Or.inr ⟨rfl, rfl, rfl, q761⟩)) (fun _ _ => rfl) rfl rfl (Or.inr (cR wcX617 (by decide +kernel))) ?_
  show VV E mX3_init d 103 _ _ (crun cX618 e00) _
  refine v_aload_n 0 DX3_init_103 rfl rfl ?_
  refine v_sipush DX3_init_104 (by decide) ?_
  refine v_newa (t := 4) (z := 200) DX3_init_107 rfl (by decide) q806 rfl (by decide) (cn_ok wcX618 (by decide)) (cz_ok wcX618 (by decide)) ?_
  rw [cnn wcX618]
  show VV E mX3_init d 109 _ _ (crun cX619 e00) _
  refine v_putR (ci := 3) (kf := 15) (z := 17) DX3_init_109 (csh wcX619 (by decide +kernel)) rfl (by decide) (Or.inr (Or.inr ⟨rfl, rfl, rfl, q764⟩)) (fun _ _ => rfl) rfl rfl (Or.inr (cR wcX619 (by decide +kernel))) ?_
  show VV E mX3_init d 112 _ _ (crun cX620 e00) _
  refine v_aload_n 0 DX3_init_112 rfl rfl ?_
  refine v_sipush DX3_init_113 (by decide) ?_
  refine v_newa (t := 4) (z := 200) DX3_init_116 rfl (by decide) q806 rfl (by decide) (cn_ok wcX620 (by decide)) (cz_ok wcX620 (by decide)) ?_
  rw [cnn wcX620]
  show VV E mX3_init d 118 _ _ (crun cX621 e00) _
  refine v_putR (ci := 3) (kf := 16) (z := 17) DX3_init_118 (csh wcX621 (by decide +kernel)) rfl (by decide) (Or.inr (Or.inr ⟨rfl, rfl, rfl, q767⟩)) (fun _ _ => rfl) rfl rfl (Or.inr (cR wcX621 (by decide +kernel))) ?_
  show VV E mX3_init d 121 _ _ (crun cX622 e00) _
  exact v_vret DX3_init_121 rfl (RV_mk rfl)
def cX623 : List (Nat × Nat × Nat × Nat) := (1, 79, 1, 289) :: cX622
theorem wcX623 : WF 303 1884992 cX623 := ⟨by decide, wcX622⟩
def cX624 : List (Nat × Nat × Nat × Nat) := (0, 103, 17, 303) :: cX623
theorem wcX624 : WF 304 1885009 cX624 := ⟨rfl, by decide, wcX623⟩
def cX625 : List (Nat × Nat × Nat × Nat) := (0, 1, 400, 304) :: cX624
theorem wcX625 : WF 305 1885409 cX625 := ⟨rfl, by decide, wcX624⟩
def cX626 : List (Nat × Nat × Nat × Nat) := (1, 303, 0, 304) :: cX625
theorem wcX626 : WF 305 1885409 cX626 := ⟨by decide, wcX625⟩
def cX627 : List (Nat × Nat × Nat × Nat) := (0, 0, 200, 305) :: cX626
theorem wcX627 : WF 306 1885609 cX627 := ⟨rfl, by decide, wcX626⟩
def cX628 : List (Nat × Nat × Nat × Nat) := (1, 303, 5, 305) :: cX627
theorem wcX628 : WF 306 1885609 cX628 := ⟨by decide, wcX627⟩
def cX629 : List (Nat × Nat × Nat × Nat) := (0, 0, 200, 306) :: cX628
theorem wcX629 : WF 307 1885809 cX629 := ⟨rfl, by decide, wcX628⟩
def cX630 : List (Nat × Nat × Nat × Nat) := (1, 303, 6, 306) :: cX629
theorem wcX630 : WF 307 1885809 cX630 := ⟨by decide, wcX629⟩
def cX631 : List (Nat × Nat × Nat × Nat) := (0, 0, 200, 307) :: cX630
theorem wcX631 : WF 308 1886009 cX631 := ⟨rfl, by decide, wcX630⟩
def cX632 : List (Nat × Nat × Nat × Nat) := (1, 303, 7, 307) :: cX631
theorem wcX632 : WF 308 1886009 cX632 := ⟨by decide, wcX631⟩
def cX633 : List (Nat × Nat × Nat × Nat) := (0, 0, 200, 308) :: cX632
theorem wcX633 : WF 309 1886209 cX633 := ⟨rfl, by decide, wcX632⟩
def cX634 : List (Nat × Nat × Nat × Nat) := (1, 303, 8, 308) :: cX633
theorem wcX634 : WF 309 1886209 cX634 := ⟨by decide, wcX633⟩
def cX635 : List (Nat × Nat × Nat × Nat) := (0, 4, 200, 309) :: cX634
theorem wcX635 : WF 310 1886409 cX635 := ⟨rfl, by decide, wcX634⟩
def cX636 : List (Nat × Nat × Nat × Nat) := (1, 303, 9, 309) :: cX635
theorem wcX636 : WF 310 1886409 cX636 := ⟨by decide, wcX635⟩
def cX637 : List (Nat × Nat × Nat × Nat) := (0, 0, 200, 310) :: cX636
theorem wcX637 : WF 311 1886609 cX637 := ⟨rfl, by decide, wcX636⟩
def cX638 : List (Nat × Nat × Nat × Nat) := (1, 303, 10, 310) :: cX637
theorem wcX638 : WF 311 1886609 cX638 := ⟨by decide, wcX637⟩
def cX639 : List (Nat × Nat × Nat × Nat) := (0, 0, 200, 311) :: cX638
theorem wcX639 : WF 312 1886809 cX639 := ⟨rfl, by decide, wcX638⟩
def cX640 : List (Nat × Nat × Nat × Nat) := (1, 303, 11, 311) :: cX639
theorem wcX640 : WF 312 1886809 cX640 := ⟨by decide, wcX639⟩
def cX641 : List (Nat × Nat × Nat × Nat) := (0, 0, 200, 312) :: cX640
theorem wcX641 : WF 313 1887009 cX641 := ⟨rfl, by decide, wcX640⟩
def cX642 : List (Nat × Nat × Nat × Nat) := (1, 303, 12, 312) :: cX641
theorem wcX642 : WF 313 1887009 cX642 := ⟨by decide, wcX641⟩
def cX643 : List (Nat × Nat × Nat × Nat) := (0, 0, 200, 313) :: cX642
theorem wcX643 : WF 314 1887209 cX643 := ⟨rfl, by decide, wcX642⟩
def cX644 : List (Nat × Nat × Nat × Nat) := (1, 303, 13, 313) :: cX643
theorem wcX644 : WF 314 1887209 cX644 := ⟨by decide, wcX643⟩
def cX645 : List (Nat × Nat × Nat × Nat) := (0, 4, 200, 314) :: cX644
theorem wcX645 : WF 315 1887409 cX645 := ⟨rfl, by decide, wcX644⟩
def cX646 : List (Nat × Nat × Nat × Nat) := (1, 303, 14, 314) :: cX645
theorem wcX646 : WF 315 1887409 cX646 := ⟨by decide, wcX645⟩
def cX647 : List (Nat × Nat × Nat × Nat) := (0, 4, 200, 315) :: cX646
theorem wcX647 : WF 316 1887609 cX647 := ⟨rfl, by decide, wcX646⟩
def cX648 : List (Nat × Nat × Nat × Nat) := (1, 303, 15, 315) :: cX647
theorem wcX648 : WF 316 1887609 cX648 := ⟨by decide, wcX647⟩
def cX649 : List (Nat × Nat × Nat × Nat) := (0, 4, 200, 316) :: cX648
theorem wcX649 : WF 317 1887809 cX649 := ⟨rfl, by decide, wcX648⟩
def cX650 : List (Nat × Nat × Nat × Nat) := (1, 303, 16, 316) :: cX649
theorem wcX650 : WF 317 1887809 cX650 := ⟨by decide, wcX649⟩
theorem ct_X0_17 {E : XE} {d : Nat} (hd : 2 ≤ d) : CC E mX3_init d [aO 303] (crun cX624 e00) (RV (fun τ => τ = crun cX650 e00)) := by
  refine v_aload_n 0 DX3_init_0 rfl rfl ?_
  refine v_objInit DX3_init_1 q717 q309 q310 (by omega) (by decide) ?_
  refine v_aload_n 0 DX3_init_4 rfl rfl ?_
  refine v_sipush DX3_init_5 (by decide) ?_
  refine v_newa (t := 1) (z := 400) DX3_init_8 rfl (by decide) q336 rfl (by decide) (cn_ok wcX624 (by decide)) (cz_ok wcX624 (by decide)) ?_
  rw [cnn wcX624]
  show VV E mX3_init d 10 _ _ (crun cX625 e00) _
  refine v_putR (ci := 3) (kf := 0) (z := 17) DX3_init_10 (csh wcX625 (by decide +kernel)) rfl (by decide) (Or.inr (Or.inr ⟨rfl, rfl, rfl, q718⟩)) (fun _ _ => rfl) rfl rfl (Or.inr (cR wcX625 (by decide +kernel))) ?_
  show VV E mX3_init d 13 _ _ (crun cX626 e00) _
  refine v_aload_n 0 DX3_init_13 rfl rfl ?_
  refine v_sipush DX3_init_14 (by decide) ?_
  refine v_newa (t := 0) (z := 200) DX3_init_17 rfl (by decide) q337 rfl (by decide) (cn_ok wcX626 (by decide)) (cz_ok wcX626 (by decide)) ?_
  rw [cnn wcX626]
  show VV E mX3_init d 19 _ _ (crun cX627 e00) _
  refine v_putR (ci := 3) (kf := 5) (z := 17) DX3_init_19 (csh wcX627 (by decide +kernel)) rfl (by decide) (Or.inr (Or.inr ⟨rfl, rfl, rfl, q734⟩)) (fun _ _ => rfl) rfl rfl (Or.inr (cR wcX627 (by decide +kernel))) ?_
  show VV E mX3_init d 22 _ _ (crun cX628 e00) _
  refine v_aload_n 0 DX3_init_22 rfl rfl ?_
  refine v_sipush DX3_init_23 (by decide) ?_
  refine v_newa (t := 0) (z := 200) DX3_init_26 rfl (by decide) q337 rfl (by decide) (cn_ok wcX628 (by decide)) (cz_ok wcX628 (by decide)) ?_
  rw [cnn wcX628]
  show VV E mX3_init d 28 _ _ (crun cX629 e00) _
  refine v_putR (ci := 3) (kf := 6) (z := 17) DX3_init_28 (csh wcX629 (by decide +kernel)) rfl (by decide) (Or.inr (Or.inr ⟨rfl, rfl, rfl, q737⟩)) (fun _ _ => rfl) rfl rfl (Or.inr (cR wcX629 (by decide +kernel))) ?_
  show VV E mX3_init d 31 _ _ (crun cX630 e00) _
  refine v_aload_n 0 DX3_init_31 rfl rfl ?_
  refine v_sipush DX3_init_32 (by decide) ?_
  refine v_newa (t := 0) (z := 200) DX3_init_35 rfl (by decide) q337 rfl (by decide) (cn_ok wcX630 (by decide)) (cz_ok wcX630 (by decide)) ?_
  rw [cnn wcX630]
  show VV E mX3_init d 37 _ _ (crun cX631 e00) _
  refine v_putR (ci := 3) (kf := 7) (z := 17) DX3_init_37 (csh wcX631 (by decide +kernel)) rfl (by decide) (Or.inr (Or.inr ⟨rfl, rfl, rfl, q740⟩)) (fun _ _ => rfl) rfl rfl (Or.inr (cR wcX631 (by decide +kernel))) ?_
  show VV E mX3_init d 40 _ _ (crun cX632 e00) _
  refine v_aload_n 0 DX3_init_40 rfl rfl ?_
  refine v_sipush DX3_init_41 (by decide) ?_
  refine v_newa (t := 0) (z := 200) DX3_init_44 rfl (by decide) q337 rfl (by decide) (cn_ok wcX632 (by decide)) (cz_ok wcX632 (by decide)) ?_
  rw [cnn wcX632]
  show VV E mX3_init d 46 _ _ (crun cX633 e00) _
  refine v_putR (ci := 3) (kf := 8) (z := 17) DX3_init_46 (csh wcX633 (by decide +kernel)) rfl (by decide) (Or.inr (Or.inr ⟨rfl, rfl, rfl, q743⟩)) (fun _ _ => rfl) rfl rfl (Or.inr (cR wcX633 (by decide +kernel))) ?_
  show VV E mX3_init d 49 _ _ (crun cX634 e00) _
  refine v_aload_n 0 DX3_init_49 rfl rfl ?_
  refine v_sipush DX3_init_50 (by decide) ?_
  refine v_newa (t := 4) (z := 200) DX3_init_53 rfl (by decide) q806 rfl (by decide) (cn_ok wcX634 (by decide)) (cz_ok wcX634 (by decide)) ?_
  rw [cnn wcX634]
  show VV E mX3_init d 55 _ _ (crun cX635 e00) _
  refine v_putR (ci := 3) (kf := 9) (z := 17) DX3_init_55 (csh wcX635 (by decide +kernel)) rfl (by decide) (Or.inr (Or.inr ⟨rfl, rfl, rfl, q746⟩)) (fun _ _ => rfl) rfl rfl (Or.inr (cR wcX635 (by decide +kernel))) ?_
  show VV E mX3_init d 58 _ _ (crun cX636 e00) _
  refine v_aload_n 0 DX3_init_58 rfl rfl ?_
  refine v_sipush DX3_init_59 (by decide) ?_
  refine v_newa (t := 0) (z := 200) DX3_init_62 rfl (by decide) q337 rfl (by decide) (cn_ok wcX636 (by decide)) (cz_ok wcX636 (by decide)) ?_
  rw [cnn wcX636]
  show VV E mX3_init d 64 _ _ (crun cX637 e00) _
  refine v_putR (ci := 3) (kf := 10) (z := 17) DX3_init_64 (csh wcX637 (by decide +kernel)) rfl (by decide) (Or.inr (Or.inr ⟨rfl, rfl, rfl, q749⟩)) (fun _ _ => rfl) rfl rfl (Or.inr (cR wcX637 (by decide +kernel))) ?_
  show VV E mX3_init d 67 _ _ (crun cX638 e00) _
  refine v_aload_n 0 DX3_init_67 rfl rfl ?_
  refine v_sipush DX3_init_68 (by decide) ?_
  refine v_newa (t := 0) (z := 200) DX3_init_71 rfl (by decide) q337 rfl (by decide) (cn_ok wcX638 (by decide)) (cz_ok wcX638 (by decide)) ?_
  rw [cnn wcX638]
  show VV E mX3_init d 73 _ _ (crun cX639 e00) _
  refine v_putR (ci := 3) (kf := 11) (z := 17) DX3_init_73 (csh wcX639 (by decide +kernel)) rfl (by decide) (Or.inr (Or.inr ⟨rfl, rfl, rfl, q752⟩)) (fun _ _ => rfl) rfl rfl (Or.inr (cR wcX639 (by decide +kernel))) ?_
  show VV E mX3_init d 76 _ _ (crun cX640 e00) _
  refine v_aload_n 0 DX3_init_76 rfl rfl ?_
  refine v_sipush DX3_init_77 (by decide) ?_
  refine v_newa (t := 0) (z := 200) DX3_init_80 rfl (by decide) q337 rfl (by decide) (cn_ok wcX640 (by decide)) (cz_ok wcX640 (by decide)) ?_
  rw [cnn wcX640]
  show VV E mX3_init d 82 _ _ (crun cX641 e00) _
  refine v_putR (ci := 3) (kf := 12) (z := 17) DX3_init_82 (csh wcX641 (by decide +kernel)) rfl (by decide) (Or.inr (Or.inr ⟨rfl, rfl, rfl, q755⟩)) (fun _ _ => rfl) rfl rfl (Or.inr (cR wcX641 (by decide +kernel))) ?_
  show VV E mX3_init d 85 _ _ (crun cX642 e00) _
  refine v_aload_n 0 DX3_init_85 rfl rfl ?_
  refine v_sipush DX3_init_86 (by decide) ?_
  refine v_newa (t := 0) (z := 200) DX3_init_89 rfl (by decide) q337 rfl (by decide) (cn_ok wcX642 (by decide)) (cz_ok wcX642 (by decide)) ?_
  rw [cnn wcX642]
  show VV E mX3_init d 91 _ _ (crun cX643 e00) _
  refine v_putR (ci := 3) (kf := 13) (z := 17) DX3_init_91 (csh wcX643 (by decide +kernel)) rfl (by decide) (Or.inr (Or.inr ⟨rfl, rfl, rfl, q758⟩)) (fun _ _ => rfl) rfl rfl (Or.inr (cR wcX643 (by decide +kernel))) ?_
  show VV E mX3_init d 94 _ _ (crun cX644 e00) _
  refine v_aload_n 0 DX3_init_94 rfl rfl ?_
  refine v_sipush DX3_init_95 (by decide) ?_
  refine v_newa (t := 4) (z := 200) DX3_init_98 rfl (by decide) q806 rfl (by decide) (cn_ok wcX644 (by decide)) (cz_ok wcX644 (by decide)) ?_
  rw [cnn wcX644]
  show VV E mX3_init d 100 _ _ (crun cX645 e00) _
  refine v_putR (ci := 3) (kf := 14) (z := 17) DX3_init_100 (csh wcX645 (by decide +kernel)) rfl (by decide) (Or.inr (Or.inr ⟨rfl, rfl, rfl, q761⟩)) (fun _ _ => rfl) rfl rfl (Or.inr (cR wcX645 (by decide +kernel))) ?_
  show VV E mX3_init d 103 _ _ (crun cX646 e00) _
  refine v_aload_n 0 DX3_init_103 rfl rfl ?_
  refine v_sipush DX3_init_104 (by decide) ?_
  refine v_newa (t := 4) (z := 200) DX3_init_107 rfl (by decide) q806 rfl (by decide) (cn_ok wcX646 (by decide)) (cz_ok wcX646 (by decide)) ?_
  rw [cnn wcX646]
  show VV E mX3_init d 109 _ _ (crun cX647 e00) _
  refine v_putR (ci := 3) (kf := 15) (z := 17) DX3_init_109 (csh wcX647 (by decide +kernel)) rfl (by decide) (Or.inr (Or.inr ⟨rfl, rfl, rfl, q764⟩)) (fun _ _ => rfl) rfl rfl (Or.inr (cR wcX647 (by decide +kernel))) ?_
  show VV E mX3_init d 112 _ _ (crun cX648 e00) _
  refine v_aload_n 0 DX3_init_112 rfl rfl ?_
  refine v_sipush DX3_init_113 (by decide) ?_
  refine v_newa (t := 4) (z := 200) DX3_init_116 rfl (by decide) q806 rfl (by decide) (cn_ok wcX648 (by decide)) (cz_ok wcX648 (by decide)) ?_
  rw [cnn wcX648]
  show VV E mX3_init d 118 _ _ (crun cX649 e00) _
  refine v_putR (ci := 3) (kf := 16) (z := 17) DX3_init_118 (csh wcX649 (by decide +kernel)) rfl (by decide) (Or.inr (Or.inr ⟨rfl, rfl, rfl, q767⟩)) (fun _ _ => rfl) rfl rfl (Or.inr (cR wcX649 (by decide +kernel))) ?_
  show VV E mX3_init d 121 _ _ (crun cX650 e00) _
  exact v_vret DX3_init_121 rfl (RV_mk rfl)

