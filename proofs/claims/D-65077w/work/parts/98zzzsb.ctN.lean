/-! contracts: printed by tools/mk.py out of s98zzzsb_ctN.py -/
set_option maxRecDepth 100000
set_option maxHeartbeats 800000
/-! the constructor of SearchHouseModel -/
theorem layM : Lay (crun cM245 e00) := ⟨laySm, fun i q h => cR wcM245 (layRm i q h)⟩
theorem ct_X9 {E : XE} {d : Nat} (hd : 7 ≤ d) : CC E mX9_init d [aO 555] (crun cM1 e00) (RV (fun τ => RD (crun cM245 e00) τ (fun c i => if (1 ≤ (1 : Int) ∧ (1 : Int) ≤ 8 ∧ 1 ≤ (1 : Int) ∧ (1 : Int) ≤ 8) ∧ at2 c i 555 57 then 1 else if (1 ≤ (1 : Int) ∧ (1 : Int) ≤ 8 ∧ 1 ≤ (1 : Int) ∧ (1 : Int) ≤ 8) ∧ at2 c i 555 58 then 1 else if (1 ≤ (1 : Int) ∧ (1 : Int) ≤ 8 ∧ 1 ≤ (1 : Int) ∧ (1 : Int) ≤ 8) ∧ (rg c i 598 0 8 ∨ rg c i 599 0 8) then 0 else (crun cM245 e00).I c i))) := by
  obtain ⟨d, rfl⟩ : ∃ e, d = e + 1 := ⟨d - 1, by omega⟩
  refine v_aload_n 0 DX9_init_0 rfl rfl ?_
  refine v_objInit DX9_init_1 q2190 q309 q310 (by omega) (by decide) ?_
  refine v_aload_n 0 DX9_init_4 rfl rfl ?_
  refine v_ise (by omega) (by decide) (cn_ok wcM1 (by decide)) (cz_ok wcM1 (by decide)) ?_
  rw [cnn wcM1]
  show VV E mX9_init (d + 1) 14 _ _ (crun cM2 e00) _
  refine v_putR (ci := 9) (kf := 0) (z := 166) DX9_init_14 (csh wcM2 (by decide +kernel)) rfl (by decide) (Or.inr (Or.inr ⟨rfl, rfl, rfl, q2224⟩)) (fun _ _ => rfl) rfl rfl (Or.inr (cR wcM2 (by decide +kernel))) ?_
  show VV E mX9_init (d + 1) 17 _ _ (crun cM3 e00) _
  refine v_aload_n 0 DX9_init_17 rfl rfl ?_
  refine v_sipush DX9_init_18 (by decide) ?_
  refine v_newa (t := 1) (z := 30032) DX9_init_21 rfl (by decide) q336 rfl (by decide) (cn_ok wcM3 (by decide)) (cz_ok wcM3 (by decide)) ?_
  rw [cnn wcM3]
  show VV E mX9_init (d + 1) 23 _ _ (crun cM4 e00) _
  refine v_putR (ci := 9) (kf := 1) (z := 166) DX9_init_23 (csh wcM4 (by decide +kernel)) rfl (by decide) (Or.inr (Or.inr ⟨rfl, rfl, rfl, q2225⟩)) (fun _ _ => rfl) rfl rfl (Or.inr (cR wcM4 (by decide +kernel))) ?_
  show VV E mX9_init (d + 1) 26 _ _ (crun cM5 e00) _
  refine v_aload_n 0 DX9_init_26 rfl rfl ?_
  refine v_bipush DX9_init_27 (by decide) ?_
  refine v_newa (t := 0) (z := 6) DX9_init_29 rfl (by decide) q337 rfl (by decide) (cn_ok wcM5 (by decide)) (cz_ok wcM5 (by decide)) ?_
  rw [cnn wcM5]
  show VV E mX9_init (d + 1) 31 _ _ (crun cM6 e00) _
  refine v_putR (ci := 9) (kf := 4) (z := 166) DX9_init_31 (csh wcM6 (by decide +kernel)) rfl (by decide) (Or.inr (Or.inr ⟨rfl, rfl, rfl, q2228⟩)) (fun _ _ => rfl) rfl rfl (Or.inr (cR wcM6 (by decide +kernel))) ?_
  show VV E mX9_init (d + 1) 34 _ _ (crun cM7 e00) _
  refine v_aload_n 0 DX9_init_34 rfl rfl ?_
  refine v_bipush DX9_init_35 (by decide) ?_
  refine v_newa (t := 0) (z := 6) DX9_init_37 rfl (by decide) q337 rfl (by decide) (cn_ok wcM7 (by decide)) (cz_ok wcM7 (by decide)) ?_
  rw [cnn wcM7]
  show VV E mX9_init (d + 1) 39 _ _ (crun cM8 e00) _
  refine v_putR (ci := 9) (kf := 5) (z := 166) DX9_init_39 (csh wcM8 (by decide +kernel)) rfl (by decide) (Or.inr (Or.inr ⟨rfl, rfl, rfl, q2229⟩)) (fun _ _ => rfl) rfl rfl (Or.inr (cR wcM8 (by decide +kernel))) ?_
  show VV E mX9_init (d + 1) 42 _ _ (crun cM9 e00) _
  refine v_aload_n 0 DX9_init_42 rfl rfl ?_
  refine v_bipush DX9_init_43 (by decide) ?_
  refine v_newa (t := 0) (z := 6) DX9_init_45 rfl (by decide) q337 rfl (by decide) (cn_ok wcM9 (by decide)) (cz_ok wcM9 (by decide)) ?_
  rw [cnn wcM9]
  show VV E mX9_init (d + 1) 47 _ _ (crun cM10 e00) _
  refine v_putR (ci := 9) (kf := 6) (z := 166) DX9_init_47 (csh wcM10 (by decide +kernel)) rfl (by decide) (Or.inr (Or.inr ⟨rfl, rfl, rfl, q2230⟩)) (fun _ _ => rfl) rfl rfl (Or.inr (cR wcM10 (by decide +kernel))) ?_
  show VV E mX9_init (d + 1) 50 _ _ (crun cM11 e00) _
  refine v_aload_n 0 DX9_init_50 rfl rfl ?_
  refine v_bipush DX9_init_51 (by decide) ?_
  refine v_newa (t := 0) (z := 6) DX9_init_53 rfl (by decide) q337 rfl (by decide) (cn_ok wcM11 (by decide)) (cz_ok wcM11 (by decide)) ?_
  rw [cnn wcM11]
  show VV E mX9_init (d + 1) 55 _ _ (crun cM12 e00) _
  refine v_putR (ci := 9) (kf := 7) (z := 166) DX9_init_55 (csh wcM12 (by decide +kernel)) rfl (by decide) (Or.inr (Or.inr ⟨rfl, rfl, rfl, q2231⟩)) (fun _ _ => rfl) rfl rfl (Or.inr (cR wcM12 (by decide +kernel))) ?_
  show VV E mX9_init (d + 1) 58 _ _ (crun cM13 e00) _
  refine v_aload_n 0 DX9_init_58 rfl rfl ?_
  refine v_bipush DX9_init_59 (by decide) ?_
  refine v_newa (t := 0) (z := 6) DX9_init_61 rfl (by decide) q337 rfl (by decide) (cn_ok wcM13 (by decide)) (cz_ok wcM13 (by decide)) ?_
  rw [cnn wcM13]
  show VV E mX9_init (d + 1) 63 _ _ (crun cM14 e00) _
  refine v_putR (ci := 9) (kf := 8) (z := 166) DX9_init_63 (csh wcM14 (by decide +kernel)) rfl (by decide) (Or.inr (Or.inr ⟨rfl, rfl, rfl, q2232⟩)) (fun _ _ => rfl) rfl rfl (Or.inr (cR wcM14 (by decide +kernel))) ?_
  show VV E mX9_init (d + 1) 66 _ _ (crun cM15 e00) _
  refine v_aload_n 0 DX9_init_66 rfl rfl ?_
  refine v_sipush DX9_init_67 (by decide) ?_
  refine v_newa (t := 1) (z := 7200) DX9_init_70 rfl (by decide) q336 rfl (by decide) (cn_ok wcM15 (by decide)) (cz_ok wcM15 (by decide)) ?_
  rw [cnn wcM15]
  show VV E mX9_init (d + 1) 72 _ _ (crun cM16 e00) _
  refine v_putR (ci := 9) (kf := 9) (z := 166) DX9_init_72 (csh wcM16 (by decide +kernel)) rfl (by decide) (Or.inr (Or.inr ⟨rfl, rfl, rfl, q2233⟩)) (fun _ _ => rfl) rfl rfl (Or.inr (cR wcM16 (by decide +kernel))) ?_
  show VV E mX9_init (d + 1) 75 _ _ (crun cM17 e00) _
  refine v_aload_n 0 DX9_init_75 rfl rfl ?_
  refine v_sipush DX9_init_76 (by decide) ?_
  refine v_newa (t := 0) (z := 360) DX9_init_79 rfl (by decide) q337 rfl (by decide) (cn_ok wcM17 (by decide)) (cz_ok wcM17 (by decide)) ?_
  rw [cnn wcM17]
  show VV E mX9_init (d + 1) 81 _ _ (crun cM18 e00) _
  refine v_putR (ci := 9) (kf := 10) (z := 166) DX9_init_81 (csh wcM18 (by decide +kernel)) rfl (by decide) (Or.inr (Or.inr ⟨rfl, rfl, rfl, q2234⟩)) (fun _ _ => rfl) rfl rfl (Or.inr (cR wcM18 (by decide +kernel))) ?_
  show VV E mX9_init (d + 1) 84 _ _ (crun cM19 e00) _
  refine v_aload_n 0 DX9_init_84 rfl rfl ?_
  refine v_sipush DX9_init_85 (by decide) ?_
  refine v_newa (t := 1) (z := 30064) DX9_init_88 rfl (by decide) q336 rfl (by decide) (cn_ok wcM19 (by decide)) (cz_ok wcM19 (by decide)) ?_
  rw [cnn wcM19]
  show VV E mX9_init (d + 1) 90 _ _ (crun cM20 e00) _
  refine v_putR (ci := 9) (kf := 11) (z := 166) DX9_init_90 (csh wcM20 (by decide +kernel)) rfl (by decide) (Or.inr (Or.inr ⟨rfl, rfl, rfl, q2235⟩)) (fun _ _ => rfl) rfl rfl (Or.inr (cR wcM20 (by decide +kernel))) ?_
  show VV E mX9_init (d + 1) 93 _ _ (crun cM21 e00) _
  refine v_aload_n 0 DX9_init_93 rfl rfl ?_
  refine v_sipush DX9_init_94 (by decide) ?_
  refine v_newa (t := 3) (z := 30064) DX9_init_97 rfl (by decide) q807 rfl (by decide) (cn_ok wcM21 (by decide)) (cz_ok wcM21 (by decide)) ?_
  rw [cnn wcM21]
  show VV E mX9_init (d + 1) 99 _ _ (crun cM22 e00) _
  refine v_putR (ci := 9) (kf := 13) (z := 166) DX9_init_99 (csh wcM22 (by decide +kernel)) rfl (by decide) (Or.inr (Or.inr ⟨rfl, rfl, rfl, q2237⟩)) (fun _ _ => rfl) rfl rfl (Or.inr (cR wcM22 (by decide +kernel))) ?_
  show VV E mX9_init (d + 1) 102 _ _ (crun cM23 e00) _
  refine v_aload_n 0 DX9_init_102 rfl rfl ?_
  refine v_sipush DX9_init_103 (by decide) ?_
  refine v_newa (t := 1) (z := 6000) DX9_init_106 rfl (by decide) q336 rfl (by decide) (cn_ok wcM23 (by decide)) (cz_ok wcM23 (by decide)) ?_
  rw [cnn wcM23]
  show VV E mX9_init (d + 1) 108 _ _ (crun cM24 e00) _
  refine v_putR (ci := 9) (kf := 14) (z := 166) DX9_init_108 (csh wcM24 (by decide +kernel)) rfl (by decide) (Or.inr (Or.inr ⟨rfl, rfl, rfl, q2238⟩)) (fun _ _ => rfl) rfl rfl (Or.inr (cR wcM24 (by decide +kernel))) ?_
  show VV E mX9_init (d + 1) 111 _ _ (crun cM25 e00) _
  refine v_aload_n 0 DX9_init_111 rfl rfl ?_
  refine v_sipush DX9_init_112 (by decide) ?_
  refine v_newa (t := 0) (z := 300) DX9_init_115 rfl (by decide) q337 rfl (by decide) (cn_ok wcM25 (by decide)) (cz_ok wcM25 (by decide)) ?_
  rw [cnn wcM25]
  show VV E mX9_init (d + 1) 117 _ _ (crun cM26 e00) _
  refine v_putR (ci := 9) (kf := 15) (z := 166) DX9_init_117 (csh wcM26 (by decide +kernel)) rfl (by decide) (Or.inr (Or.inr ⟨rfl, rfl, rfl, q2239⟩)) (fun _ _ => rfl) rfl rfl (Or.inr (cR wcM26 (by decide +kernel))) ?_
  show VV E mX9_init (d + 1) 120 _ _ (crun cM27 e00) _
  refine v_aload_n 0 DX9_init_120 rfl rfl ?_
  refine v_sipush DX9_init_121 (by decide) ?_
  refine v_newa (t := 0) (z := 300) DX9_init_124 rfl (by decide) q337 rfl (by decide) (cn_ok wcM27 (by decide)) (cz_ok wcM27 (by decide)) ?_
  rw [cnn wcM27]
  show VV E mX9_init (d + 1) 126 _ _ (crun cM28 e00) _
  refine v_putR (ci := 9) (kf := 16) (z := 166) DX9_init_126 (csh wcM28 (by decide +kernel)) rfl (by decide) (Or.inr (Or.inr ⟨rfl, rfl, rfl, q2240⟩)) (fun _ _ => rfl) rfl rfl (Or.inr (cR wcM28 (by decide +kernel))) ?_
  show VV E mX9_init (d + 1) 129 _ _ (crun cM29 e00) _
  refine v_aload_n 0 DX9_init_129 rfl rfl ?_
  refine v_sipush DX9_init_130 (by decide) ?_
  refine v_newa (t := 0) (z := 300) DX9_init_133 rfl (by decide) q337 rfl (by decide) (cn_ok wcM29 (by decide)) (cz_ok wcM29 (by decide)) ?_
  rw [cnn wcM29]
  show VV E mX9_init (d + 1) 135 _ _ (crun cM30 e00) _
  refine v_putR (ci := 9) (kf := 17) (z := 166) DX9_init_135 (csh wcM30 (by decide +kernel)) rfl (by decide) (Or.inr (Or.inr ⟨rfl, rfl, rfl, q2241⟩)) (fun _ _ => rfl) rfl rfl (Or.inr (cR wcM30 (by decide +kernel))) ?_
  show VV E mX9_init (d + 1) 138 _ _ (crun cM31 e00) _
  refine v_aload_n 0 DX9_init_138 rfl rfl ?_
  refine v_sipush DX9_init_139 (by decide) ?_
  refine v_newa (t := 0) (z := 300) DX9_init_142 rfl (by decide) q337 rfl (by decide) (cn_ok wcM31 (by decide)) (cz_ok wcM31 (by decide)) ?_
  rw [cnn wcM31]
  show VV E mX9_init (d + 1) 144 _ _ (crun cM32 e00) _
  refine v_putR (ci := 9) (kf := 18) (z := 166) DX9_init_144 (csh wcM32 (by decide +kernel)) rfl (by decide) (Or.inr (Or.inr ⟨rfl, rfl, rfl, q2242⟩)) (fun _ _ => rfl) rfl rfl (Or.inr (cR wcM32 (by decide +kernel))) ?_
  show VV E mX9_init (d + 1) 147 _ _ (crun cM33 e00) _
  refine v_aload_n 0 DX9_init_147 rfl rfl ?_
  refine v_sipush DX9_init_148 (by decide) ?_
  refine v_newa (t := 1) (z := 6000) DX9_init_151 rfl (by decide) q336 rfl (by decide) (cn_ok wcM33 (by decide)) (cz_ok wcM33 (by decide)) ?_
  rw [cnn wcM33]
  show VV E mX9_init (d + 1) 153 _ _ (crun cM34 e00) _
  refine v_putR (ci := 9) (kf := 20) (z := 166) DX9_init_153 (csh wcM34 (by decide +kernel)) rfl (by decide) (Or.inr (Or.inr ⟨rfl, rfl, rfl, q2244⟩)) (fun _ _ => rfl) rfl rfl (Or.inr (cR wcM34 (by decide +kernel))) ?_
  show VV E mX9_init (d + 1) 156 _ _ (crun cM35 e00) _
  refine v_aload_n 0 DX9_init_156 rfl rfl ?_
  refine v_sipush DX9_init_157 (by decide) ?_
  refine v_newa (t := 0) (z := 300) DX9_init_160 rfl (by decide) q337 rfl (by decide) (cn_ok wcM35 (by decide)) (cz_ok wcM35 (by decide)) ?_
  rw [cnn wcM35]
  show VV E mX9_init (d + 1) 162 _ _ (crun cM36 e00) _
  refine v_putR (ci := 9) (kf := 21) (z := 166) DX9_init_162 (csh wcM36 (by decide +kernel)) rfl (by decide) (Or.inr (Or.inr ⟨rfl, rfl, rfl, q2245⟩)) (fun _ _ => rfl) rfl rfl (Or.inr (cR wcM36 (by decide +kernel))) ?_
  show VV E mX9_init (d + 1) 165 _ _ (crun cM37 e00) _
  refine v_aload_n 0 DX9_init_165 rfl rfl ?_
  refine v_sipush DX9_init_166 (by decide) ?_
  refine v_newa (t := 1) (z := 30064) DX9_init_169 rfl (by decide) q336 rfl (by decide) (cn_ok wcM37 (by decide)) (cz_ok wcM37 (by decide)) ?_
  rw [cnn wcM37]
  show VV E mX9_init (d + 1) 171 _ _ (crun cM38 e00) _
  refine v_putR (ci := 9) (kf := 23) (z := 166) DX9_init_171 (csh wcM38 (by decide +kernel)) rfl (by decide) (Or.inr (Or.inr ⟨rfl, rfl, rfl, q2247⟩)) (fun _ _ => rfl) rfl rfl (Or.inr (cR wcM38 (by decide +kernel))) ?_
  show VV E mX9_init (d + 1) 174 _ _ (crun cM39 e00) _
  refine v_aload_n 0 DX9_init_174 rfl rfl ?_
  refine v_sipush DX9_init_175 (by decide) ?_
  refine v_newa (t := 0) (z := 1200) DX9_init_178 rfl (by decide) q337 rfl (by decide) (cn_ok wcM39 (by decide)) (cz_ok wcM39 (by decide)) ?_
  rw [cnn wcM39]
  show VV E mX9_init (d + 1) 180 _ _ (crun cM40 e00) _
  refine v_putR (ci := 9) (kf := 25) (z := 166) DX9_init_180 (csh wcM40 (by decide +kernel)) rfl (by decide) (Or.inr (Or.inr ⟨rfl, rfl, rfl, q2249⟩)) (fun _ _ => rfl) rfl rfl (Or.inr (cR wcM40 (by decide +kernel))) ?_
  show VV E mX9_init (d + 1) 183 _ _ (crun cM41 e00) _
  refine v_aload_n 0 DX9_init_183 rfl rfl ?_
  refine v_sipush DX9_init_184 (by decide) ?_
  refine v_newa (t := 1) (z := 6000) DX9_init_187 rfl (by decide) q336 rfl (by decide) (cn_ok wcM41 (by decide)) (cz_ok wcM41 (by decide)) ?_
  rw [cnn wcM41]
  show VV E mX9_init (d + 1) 189 _ _ (crun cM42 e00) _
  refine v_putR (ci := 9) (kf := 26) (z := 166) DX9_init_189 (csh wcM42 (by decide +kernel)) rfl (by decide) (Or.inr (Or.inr ⟨rfl, rfl, rfl, q2250⟩)) (fun _ _ => rfl) rfl rfl (Or.inr (cR wcM42 (by decide +kernel))) ?_
  show VV E mX9_init (d + 1) 192 _ _ (crun cM43 e00) _
  refine v_aload_n 0 DX9_init_192 rfl rfl ?_
  refine v_bipush DX9_init_193 (by decide) ?_
  refine v_newa (t := 0) (z := 12) DX9_init_195 rfl (by decide) q337 rfl (by decide) (cn_ok wcM43 (by decide)) (cz_ok wcM43 (by decide)) ?_
  rw [cnn wcM43]
  show VV E mX9_init (d + 1) 197 _ _ (crun cM44 e00) _
  refine v_putR (ci := 9) (kf := 28) (z := 166) DX9_init_197 (csh wcM44 (by decide +kernel)) rfl (by decide) (Or.inr (Or.inr ⟨rfl, rfl, rfl, q2252⟩)) (fun _ _ => rfl) rfl rfl (Or.inr (cR wcM44 (by decide +kernel))) ?_
  show VV E mX9_init (d + 1) 200 _ _ (crun cM45 e00) _
  refine v_aload_n 0 DX9_init_200 rfl rfl ?_
  refine v_bipush DX9_init_201 (by decide) ?_
  refine v_newa (t := 0) (z := 12) DX9_init_203 rfl (by decide) q337 rfl (by decide) (cn_ok wcM45 (by decide)) (cz_ok wcM45 (by decide)) ?_
  rw [cnn wcM45]
  show VV E mX9_init (d + 1) 205 _ _ (crun cM46 e00) _
  refine v_putR (ci := 9) (kf := 29) (z := 166) DX9_init_205 (csh wcM46 (by decide +kernel)) rfl (by decide) (Or.inr (Or.inr ⟨rfl, rfl, rfl, q2253⟩)) (fun _ _ => rfl) rfl rfl (Or.inr (cR wcM46 (by decide +kernel))) ?_
  show VV E mX9_init (d + 1) 208 _ _ (crun cM47 e00) _
  refine v_aload_n 0 DX9_init_208 rfl rfl ?_
  refine v_sipush DX9_init_209 (by decide) ?_
  refine v_newa (t := 0) (z := 6000) DX9_init_212 rfl (by decide) q337 rfl (by decide) (cn_ok wcM47 (by decide)) (cz_ok wcM47 (by decide)) ?_
  rw [cnn wcM47]
  show VV E mX9_init (d + 1) 214 _ _ (crun cM48 e00) _
  refine v_putR (ci := 9) (kf := 31) (z := 166) DX9_init_214 (csh wcM48 (by decide +kernel)) rfl (by decide) (Or.inr (Or.inr ⟨rfl, rfl, rfl, q2255⟩)) (fun _ _ => rfl) rfl rfl (Or.inr (cR wcM48 (by decide +kernel))) ?_
  show VV E mX9_init (d + 1) 217 _ _ (crun cM49 e00) _
  refine v_aload_n 0 DX9_init_217 rfl rfl ?_
  refine v_sipush DX9_init_218 (by decide) ?_
  refine v_newa (t := 0) (z := 6001) DX9_init_221 rfl (by decide) q337 rfl (by decide) (cn_ok wcM49 (by decide)) (cz_ok wcM49 (by decide)) ?_
  rw [cnn wcM49]
  show VV E mX9_init (d + 1) 223 _ _ (crun cM50 e00) _
  refine v_putR (ci := 9) (kf := 32) (z := 166) DX9_init_223 (csh wcM50 (by decide +kernel)) rfl (by decide) (Or.inr (Or.inr ⟨rfl, rfl, rfl, q2256⟩)) (fun _ _ => rfl) rfl rfl (Or.inr (cR wcM50 (by decide +kernel))) ?_
  show VV E mX9_init (d + 1) 226 _ _ (crun cM51 e00) _
  refine v_aload_n 0 DX9_init_226 rfl rfl ?_
  refine v_sipush DX9_init_227 (by decide) ?_
  refine v_newa (t := 0) (z := 6000) DX9_init_230 rfl (by decide) q337 rfl (by decide) (cn_ok wcM51 (by decide)) (cz_ok wcM51 (by decide)) ?_
  rw [cnn wcM51]
  show VV E mX9_init (d + 1) 232 _ _ (crun cM52 e00) _
  refine v_putR (ci := 9) (kf := 33) (z := 166) DX9_init_232 (csh wcM52 (by decide +kernel)) rfl (by decide) (Or.inr (Or.inr ⟨rfl, rfl, rfl, q2257⟩)) (fun _ _ => rfl) rfl rfl (Or.inr (cR wcM52 (by decide +kernel))) ?_
  show VV E mX9_init (d + 1) 235 _ _ (crun cM53 e00) _
  refine v_aload_n 0 DX9_init_235 rfl rfl ?_
  refine v_sipush DX9_init_236 (by decide) ?_
  refine v_newa (t := 0) (z := 6001) DX9_init_239 rfl (by decide) q337 rfl (by decide) (cn_ok wcM53 (by decide)) (cz_ok wcM53 (by decide)) ?_
  rw [cnn wcM53]
  show VV E mX9_init (d + 1) 241 _ _ (crun cM54 e00) _
  refine v_putR (ci := 9) (kf := 34) (z := 166) DX9_init_241 (csh wcM54 (by decide +kernel)) rfl (by decide) (Or.inr (Or.inr ⟨rfl, rfl, rfl, q2258⟩)) (fun _ _ => rfl) rfl rfl (Or.inr (cR wcM54 (by decide +kernel))) ?_
  show VV E mX9_init (d + 1) 244 _ _ (crun cM55 e00) _
  refine v_aload_n 0 DX9_init_244 rfl rfl ?_
  refine v_sipush DX9_init_245 (by decide) ?_
  refine v_newa (t := 4) (z := 6000) DX9_init_248 rfl (by decide) q806 rfl (by decide) (cn_ok wcM55 (by decide)) (cz_ok wcM55 (by decide)) ?_
  rw [cnn wcM55]
  show VV E mX9_init (d + 1) 250 _ _ (crun cM56 e00) _
  refine v_putR (ci := 9) (kf := 35) (z := 166) DX9_init_250 (csh wcM56 (by decide +kernel)) rfl (by decide) (Or.inr (Or.inr ⟨rfl, rfl, rfl, q2259⟩)) (fun _ _ => rfl) rfl rfl (Or.inr (cR wcM56 (by decide +kernel))) ?_
  show VV E mX9_init (d + 1) 253 _ _ (crun cM57 e00) _
  refine v_aload_n 0 DX9_init_253 rfl rfl ?_
  refine v_sipush DX9_init_254 (by decide) ?_
  refine v_newa (t := 0) (z := 24000) DX9_init_257 rfl (by decide) q337 rfl (by decide) (cn_ok wcM57 (by decide)) (cz_ok wcM57 (by decide)) ?_
  rw [cnn wcM57]
  show VV E mX9_init (d + 1) 259 _ _ (crun cM58 e00) _
  refine v_putR (ci := 9) (kf := 36) (z := 166) DX9_init_259 (csh wcM58 (by decide +kernel)) rfl (by decide) (Or.inr (Or.inr ⟨rfl, rfl, rfl, q2260⟩)) (fun _ _ => rfl) rfl rfl (Or.inr (cR wcM58 (by decide +kernel))) ?_
  show VV E mX9_init (d + 1) 262 _ _ (crun cM59 e00) _
  refine v_aload_n 0 DX9_init_262 rfl rfl ?_
  refine v_ldc (x := 60000) DX9_init_263 q2215 rfl ?_
  refine v_newa (t := 1) (z := 60000) DX9_init_265 rfl (by decide) q336 rfl (by decide) (cn_ok wcM59 (by decide)) (cz_ok wcM59 (by decide)) ?_
  rw [cnn wcM59]
  show VV E mX9_init (d + 1) 267 _ _ (crun cM60 e00) _
  refine v_putR (ci := 9) (kf := 37) (z := 166) DX9_init_267 (csh wcM60 (by decide +kernel)) rfl (by decide) (Or.inr (Or.inr ⟨rfl, rfl, rfl, q2261⟩)) (fun _ _ => rfl) rfl rfl (Or.inr (cR wcM60 (by decide +kernel))) ?_
  show VV E mX9_init (d + 1) 270 _ _ (crun cM61 e00) _
  refine v_aload_n 0 DX9_init_270 rfl rfl ?_
  refine v_ldc (x := 480000) DX9_init_271 q2216 rfl ?_
  refine v_newa (t := 1) (z := 480000) DX9_init_273 rfl (by decide) q336 rfl (by decide) (cn_ok wcM61 (by decide)) (cz_ok wcM61 (by decide)) ?_
  rw [cnn wcM61]
  show VV E mX9_init (d + 1) 275 _ _ (crun cM62 e00) _
  refine v_putR (ci := 9) (kf := 39) (z := 166) DX9_init_275 (csh wcM62 (by decide +kernel)) rfl (by decide) (Or.inr (Or.inr ⟨rfl, rfl, rfl, q2263⟩)) (fun _ _ => rfl) rfl rfl (Or.inr (cR wcM62 (by decide +kernel))) ?_
  show VV E mX9_init (d + 1) 278 _ _ (crun cM63 e00) _
  refine v_aload_n 0 DX9_init_278 rfl rfl ?_
  refine v_sipush DX9_init_279 (by decide) ?_
  refine v_newa (t := 0) (z := 24000) DX9_init_282 rfl (by decide) q337 rfl (by decide) (cn_ok wcM63 (by decide)) (cz_ok wcM63 (by decide)) ?_
  rw [cnn wcM63]
  show VV E mX9_init (d + 1) 284 _ _ (crun cM64 e00) _
  refine v_putR (ci := 9) (kf := 40) (z := 166) DX9_init_284 (csh wcM64 (by decide +kernel)) rfl (by decide) (Or.inr (Or.inr ⟨rfl, rfl, rfl, q2264⟩)) (fun _ _ => rfl) rfl rfl (Or.inr (cR wcM64 (by decide +kernel))) ?_
  show VV E mX9_init (d + 1) 287 _ _ (crun cM65 e00) _
  refine v_aload_n 0 DX9_init_287 rfl rfl ?_
  refine v_sipush DX9_init_288 (by decide) ?_
  refine v_newa (t := 0) (z := 24000) DX9_init_291 rfl (by decide) q337 rfl (by decide) (cn_ok wcM65 (by decide)) (cz_ok wcM65 (by decide)) ?_
  rw [cnn wcM65]
  show VV E mX9_init (d + 1) 293 _ _ (crun cM66 e00) _
  refine v_putR (ci := 9) (kf := 41) (z := 166) DX9_init_293 (csh wcM66 (by decide +kernel)) rfl (by decide) (Or.inr (Or.inr ⟨rfl, rfl, rfl, q2265⟩)) (fun _ _ => rfl) rfl rfl (Or.inr (cR wcM66 (by decide +kernel))) ?_
  show VV E mX9_init (d + 1) 296 _ _ (crun cM67 e00) _
  refine v_aload_n 0 DX9_init_296 rfl rfl ?_
  refine v_sipush DX9_init_297 (by decide) ?_
  refine v_newa (t := 0) (z := 24000) DX9_init_300 rfl (by decide) q337 rfl (by decide) (cn_ok wcM67 (by decide)) (cz_ok wcM67 (by decide)) ?_
  rw [cnn wcM67]
  show VV E mX9_init (d + 1) 302 _ _ (crun cM68 e00) _
  refine v_putR (ci := 9) (kf := 42) (z := 166) DX9_init_302 (csh wcM68 (by decide +kernel)) rfl (by decide) (Or.inr (Or.inr ⟨rfl, rfl, rfl, q2266⟩)) (fun _ _ => rfl) rfl rfl (Or.inr (cR wcM68 (by decide +kernel))) ?_
  show VV E mX9_init (d + 1) 305 _ _ (crun cM69 e00) _
  refine v_aload_n 0 DX9_init_305 rfl rfl ?_
  refine v_sipush DX9_init_306 (by decide) ?_
  refine v_newa (t := 0) (z := 24000) DX9_init_309 rfl (by decide) q337 rfl (by decide) (cn_ok wcM69 (by decide)) (cz_ok wcM69 (by decide)) ?_
  rw [cnn wcM69]
  show VV E mX9_init (d + 1) 311 _ _ (crun cM70 e00) _
  refine v_putR (ci := 9) (kf := 43) (z := 166) DX9_init_311 (csh wcM70 (by decide +kernel)) rfl (by decide) (Or.inr (Or.inr ⟨rfl, rfl, rfl, q2267⟩)) (fun _ _ => rfl) rfl rfl (Or.inr (cR wcM70 (by decide +kernel))) ?_
  show VV E mX9_init (d + 1) 314 _ _ (crun cM71 e00) _
  refine v_aload_n 0 DX9_init_314 rfl rfl ?_
  refine v_sipush DX9_init_315 (by decide) ?_
  refine v_newa (t := 0) (z := 601) DX9_init_318 rfl (by decide) q337 rfl (by decide) (cn_ok wcM71 (by decide)) (cz_ok wcM71 (by decide)) ?_
  rw [cnn wcM71]
  show VV E mX9_init (d + 1) 320 _ _ (crun cM72 e00) _
  refine v_putR (ci := 9) (kf := 46) (z := 166) DX9_init_320 (csh wcM72 (by decide +kernel)) rfl (by decide) (Or.inr (Or.inr ⟨rfl, rfl, rfl, q2270⟩)) (fun _ _ => rfl) rfl rfl (Or.inr (cR wcM72 (by decide +kernel))) ?_
  show VV E mX9_init (d + 1) 323 _ _ (crun cM73 e00) _
  refine v_aload_n 0 DX9_init_323 rfl rfl ?_
  refine v_sipush DX9_init_324 (by decide) ?_
  refine v_newa (t := 0) (z := 601) DX9_init_327 rfl (by decide) q337 rfl (by decide) (cn_ok wcM73 (by decide)) (cz_ok wcM73 (by decide)) ?_
  rw [cnn wcM73]
  show VV E mX9_init (d + 1) 329 _ _ (crun cM74 e00) _
  refine v_putR (ci := 9) (kf := 47) (z := 166) DX9_init_329 (csh wcM74 (by decide +kernel)) rfl (by decide) (Or.inr (Or.inr ⟨rfl, rfl, rfl, q2271⟩)) (fun _ _ => rfl) rfl rfl (Or.inr (cR wcM74 (by decide +kernel))) ?_
  show VV E mX9_init (d + 1) 332 _ _ (crun cM75 e00) _
  refine v_aload_n 0 DX9_init_332 rfl rfl ?_
  refine v_sipush DX9_init_333 (by decide) ?_
  refine v_newa (t := 0) (z := 601) DX9_init_336 rfl (by decide) q337 rfl (by decide) (cn_ok wcM75 (by decide)) (cz_ok wcM75 (by decide)) ?_
  rw [cnn wcM75]
  show VV E mX9_init (d + 1) 338 _ _ (crun cM76 e00) _
  refine v_putR (ci := 9) (kf := 48) (z := 166) DX9_init_338 (csh wcM76 (by decide +kernel)) rfl (by decide) (Or.inr (Or.inr ⟨rfl, rfl, rfl, q2272⟩)) (fun _ _ => rfl) rfl rfl (Or.inr (cR wcM76 (by decide +kernel))) ?_
  show VV E mX9_init (d + 1) 341 _ _ (crun cM77 e00) _
  refine v_aload_n 0 DX9_init_341 rfl rfl ?_
  refine v_sipush DX9_init_342 (by decide) ?_
  refine v_newa (t := 3) (z := 601) DX9_init_345 rfl (by decide) q807 rfl (by decide) (cn_ok wcM77 (by decide)) (cz_ok wcM77 (by decide)) ?_
  rw [cnn wcM77]
  show VV E mX9_init (d + 1) 347 _ _ (crun cM78 e00) _
  refine v_putR (ci := 9) (kf := 49) (z := 166) DX9_init_347 (csh wcM78 (by decide +kernel)) rfl (by decide) (Or.inr (Or.inr ⟨rfl, rfl, rfl, q2273⟩)) (fun _ _ => rfl) rfl rfl (Or.inr (cR wcM78 (by decide +kernel))) ?_
  show VV E mX9_init (d + 1) 350 _ _ (crun cM79 e00) _
  refine v_aload_n 0 DX9_init_350 rfl rfl ?_
  refine v_sipush DX9_init_351 (by decide) ?_
  refine v_newa (t := 0) (z := 601) DX9_init_354 rfl (by decide) q337 rfl (by decide) (cn_ok wcM79 (by decide)) (cz_ok wcM79 (by decide)) ?_
  rw [cnn wcM79]
  show VV E mX9_init (d + 1) 356 _ _ (crun cM80 e00) _
  refine v_putR (ci := 9) (kf := 50) (z := 166) DX9_init_356 (csh wcM80 (by decide +kernel)) rfl (by decide) (Or.inr (Or.inr ⟨rfl, rfl, rfl, q2274⟩)) (fun _ _ => rfl) rfl rfl (Or.inr (cR wcM80 (by decide +kernel))) ?_
  show VV E mX9_init (d + 1) 359 _ _ (crun cM81 e00) _
  refine v_aload_n 0 DX9_init_359 rfl rfl ?_
  refine v_sipush DX9_init_360 (by decide) ?_
  refine v_newa (t := 0) (z := 601) DX9_init_363 rfl (by decide) q337 rfl (by decide) (cn_ok wcM81 (by decide)) (cz_ok wcM81 (by decide)) ?_
  rw [cnn wcM81]
  show VV E mX9_init (d + 1) 365 _ _ (crun cM82 e00) _
  refine v_putR (ci := 9) (kf := 51) (z := 166) DX9_init_365 (csh wcM82 (by decide +kernel)) rfl (by decide) (Or.inr (Or.inr ⟨rfl, rfl, rfl, q2275⟩)) (fun _ _ => rfl) rfl rfl (Or.inr (cR wcM82 (by decide +kernel))) ?_
  show VV E mX9_init (d + 1) 368 _ _ (crun cM83 e00) _
  refine v_aload_n 0 DX9_init_368 rfl rfl ?_
  refine v_iconst DX9_init_369 ?_
  refine v_newa (t := 0) (z := 4) DX9_init_370 rfl (by decide) q337 rfl (by decide) (cn_ok wcM83 (by decide)) (cz_ok wcM83 (by decide)) ?_
  rw [cnn wcM83]
  show VV E mX9_init (d + 1) 372 _ _ (crun cM84 e00) _
  refine v_dup DX9_init_372 rfl ?_
  refine v_iconst DX9_init_373 ?_
  refine v_iconst DX9_init_374 ?_
  refine v_iast (z := 4) DX9_init_375 (csh wcM84 (by decide +kernel)) (by decide) (by decide) ⟨by decide, by decide⟩ ?_
  show VV E mX9_init (d + 1) 376 _ _ (crun cM85 e00) _
  refine v_dup DX9_init_376 rfl ?_
  refine v_iconst DX9_init_377 ?_
  refine v_iconst DX9_init_378 ?_
  refine v_iast (z := 4) DX9_init_379 (csh wcM85 (by decide +kernel)) (by decide) (by decide) ⟨by decide, by decide⟩ ?_
  show VV E mX9_init (d + 1) 380 _ _ (crun cM86 e00) _
  refine v_dup DX9_init_380 rfl ?_
  refine v_iconst DX9_init_381 ?_
  refine v_iconst DX9_init_382 ?_
  refine v_iast (z := 4) DX9_init_383 (csh wcM86 (by decide +kernel)) (by decide) (by decide) ⟨by decide, by decide⟩ ?_
  show VV E mX9_init (d + 1) 384 _ _ (crun cM87 e00) _
  refine v_dup DX9_init_384 rfl ?_
  refine v_iconst DX9_init_385 ?_
  refine v_iconst DX9_init_386 ?_
  refine v_iast (z := 4) DX9_init_387 (csh wcM87 (by decide +kernel)) (by decide) (by decide) ⟨by decide, by decide⟩ ?_
  show VV E mX9_init (d + 1) 388 _ _ (crun cM88 e00) _
  refine v_putR (ci := 9) (kf := 56) (z := 166) DX9_init_388 (csh wcM88 (by decide +kernel)) rfl (by decide) (Or.inr (Or.inr ⟨rfl, rfl, rfl, q2280⟩)) (fun _ _ => rfl) rfl rfl (Or.inr (cR wcM88 (by decide +kernel))) ?_
  show VV E mX9_init (d + 1) 391 _ _ (crun cM89 e00) _
  refine v_aload_n 0 DX9_init_391 rfl rfl ?_
  refine v_bipush DX9_init_392 (by decide) ?_
  refine v_newa (t := 3) (z := 8) DX9_init_394 rfl (by decide) q807 rfl (by decide) (cn_ok wcM89 (by decide)) (cz_ok wcM89 (by decide)) ?_
  rw [cnn wcM89]
  show VV E mX9_init (d + 1) 396 _ _ (crun cM90 e00) _
  refine v_putR (ci := 9) (kf := 59) (z := 166) DX9_init_396 (csh wcM90 (by decide +kernel)) rfl (by decide) (Or.inr (Or.inr ⟨rfl, rfl, rfl, q2283⟩)) (fun _ _ => rfl) rfl rfl (Or.inr (cR wcM90 (by decide +kernel))) ?_
  show VV E mX9_init (d + 1) 399 _ _ (crun cM91 e00) _
  refine v_aload_n 0 DX9_init_399 rfl rfl ?_
  refine v_bipush DX9_init_400 (by decide) ?_
  refine v_newa (t := 0) (z := 8) DX9_init_402 rfl (by decide) q337 rfl (by decide) (cn_ok wcM91 (by decide)) (cz_ok wcM91 (by decide)) ?_
  rw [cnn wcM91]
  show VV E mX9_init (d + 1) 404 _ _ (crun cM92 e00) _
  refine v_putR (ci := 9) (kf := 60) (z := 166) DX9_init_404 (csh wcM92 (by decide +kernel)) rfl (by decide) (Or.inr (Or.inr ⟨rfl, rfl, rfl, q2284⟩)) (fun _ _ => rfl) rfl rfl (Or.inr (cR wcM92 (by decide +kernel))) ?_
  show VV E mX9_init (d + 1) 407 _ _ (crun cM93 e00) _
  refine v_aload_n 0 DX9_init_407 rfl rfl ?_
  refine v_bipush DX9_init_408 (by decide) ?_
  refine v_newa (t := 3) (z := 48) DX9_init_410 rfl (by decide) q807 rfl (by decide) (cn_ok wcM93 (by decide)) (cz_ok wcM93 (by decide)) ?_
  rw [cnn wcM93]
  show VV E mX9_init (d + 1) 412 _ _ (crun cM94 e00) _
  refine v_putR (ci := 9) (kf := 62) (z := 166) DX9_init_412 (csh wcM94 (by decide +kernel)) rfl (by decide) (Or.inr (Or.inr ⟨rfl, rfl, rfl, q2286⟩)) (fun _ _ => rfl) rfl rfl (Or.inr (cR wcM94 (by decide +kernel))) ?_
  show VV E mX9_init (d + 1) 415 _ _ (crun cM95 e00) _
  refine v_aload_n 0 DX9_init_415 rfl rfl ?_
  refine v_sipush DX9_init_416 (by decide) ?_
  refine v_newa (t := 3) (z := 601) DX9_init_419 rfl (by decide) q807 rfl (by decide) (cn_ok wcM95 (by decide)) (cz_ok wcM95 (by decide)) ?_
  rw [cnn wcM95]
  show VV E mX9_init (d + 1) 421 _ _ (crun cM96 e00) _
  refine v_putR (ci := 9) (kf := 63) (z := 166) DX9_init_421 (csh wcM96 (by decide +kernel)) rfl (by decide) (Or.inr (Or.inr ⟨rfl, rfl, rfl, q2287⟩)) (fun _ _ => rfl) rfl rfl (Or.inr (cR wcM96 (by decide +kernel))) ?_
  show VV E mX9_init (d + 1) 424 _ _ (crun cM97 e00) _
  refine v_aload_n 0 DX9_init_424 rfl rfl ?_
  refine v_bipush DX9_init_425 (by decide) ?_
  refine v_newa (t := 3) (z := 12) DX9_init_427 rfl (by decide) q807 rfl (by decide) (cn_ok wcM97 (by decide)) (cz_ok wcM97 (by decide)) ?_
  rw [cnn wcM97]
  show VV E mX9_init (d + 1) 429 _ _ (crun cM98 e00) _
  refine v_putR (ci := 9) (kf := 64) (z := 166) DX9_init_429 (csh wcM98 (by decide +kernel)) rfl (by decide) (Or.inr (Or.inr ⟨rfl, rfl, rfl, q2288⟩)) (fun _ _ => rfl) rfl rfl (Or.inr (cR wcM98 (by decide +kernel))) ?_
  show VV E mX9_init (d + 1) 432 _ _ (crun cM99 e00) _
  refine v_aload_n 0 DX9_init_432 rfl rfl ?_
  refine v_sipush DX9_init_433 (by decide) ?_
  refine v_newa (t := 1) (z := 400) DX9_init_436 rfl (by decide) q336 rfl (by decide) (cn_ok wcM99 (by decide)) (cz_ok wcM99 (by decide)) ?_
  rw [cnn wcM99]
  show VV E mX9_init (d + 1) 438 _ _ (crun cM100 e00) _
  refine v_putR (ci := 9) (kf := 65) (z := 166) DX9_init_438 (csh wcM100 (by decide +kernel)) rfl (by decide) (Or.inr (Or.inr ⟨rfl, rfl, rfl, q2289⟩)) (fun _ _ => rfl) rfl rfl (Or.inr (cR wcM100 (by decide +kernel))) ?_
  show VV E mX9_init (d + 1) 441 _ _ (crun cM101 e00) _
  refine v_aload_n 0 DX9_init_441 rfl rfl ?_
  refine v_sipush DX9_init_442 (by decide) ?_
  refine v_newa (t := 1) (z := 8000) DX9_init_445 rfl (by decide) q336 rfl (by decide) (cn_ok wcM101 (by decide)) (cz_ok wcM101 (by decide)) ?_
  rw [cnn wcM101]
  show VV E mX9_init (d + 1) 447 _ _ (crun cM102 e00) _
  refine v_putR (ci := 9) (kf := 68) (z := 166) DX9_init_447 (csh wcM102 (by decide +kernel)) rfl (by decide) (Or.inr (Or.inr ⟨rfl, rfl, rfl, q2292⟩)) (fun _ _ => rfl) rfl rfl (Or.inr (cR wcM102 (by decide +kernel))) ?_
  show VV E mX9_init (d + 1) 450 _ _ (crun cM103 e00) _
  refine v_aload_n 0 DX9_init_450 rfl rfl ?_
  refine v_bipush DX9_init_451 (by decide) ?_
  refine v_newa (t := 0) (z := 20) DX9_init_453 rfl (by decide) q337 rfl (by decide) (cn_ok wcM103 (by decide)) (cz_ok wcM103 (by decide)) ?_
  rw [cnn wcM103]
  show VV E mX9_init (d + 1) 455 _ _ (crun cM104 e00) _
  refine v_putR (ci := 9) (kf := 69) (z := 166) DX9_init_455 (csh wcM104 (by decide +kernel)) rfl (by decide) (Or.inr (Or.inr ⟨rfl, rfl, rfl, q2293⟩)) (fun _ _ => rfl) rfl rfl (Or.inr (cR wcM104 (by decide +kernel))) ?_
  show VV E mX9_init (d + 1) 458 _ _ (crun cM105 e00) _
  refine v_aload_n 0 DX9_init_458 rfl rfl ?_
  refine v_bipush DX9_init_459 (by decide) ?_
  refine v_newa (t := 0) (z := 20) DX9_init_461 rfl (by decide) q337 rfl (by decide) (cn_ok wcM105 (by decide)) (cz_ok wcM105 (by decide)) ?_
  rw [cnn wcM105]
  show VV E mX9_init (d + 1) 463 _ _ (crun cM106 e00) _
  refine v_putR (ci := 9) (kf := 70) (z := 166) DX9_init_463 (csh wcM106 (by decide +kernel)) rfl (by decide) (Or.inr (Or.inr ⟨rfl, rfl, rfl, q2294⟩)) (fun _ _ => rfl) rfl rfl (Or.inr (cR wcM106 (by decide +kernel))) ?_
  show VV E mX9_init (d + 1) 466 _ _ (crun cM107 e00) _
  refine v_aload_n 0 DX9_init_466 rfl rfl ?_
  refine v_sipush DX9_init_467 (by decide) ?_
  refine v_newa (t := 1) (z := 1600) DX9_init_470 rfl (by decide) q336 rfl (by decide) (cn_ok wcM107 (by decide)) (cz_ok wcM107 (by decide)) ?_
  rw [cnn wcM107]
  show VV E mX9_init (d + 1) 472 _ _ (crun cM108 e00) _
  refine v_putR (ci := 9) (kf := 72) (z := 166) DX9_init_472 (csh wcM108 (by decide +kernel)) rfl (by decide) (Or.inr (Or.inr ⟨rfl, rfl, rfl, q2296⟩)) (fun _ _ => rfl) rfl rfl (Or.inr (cR wcM108 (by decide +kernel))) ?_
  show VV E mX9_init (d + 1) 475 _ _ (crun cM109 e00) _
  refine v_aload_n 0 DX9_init_475 rfl rfl ?_
  refine v_iconst DX9_init_476 ?_
  refine v_newa (t := 0) (z := 4) DX9_init_477 rfl (by decide) q337 rfl (by decide) (cn_ok wcM109 (by decide)) (cz_ok wcM109 (by decide)) ?_
  rw [cnn wcM109]
  show VV E mX9_init (d + 1) 479 _ _ (crun cM110 e00) _
  refine v_putR (ci := 9) (kf := 73) (z := 166) DX9_init_479 (csh wcM110 (by decide +kernel)) rfl (by decide) (Or.inr (Or.inr ⟨rfl, rfl, rfl, q2297⟩)) (fun _ _ => rfl) rfl rfl (Or.inr (cR wcM110 (by decide +kernel))) ?_
  show VV E mX9_init (d + 1) 482 _ _ (crun cM111 e00) _
  refine v_aload_n 0 DX9_init_482 rfl rfl ?_
  refine v_aload_n 0 DX9_init_483 rfl rfl ?_
  refine w_getR (ci := 9) (kf := 1) (kz := 1) DX9_init_484 (csh wcM111 (q := (109, 166)) (by decide +kernel)) rfl (by decide) rfl (Or.inl q2225) (fun _ _ => rfl) (cR wcM111 (k := 1) (v := some 557) (by decide +kernel)) ?_
  refine v_putR (ci := 9) (kf := 74) (z := 166) DX9_init_487 (csh wcM111 (by decide +kernel)) rfl (by decide) (Or.inl ⟨rfl, q2298⟩) (fun _ _ => rfl) rfl rfl (Or.inr (cR wcM111 (by decide +kernel))) ?_
  show VV E mX9_init (d + 1) 490 _ _ (crun cM112 e00) _
  refine v_aload_n 0 DX9_init_490 rfl rfl ?_
  refine v_sipush DX9_init_491 (by decide) ?_
  refine v_newa (t := 0) (z := 130) DX9_init_494 rfl (by decide) q337 rfl (by decide) (cn_ok wcM112 (by decide)) (cz_ok wcM112 (by decide)) ?_
  rw [cnn wcM112]
  show VV E mX9_init (d + 1) 496 _ _ (crun cM113 e00) _
  refine v_putR (ci := 9) (kf := 81) (z := 166) DX9_init_496 (csh wcM113 (by decide +kernel)) rfl (by decide) (Or.inr (Or.inr ⟨rfl, rfl, rfl, q2305⟩)) (fun _ _ => rfl) rfl rfl (Or.inr (cR wcM113 (by decide +kernel))) ?_
  show VV E mX9_init (d + 1) 499 _ _ (crun cM114 e00) _
  refine v_aload_n 0 DX9_init_499 rfl rfl ?_
  refine v_sipush DX9_init_500 (by decide) ?_
  refine v_newa (t := 0) (z := 130) DX9_init_503 rfl (by decide) q337 rfl (by decide) (cn_ok wcM114 (by decide)) (cz_ok wcM114 (by decide)) ?_
  rw [cnn wcM114]
  show VV E mX9_init (d + 1) 505 _ _ (crun cM115 e00) _
  refine v_putR (ci := 9) (kf := 82) (z := 166) DX9_init_505 (csh wcM115 (by decide +kernel)) rfl (by decide) (Or.inr (Or.inr ⟨rfl, rfl, rfl, q2306⟩)) (fun _ _ => rfl) rfl rfl (Or.inr (cR wcM115 (by decide +kernel))) ?_
  show VV E mX9_init (d + 1) 508 _ _ (crun cM116 e00) _
  refine v_aload_n 0 DX9_init_508 rfl rfl ?_
  refine v_sipush DX9_init_509 (by decide) ?_
  refine v_newa (t := 0) (z := 130) DX9_init_512 rfl (by decide) q337 rfl (by decide) (cn_ok wcM116 (by decide)) (cz_ok wcM116 (by decide)) ?_
  rw [cnn wcM116]
  show VV E mX9_init (d + 1) 514 _ _ (crun cM117 e00) _
  refine v_putR (ci := 9) (kf := 83) (z := 166) DX9_init_514 (csh wcM117 (by decide +kernel)) rfl (by decide) (Or.inr (Or.inr ⟨rfl, rfl, rfl, q2307⟩)) (fun _ _ => rfl) rfl rfl (Or.inr (cR wcM117 (by decide +kernel))) ?_
  show VV E mX9_init (d + 1) 517 _ _ (crun cM118 e00) _
  refine v_aload_n 0 DX9_init_517 rfl rfl ?_
  refine v_sipush DX9_init_518 (by decide) ?_
  refine v_newa (t := 0) (z := 130) DX9_init_521 rfl (by decide) q337 rfl (by decide) (cn_ok wcM118 (by decide)) (cz_ok wcM118 (by decide)) ?_
  rw [cnn wcM118]
  show VV E mX9_init (d + 1) 523 _ _ (crun cM119 e00) _
  refine v_putR (ci := 9) (kf := 84) (z := 166) DX9_init_523 (csh wcM119 (by decide +kernel)) rfl (by decide) (Or.inr (Or.inr ⟨rfl, rfl, rfl, q2308⟩)) (fun _ _ => rfl) rfl rfl (Or.inr (cR wcM119 (by decide +kernel))) ?_
  show VV E mX9_init (d + 1) 526 _ _ (crun cM120 e00) _
  refine v_aload_n 0 DX9_init_526 rfl rfl ?_
  refine v_sipush DX9_init_527 (by decide) ?_
  refine v_newa (t := 4) (z := 130) DX9_init_530 rfl (by decide) q806 rfl (by decide) (cn_ok wcM120 (by decide)) (cz_ok wcM120 (by decide)) ?_
  rw [cnn wcM120]
  show VV E mX9_init (d + 1) 532 _ _ (crun cM121 e00) _
  refine v_putR (ci := 9) (kf := 85) (z := 166) DX9_init_532 (csh wcM121 (by decide +kernel)) rfl (by decide) (Or.inr (Or.inr ⟨rfl, rfl, rfl, q2309⟩)) (fun _ _ => rfl) rfl rfl (Or.inr (cR wcM121 (by decide +kernel))) ?_
  show VV E mX9_init (d + 1) 535 _ _ (crun cM122 e00) _
  refine v_aload_n 0 DX9_init_535 rfl rfl ?_
  refine v_sipush DX9_init_536 (by decide) ?_
  refine v_newa (t := 0) (z := 130) DX9_init_539 rfl (by decide) q337 rfl (by decide) (cn_ok wcM122 (by decide)) (cz_ok wcM122 (by decide)) ?_
  rw [cnn wcM122]
  show VV E mX9_init (d + 1) 541 _ _ (crun cM123 e00) _
  refine v_putR (ci := 9) (kf := 86) (z := 166) DX9_init_541 (csh wcM123 (by decide +kernel)) rfl (by decide) (Or.inr (Or.inr ⟨rfl, rfl, rfl, q2310⟩)) (fun _ _ => rfl) rfl rfl (Or.inr (cR wcM123 (by decide +kernel))) ?_
  show VV E mX9_init (d + 1) 544 _ _ (crun cM124 e00) _
  refine v_aload_n 0 DX9_init_544 rfl rfl ?_
  refine v_sipush DX9_init_545 (by decide) ?_
  refine v_newa (t := 0) (z := 130) DX9_init_548 rfl (by decide) q337 rfl (by decide) (cn_ok wcM124 (by decide)) (cz_ok wcM124 (by decide)) ?_
  rw [cnn wcM124]
  show VV E mX9_init (d + 1) 550 _ _ (crun cM125 e00) _
  refine v_putR (ci := 9) (kf := 87) (z := 166) DX9_init_550 (csh wcM125 (by decide +kernel)) rfl (by decide) (Or.inr (Or.inr ⟨rfl, rfl, rfl, q2311⟩)) (fun _ _ => rfl) rfl rfl (Or.inr (cR wcM125 (by decide +kernel))) ?_
  show VV E mX9_init (d + 1) 553 _ _ (crun cM126 e00) _
  refine v_aload_n 0 DX9_init_553 rfl rfl ?_
  refine v_sipush DX9_init_554 (by decide) ?_
  refine v_newa (t := 0) (z := 130) DX9_init_557 rfl (by decide) q337 rfl (by decide) (cn_ok wcM126 (by decide)) (cz_ok wcM126 (by decide)) ?_
  rw [cnn wcM126]
  show VV E mX9_init (d + 1) 559 _ _ (crun cM127 e00) _
  refine v_putR (ci := 9) (kf := 88) (z := 166) DX9_init_559 (csh wcM127 (by decide +kernel)) rfl (by decide) (Or.inr (Or.inr ⟨rfl, rfl, rfl, q2312⟩)) (fun _ _ => rfl) rfl rfl (Or.inr (cR wcM127 (by decide +kernel))) ?_
  show VV E mX9_init (d + 1) 562 _ _ (crun cM128 e00) _
  refine v_aload_n 0 DX9_init_562 rfl rfl ?_
  refine v_sipush DX9_init_563 (by decide) ?_
  refine v_newa (t := 0) (z := 130) DX9_init_566 rfl (by decide) q337 rfl (by decide) (cn_ok wcM128 (by decide)) (cz_ok wcM128 (by decide)) ?_
  rw [cnn wcM128]
  show VV E mX9_init (d + 1) 568 _ _ (crun cM129 e00) _
  refine v_putR (ci := 9) (kf := 89) (z := 166) DX9_init_568 (csh wcM129 (by decide +kernel)) rfl (by decide) (Or.inr (Or.inr ⟨rfl, rfl, rfl, q2313⟩)) (fun _ _ => rfl) rfl rfl (Or.inr (cR wcM129 (by decide +kernel))) ?_
  show VV E mX9_init (d + 1) 571 _ _ (crun cM130 e00) _
  refine v_aload_n 0 DX9_init_571 rfl rfl ?_
  refine v_sipush DX9_init_572 (by decide) ?_
  refine v_newa (t := 4) (z := 130) DX9_init_575 rfl (by decide) q806 rfl (by decide) (cn_ok wcM130 (by decide)) (cz_ok wcM130 (by decide)) ?_
  rw [cnn wcM130]
  show VV E mX9_init (d + 1) 577 _ _ (crun cM131 e00) _
  refine v_putR (ci := 9) (kf := 90) (z := 166) DX9_init_577 (csh wcM131 (by decide +kernel)) rfl (by decide) (Or.inr (Or.inr ⟨rfl, rfl, rfl, q2314⟩)) (fun _ _ => rfl) rfl rfl (Or.inr (cR wcM131 (by decide +kernel))) ?_
  show VV E mX9_init (d + 1) 580 _ _ (crun cM132 e00) _
  refine v_aload_n 0 DX9_init_580 rfl rfl ?_
  refine v_sipush DX9_init_581 (by decide) ?_
  refine v_newa (t := 4) (z := 130) DX9_init_584 rfl (by decide) q806 rfl (by decide) (cn_ok wcM132 (by decide)) (cz_ok wcM132 (by decide)) ?_
  rw [cnn wcM132]
  show VV E mX9_init (d + 1) 586 _ _ (crun cM133 e00) _
  refine v_putR (ci := 9) (kf := 91) (z := 166) DX9_init_586 (csh wcM133 (by decide +kernel)) rfl (by decide) (Or.inr (Or.inr ⟨rfl, rfl, rfl, q2315⟩)) (fun _ _ => rfl) rfl rfl (Or.inr (cR wcM133 (by decide +kernel))) ?_
  show VV E mX9_init (d + 1) 589 _ _ (crun cM134 e00) _
  refine v_aload_n 0 DX9_init_589 rfl rfl ?_
  refine v_sipush DX9_init_590 (by decide) ?_
  refine v_newa (t := 4) (z := 130) DX9_init_593 rfl (by decide) q806 rfl (by decide) (cn_ok wcM134 (by decide)) (cz_ok wcM134 (by decide)) ?_
  rw [cnn wcM134]
  show VV E mX9_init (d + 1) 595 _ _ (crun cM135 e00) _
  refine v_putR (ci := 9) (kf := 92) (z := 166) DX9_init_595 (csh wcM135 (by decide +kernel)) rfl (by decide) (Or.inr (Or.inr ⟨rfl, rfl, rfl, q2316⟩)) (fun _ _ => rfl) rfl rfl (Or.inr (cR wcM135 (by decide +kernel))) ?_
  show VV E mX9_init (d + 1) 598 _ _ (crun cM136 e00) _
  refine v_aload_n 0 DX9_init_598 rfl rfl ?_
  refine v_ldc (x := 78130) DX9_init_599 q2217 rfl ?_
  refine v_newa (t := 3) (z := 78130) DX9_init_601 rfl (by decide) q807 rfl (by decide) (cn_ok wcM136 (by decide)) (cz_ok wcM136 (by decide)) ?_
  rw [cnn wcM136]
  show VV E mX9_init (d + 1) 603 _ _ (crun cM137 e00) _
  refine v_putR (ci := 9) (kf := 93) (z := 166) DX9_init_603 (csh wcM137 (by decide +kernel)) rfl (by decide) (Or.inr (Or.inr ⟨rfl, rfl, rfl, q2317⟩)) (fun _ _ => rfl) rfl rfl (Or.inr (cR wcM137 (by decide +kernel))) ?_
  show VV E mX9_init (d + 1) 606 _ _ (crun cM138 e00) _
  refine v_aload_n 0 DX9_init_606 rfl rfl ?_
  refine v_ldc (x := 78130) DX9_init_607 q2217 rfl ?_
  refine v_newa (t := 4) (z := 78130) DX9_init_609 rfl (by decide) q806 rfl (by decide) (cn_ok wcM138 (by decide)) (cz_ok wcM138 (by decide)) ?_
  rw [cnn wcM138]
  show VV E mX9_init (d + 1) 611 _ _ (crun cM139 e00) _
  refine v_putR (ci := 9) (kf := 94) (z := 166) DX9_init_611 (csh wcM139 (by decide +kernel)) rfl (by decide) (Or.inr (Or.inr ⟨rfl, rfl, rfl, q2318⟩)) (fun _ _ => rfl) rfl rfl (Or.inr (cR wcM139 (by decide +kernel))) ?_
  show VV E mX9_init (d + 1) 614 _ _ (crun cM140 e00) _
  refine v_aload_n 0 DX9_init_614 rfl rfl ?_
  refine v_ldc (x := 78130) DX9_init_615 q2217 rfl ?_
  refine v_newa (t := 0) (z := 78130) DX9_init_617 rfl (by decide) q337 rfl (by decide) (cn_ok wcM140 (by decide)) (cz_ok wcM140 (by decide)) ?_
  rw [cnn wcM140]
  show VV E mX9_init (d + 1) 619 _ _ (crun cM141 e00) _
  refine v_putR (ci := 9) (kf := 95) (z := 166) DX9_init_619 (csh wcM141 (by decide +kernel)) rfl (by decide) (Or.inr (Or.inr ⟨rfl, rfl, rfl, q2319⟩)) (fun _ _ => rfl) rfl rfl (Or.inr (cR wcM141 (by decide +kernel))) ?_
  show VV E mX9_init (d + 1) 622 _ _ (crun cM142 e00) _
  refine v_aload_n 0 DX9_init_622 rfl rfl ?_
  refine v_sipush DX9_init_623 (by decide) ?_
  refine v_newa (t := 3) (z := 601) DX9_init_626 rfl (by decide) q807 rfl (by decide) (cn_ok wcM142 (by decide)) (cz_ok wcM142 (by decide)) ?_
  rw [cnn wcM142]
  show VV E mX9_init (d + 1) 628 _ _ (crun cM143 e00) _
  refine v_putR (ci := 9) (kf := 96) (z := 166) DX9_init_628 (csh wcM143 (by decide +kernel)) rfl (by decide) (Or.inr (Or.inr ⟨rfl, rfl, rfl, q2320⟩)) (fun _ _ => rfl) rfl rfl (Or.inr (cR wcM143 (by decide +kernel))) ?_
  show VV E mX9_init (d + 1) 631 _ _ (crun cM144 e00) _
  refine v_aload_n 0 DX9_init_631 rfl rfl ?_
  refine v_sipush DX9_init_632 (by decide) ?_
  refine v_newa (t := 4) (z := 601) DX9_init_635 rfl (by decide) q806 rfl (by decide) (cn_ok wcM144 (by decide)) (cz_ok wcM144 (by decide)) ?_
  rw [cnn wcM144]
  show VV E mX9_init (d + 1) 637 _ _ (crun cM145 e00) _
  refine v_putR (ci := 9) (kf := 97) (z := 166) DX9_init_637 (csh wcM145 (by decide +kernel)) rfl (by decide) (Or.inr (Or.inr ⟨rfl, rfl, rfl, q2321⟩)) (fun _ _ => rfl) rfl rfl (Or.inr (cR wcM145 (by decide +kernel))) ?_
  show VV E mX9_init (d + 1) 640 _ _ (crun cM146 e00) _
  refine v_aload_n 0 DX9_init_640 rfl rfl ?_
  refine v_bipush DX9_init_641 (by decide) ?_
  refine v_newa (t := 1) (z := 20) DX9_init_643 rfl (by decide) q336 rfl (by decide) (cn_ok wcM146 (by decide)) (cz_ok wcM146 (by decide)) ?_
  rw [cnn wcM146]
  show VV E mX9_init (d + 1) 645 _ _ (crun cM147 e00) _
  refine v_putR (ci := 9) (kf := 99) (z := 166) DX9_init_645 (csh wcM147 (by decide +kernel)) rfl (by decide) (Or.inr (Or.inr ⟨rfl, rfl, rfl, q2323⟩)) (fun _ _ => rfl) rfl rfl (Or.inr (cR wcM147 (by decide +kernel))) ?_
  show VV E mX9_init (d + 1) 648 _ _ (crun cM148 e00) _
  refine v_aload_n 0 DX9_init_648 rfl rfl ?_
  refine v_sipush DX9_init_649 (by decide) ?_
  refine v_newa (t := 0) (z := 441) DX9_init_652 rfl (by decide) q337 rfl (by decide) (cn_ok wcM148 (by decide)) (cz_ok wcM148 (by decide)) ?_
  rw [cnn wcM148]
  show VV E mX9_init (d + 1) 654 _ _ (crun cM149 e00) _
  refine v_putR (ci := 9) (kf := 101) (z := 166) DX9_init_654 (csh wcM149 (by decide +kernel)) rfl (by decide) (Or.inr (Or.inr ⟨rfl, rfl, rfl, q2325⟩)) (fun _ _ => rfl) rfl rfl (Or.inr (cR wcM149 (by decide +kernel))) ?_
  show VV E mX9_init (d + 1) 657 _ _ (crun cM150 e00) _
  refine v_aload_n 0 DX9_init_657 rfl rfl ?_
  refine v_ldc (x := 120000) DX9_init_658 q2218 rfl ?_
  refine v_newa (t := 1) (z := 120000) DX9_init_660 rfl (by decide) q336 rfl (by decide) (cn_ok wcM150 (by decide)) (cz_ok wcM150 (by decide)) ?_
  rw [cnn wcM150]
  show VV E mX9_init (d + 1) 662 _ _ (crun cM151 e00) _
  refine v_putR (ci := 9) (kf := 102) (z := 166) DX9_init_662 (csh wcM151 (by decide +kernel)) rfl (by decide) (Or.inr (Or.inr ⟨rfl, rfl, rfl, q2326⟩)) (fun _ _ => rfl) rfl rfl (Or.inr (cR wcM151 (by decide +kernel))) ?_
  show VV E mX9_init (d + 1) 665 _ _ (crun cM152 e00) _
  refine v_aload_n 0 DX9_init_665 rfl rfl ?_
  refine v_sipush DX9_init_666 (by decide) ?_
  refine v_newa (t := 0) (z := 6000) DX9_init_669 rfl (by decide) q337 rfl (by decide) (cn_ok wcM152 (by decide)) (cz_ok wcM152 (by decide)) ?_
  rw [cnn wcM152]
  show VV E mX9_init (d + 1) 671 _ _ (crun cM153 e00) _
  refine v_putR (ci := 9) (kf := 103) (z := 166) DX9_init_671 (csh wcM153 (by decide +kernel)) rfl (by decide) (Or.inr (Or.inr ⟨rfl, rfl, rfl, q2327⟩)) (fun _ _ => rfl) rfl rfl (Or.inr (cR wcM153 (by decide +kernel))) ?_
  show VV E mX9_init (d + 1) 674 _ _ (crun cM154 e00) _
  refine v_aload_n 0 DX9_init_674 rfl rfl ?_
  refine v_sipush DX9_init_675 (by decide) ?_
  refine v_newa (t := 0) (z := 6000) DX9_init_678 rfl (by decide) q337 rfl (by decide) (cn_ok wcM154 (by decide)) (cz_ok wcM154 (by decide)) ?_
  rw [cnn wcM154]
  show VV E mX9_init (d + 1) 680 _ _ (crun cM155 e00) _
  refine v_putR (ci := 9) (kf := 104) (z := 166) DX9_init_680 (csh wcM155 (by decide +kernel)) rfl (by decide) (Or.inr (Or.inr ⟨rfl, rfl, rfl, q2328⟩)) (fun _ _ => rfl) rfl rfl (Or.inr (cR wcM155 (by decide +kernel))) ?_
  show VV E mX9_init (d + 1) 683 _ _ (crun cM156 e00) _
  refine v_aload_n 0 DX9_init_683 rfl rfl ?_
  refine v_sipush DX9_init_684 (by decide) ?_
  refine v_newa (t := 0) (z := 130) DX9_init_687 rfl (by decide) q337 rfl (by decide) (cn_ok wcM156 (by decide)) (cz_ok wcM156 (by decide)) ?_
  rw [cnn wcM156]
  show VV E mX9_init (d + 1) 689 _ _ (crun cM157 e00) _
  refine v_putR (ci := 9) (kf := 106) (z := 166) DX9_init_689 (csh wcM157 (by decide +kernel)) rfl (by decide) (Or.inr (Or.inr ⟨rfl, rfl, rfl, q2330⟩)) (fun _ _ => rfl) rfl rfl (Or.inr (cR wcM157 (by decide +kernel))) ?_
  show VV E mX9_init (d + 1) 692 _ _ (crun cM158 e00) _
  refine v_aload_n 0 DX9_init_692 rfl rfl ?_
  refine v_sipush DX9_init_693 (by decide) ?_
  refine v_newa (t := 0) (z := 130) DX9_init_696 rfl (by decide) q337 rfl (by decide) (cn_ok wcM158 (by decide)) (cz_ok wcM158 (by decide)) ?_
  rw [cnn wcM158]
  show VV E mX9_init (d + 1) 698 _ _ (crun cM159 e00) _
  refine v_putR (ci := 9) (kf := 107) (z := 166) DX9_init_698 (csh wcM159 (by decide +kernel)) rfl (by decide) (Or.inr (Or.inr ⟨rfl, rfl, rfl, q2331⟩)) (fun _ _ => rfl) rfl rfl (Or.inr (cR wcM159 (by decide +kernel))) ?_
  show VV E mX9_init (d + 1) 701 _ _ (crun cM160 e00) _
  refine v_aload_n 0 DX9_init_701 rfl rfl ?_
  refine v_bipush DX9_init_702 (by decide) ?_
  refine v_newa (t := 0) (z := 16) DX9_init_704 rfl (by decide) q337 rfl (by decide) (cn_ok wcM160 (by decide)) (cz_ok wcM160 (by decide)) ?_
  rw [cnn wcM160]
  show VV E mX9_init (d + 1) 706 _ _ (crun cM161 e00) _
  refine v_putR (ci := 9) (kf := 109) (z := 166) DX9_init_706 (csh wcM161 (by decide +kernel)) rfl (by decide) (Or.inr (Or.inr ⟨rfl, rfl, rfl, q2333⟩)) (fun _ _ => rfl) rfl rfl (Or.inr (cR wcM161 (by decide +kernel))) ?_
  show VV E mX9_init (d + 1) 709 _ _ (crun cM162 e00) _
  refine v_aload_n 0 DX9_init_709 rfl rfl ?_
  refine v_sipush DX9_init_710 (by decide) ?_
  refine v_newa (t := 3) (z := 16384) DX9_init_713 rfl (by decide) q807 rfl (by decide) (cn_ok wcM162 (by decide)) (cz_ok wcM162 (by decide)) ?_
  rw [cnn wcM162]
  show VV E mX9_init (d + 1) 715 _ _ (crun cM163 e00) _
  refine v_putR (ci := 9) (kf := 110) (z := 166) DX9_init_715 (csh wcM163 (by decide +kernel)) rfl (by decide) (Or.inr (Or.inr ⟨rfl, rfl, rfl, q2334⟩)) (fun _ _ => rfl) rfl rfl (Or.inr (cR wcM163 (by decide +kernel))) ?_
  show VV E mX9_init (d + 1) 718 _ _ (crun cM164 e00) _
  refine v_aload_n 0 DX9_init_718 rfl rfl ?_
  refine v_sipush DX9_init_719 (by decide) ?_
  refine v_newa (t := 0) (z := 1024) DX9_init_722 rfl (by decide) q337 rfl (by decide) (cn_ok wcM164 (by decide)) (cz_ok wcM164 (by decide)) ?_
  rw [cnn wcM164]
  show VV E mX9_init (d + 1) 724 _ _ (crun cM165 e00) _
  refine v_putR (ci := 9) (kf := 111) (z := 166) DX9_init_724 (csh wcM165 (by decide +kernel)) rfl (by decide) (Or.inr (Or.inr ⟨rfl, rfl, rfl, q2335⟩)) (fun _ _ => rfl) rfl rfl (Or.inr (cR wcM165 (by decide +kernel))) ?_
  show VV E mX9_init (d + 1) 727 _ _ (crun cM166 e00) _
  refine v_aload_n 0 DX9_init_727 rfl rfl ?_
  refine v_sipush DX9_init_728 (by decide) ?_
  refine v_newa (t := 3) (z := 1024) DX9_init_731 rfl (by decide) q807 rfl (by decide) (cn_ok wcM166 (by decide)) (cz_ok wcM166 (by decide)) ?_
  rw [cnn wcM166]
  show VV E mX9_init (d + 1) 733 _ _ (crun cM167 e00) _
  refine v_putR (ci := 9) (kf := 112) (z := 166) DX9_init_733 (csh wcM167 (by decide +kernel)) rfl (by decide) (Or.inr (Or.inr ⟨rfl, rfl, rfl, q2336⟩)) (fun _ _ => rfl) rfl rfl (Or.inr (cR wcM167 (by decide +kernel))) ?_
  show VV E mX9_init (d + 1) 736 _ _ (crun cM168 e00) _
  refine v_aload_n 0 DX9_init_736 rfl rfl ?_
  refine v_sipush DX9_init_737 (by decide) ?_
  refine v_newa (t := 0) (z := 600) DX9_init_740 rfl (by decide) q337 rfl (by decide) (cn_ok wcM168 (by decide)) (cz_ok wcM168 (by decide)) ?_
  rw [cnn wcM168]
  show VV E mX9_init (d + 1) 742 _ _ (crun cM169 e00) _
  refine v_putR (ci := 9) (kf := 116) (z := 166) DX9_init_742 (csh wcM169 (by decide +kernel)) rfl (by decide) (Or.inr (Or.inr ⟨rfl, rfl, rfl, q2340⟩)) (fun _ _ => rfl) rfl rfl (Or.inr (cR wcM169 (by decide +kernel))) ?_
  show VV E mX9_init (d + 1) 745 _ _ (crun cM170 e00) _
  refine v_aload_n 0 DX9_init_745 rfl rfl ?_
  refine v_sipush DX9_init_746 (by decide) ?_
  refine v_newa (t := 4) (z := 600) DX9_init_749 rfl (by decide) q806 rfl (by decide) (cn_ok wcM170 (by decide)) (cz_ok wcM170 (by decide)) ?_
  rw [cnn wcM170]
  show VV E mX9_init (d + 1) 751 _ _ (crun cM171 e00) _
  refine v_putR (ci := 9) (kf := 117) (z := 166) DX9_init_751 (csh wcM171 (by decide +kernel)) rfl (by decide) (Or.inr (Or.inr ⟨rfl, rfl, rfl, q2341⟩)) (fun _ _ => rfl) rfl rfl (Or.inr (cR wcM171 (by decide +kernel))) ?_
  show VV E mX9_init (d + 1) 754 _ _ (crun cM172 e00) _
  refine v_aload_n 0 DX9_init_754 rfl rfl ?_
  refine v_bipush DX9_init_755 (by decide) ?_
  refine v_newa (t := 3) (z := 12) DX9_init_757 rfl (by decide) q807 rfl (by decide) (cn_ok wcM172 (by decide)) (cz_ok wcM172 (by decide)) ?_
  rw [cnn wcM172]
  show VV E mX9_init (d + 1) 759 _ _ (crun cM173 e00) _
  refine v_putR (ci := 9) (kf := 118) (z := 166) DX9_init_759 (csh wcM173 (by decide +kernel)) rfl (by decide) (Or.inr (Or.inr ⟨rfl, rfl, rfl, q2342⟩)) (fun _ _ => rfl) rfl rfl (Or.inr (cR wcM173 (by decide +kernel))) ?_
  show VV E mX9_init (d + 1) 762 _ _ (crun cM174 e00) _
  refine v_aload_n 0 DX9_init_762 rfl rfl ?_
  refine v_sipush DX9_init_763 (by decide) ?_
  refine v_newa (t := 1) (z := 400) DX9_init_766 rfl (by decide) q336 rfl (by decide) (cn_ok wcM174 (by decide)) (cz_ok wcM174 (by decide)) ?_
  rw [cnn wcM174]
  show VV E mX9_init (d + 1) 768 _ _ (crun cM175 e00) _
  refine v_putR (ci := 9) (kf := 119) (z := 166) DX9_init_768 (csh wcM175 (by decide +kernel)) rfl (by decide) (Or.inr (Or.inr ⟨rfl, rfl, rfl, q2343⟩)) (fun _ _ => rfl) rfl rfl (Or.inr (cR wcM175 (by decide +kernel))) ?_
  show VV E mX9_init (d + 1) 771 _ _ (crun cM176 e00) _
  refine v_aload_n 0 DX9_init_771 rfl rfl ?_
  refine v_ldc (x := 78130) DX9_init_772 q2217 rfl ?_
  refine v_newa (t := 3) (z := 78130) DX9_init_774 rfl (by decide) q807 rfl (by decide) (cn_ok wcM176 (by decide)) (cz_ok wcM176 (by decide)) ?_
  rw [cnn wcM176]
  show VV E mX9_init (d + 1) 776 _ _ (crun cM177 e00) _
  refine v_putR (ci := 9) (kf := 121) (z := 166) DX9_init_776 (csh wcM177 (by decide +kernel)) rfl (by decide) (Or.inr (Or.inr ⟨rfl, rfl, rfl, q2345⟩)) (fun _ _ => rfl) rfl rfl (Or.inr (cR wcM177 (by decide +kernel))) ?_
  show VV E mX9_init (d + 1) 779 _ _ (crun cM178 e00) _
  refine v_aload_n 0 DX9_init_779 rfl rfl ?_
  refine v_ldc (x := 78130) DX9_init_780 q2217 rfl ?_
  refine v_newa (t := 4) (z := 78130) DX9_init_782 rfl (by decide) q806 rfl (by decide) (cn_ok wcM178 (by decide)) (cz_ok wcM178 (by decide)) ?_
  rw [cnn wcM178]
  show VV E mX9_init (d + 1) 784 _ _ (crun cM179 e00) _
  refine v_putR (ci := 9) (kf := 122) (z := 166) DX9_init_784 (csh wcM179 (by decide +kernel)) rfl (by decide) (Or.inr (Or.inr ⟨rfl, rfl, rfl, q2346⟩)) (fun _ _ => rfl) rfl rfl (Or.inr (cR wcM179 (by decide +kernel))) ?_
  show VV E mX9_init (d + 1) 787 _ _ (crun cM180 e00) _
  refine v_aload_n 0 DX9_init_787 rfl rfl ?_
  refine v_ldc (x := 78130) DX9_init_788 q2217 rfl ?_
  refine v_newa (t := 0) (z := 78130) DX9_init_790 rfl (by decide) q337 rfl (by decide) (cn_ok wcM180 (by decide)) (cz_ok wcM180 (by decide)) ?_
  rw [cnn wcM180]
  show VV E mX9_init (d + 1) 792 _ _ (crun cM181 e00) _
  refine v_putR (ci := 9) (kf := 123) (z := 166) DX9_init_792 (csh wcM181 (by decide +kernel)) rfl (by decide) (Or.inr (Or.inr ⟨rfl, rfl, rfl, q2347⟩)) (fun _ _ => rfl) rfl rfl (Or.inr (cR wcM181 (by decide +kernel))) ?_
  show VV E mX9_init (d + 1) 795 _ _ (crun cM182 e00) _
  refine v_aload_n 0 DX9_init_795 rfl rfl ?_
  refine v_ldc (x := 120000) DX9_init_796 q2218 rfl ?_
  refine v_newa (t := 1) (z := 120000) DX9_init_798 rfl (by decide) q336 rfl (by decide) (cn_ok wcM182 (by decide)) (cz_ok wcM182 (by decide)) ?_
  rw [cnn wcM182]
  show VV E mX9_init (d + 1) 800 _ _ (crun cM183 e00) _
  refine v_putR (ci := 9) (kf := 124) (z := 166) DX9_init_800 (csh wcM183 (by decide +kernel)) rfl (by decide) (Or.inr (Or.inr ⟨rfl, rfl, rfl, q2348⟩)) (fun _ _ => rfl) rfl rfl (Or.inr (cR wcM183 (by decide +kernel))) ?_
  show VV E mX9_init (d + 1) 803 _ _ (crun cM184 e00) _
  refine v_aload_n 0 DX9_init_803 rfl rfl ?_
  refine v_sipush DX9_init_804 (by decide) ?_
  refine v_newa (t := 0) (z := 6000) DX9_init_807 rfl (by decide) q337 rfl (by decide) (cn_ok wcM184 (by decide)) (cz_ok wcM184 (by decide)) ?_
  rw [cnn wcM184]
  show VV E mX9_init (d + 1) 809 _ _ (crun cM185 e00) _
  refine v_putR (ci := 9) (kf := 125) (z := 166) DX9_init_809 (csh wcM185 (by decide +kernel)) rfl (by decide) (Or.inr (Or.inr ⟨rfl, rfl, rfl, q2349⟩)) (fun _ _ => rfl) rfl rfl (Or.inr (cR wcM185 (by decide +kernel))) ?_
  show VV E mX9_init (d + 1) 812 _ _ (crun cM186 e00) _
  refine v_aload_n 0 DX9_init_812 rfl rfl ?_
  refine v_sipush DX9_init_813 (by decide) ?_
  refine v_newa (t := 0) (z := 6000) DX9_init_816 rfl (by decide) q337 rfl (by decide) (cn_ok wcM186 (by decide)) (cz_ok wcM186 (by decide)) ?_
  rw [cnn wcM186]
  show VV E mX9_init (d + 1) 818 _ _ (crun cM187 e00) _
  refine v_putR (ci := 9) (kf := 126) (z := 166) DX9_init_818 (csh wcM187 (by decide +kernel)) rfl (by decide) (Or.inr (Or.inr ⟨rfl, rfl, rfl, q2350⟩)) (fun _ _ => rfl) rfl rfl (Or.inr (cR wcM187 (by decide +kernel))) ?_
  show VV E mX9_init (d + 1) 821 _ _ (crun cM188 e00) _
  refine v_aload_n 0 DX9_init_821 rfl rfl ?_
  refine v_sipush DX9_init_822 (by decide) ?_
  refine v_newa (t := 0) (z := 2080) DX9_init_825 rfl (by decide) q337 rfl (by decide) (cn_ok wcM188 (by decide)) (cz_ok wcM188 (by decide)) ?_
  rw [cnn wcM188]
  show VV E mX9_init (d + 1) 827 _ _ (crun cM189 e00) _
  refine v_putR (ci := 9) (kf := 127) (z := 166) DX9_init_827 (csh wcM189 (by decide +kernel)) rfl (by decide) (Or.inr (Or.inr ⟨rfl, rfl, rfl, q2351⟩)) (fun _ _ => rfl) rfl rfl (Or.inr (cR wcM189 (by decide +kernel))) ?_
  show VV E mX9_init (d + 1) 830 _ _ (crun cM190 e00) _
  refine v_aload_n 0 DX9_init_830 rfl rfl ?_
  refine v_sipush DX9_init_831 (by decide) ?_
  refine v_newa (t := 0) (z := 2080) DX9_init_834 rfl (by decide) q337 rfl (by decide) (cn_ok wcM190 (by decide)) (cz_ok wcM190 (by decide)) ?_
  rw [cnn wcM190]
  show VV E mX9_init (d + 1) 836 _ _ (crun cM191 e00) _
  refine v_putR (ci := 9) (kf := 128) (z := 166) DX9_init_836 (csh wcM191 (by decide +kernel)) rfl (by decide) (Or.inr (Or.inr ⟨rfl, rfl, rfl, q2352⟩)) (fun _ _ => rfl) rfl rfl (Or.inr (cR wcM191 (by decide +kernel))) ?_
  show VV E mX9_init (d + 1) 839 _ _ (crun cM192 e00) _
  refine v_aload_n 0 DX9_init_839 rfl rfl ?_
  refine v_sipush DX9_init_840 (by decide) ?_
  refine v_newa (t := 0) (z := 130) DX9_init_843 rfl (by decide) q337 rfl (by decide) (cn_ok wcM192 (by decide)) (cz_ok wcM192 (by decide)) ?_
  rw [cnn wcM192]
  show VV E mX9_init (d + 1) 845 _ _ (crun cM193 e00) _
  refine v_putR (ci := 9) (kf := 129) (z := 166) DX9_init_845 (csh wcM193 (by decide +kernel)) rfl (by decide) (Or.inr (Or.inr ⟨rfl, rfl, rfl, q2353⟩)) (fun _ _ => rfl) rfl rfl (Or.inr (cR wcM193 (by decide +kernel))) ?_
  show VV E mX9_init (d + 1) 848 _ _ (crun cM194 e00) _
  refine v_aload_n 0 DX9_init_848 rfl rfl ?_
  refine v_sipush DX9_init_849 (by decide) ?_
  refine v_newa (t := 0) (z := 130) DX9_init_852 rfl (by decide) q337 rfl (by decide) (cn_ok wcM194 (by decide)) (cz_ok wcM194 (by decide)) ?_
  rw [cnn wcM194]
  show VV E mX9_init (d + 1) 854 _ _ (crun cM195 e00) _
  refine v_putR (ci := 9) (kf := 130) (z := 166) DX9_init_854 (csh wcM195 (by decide +kernel)) rfl (by decide) (Or.inr (Or.inr ⟨rfl, rfl, rfl, q2354⟩)) (fun _ _ => rfl) rfl rfl (Or.inr (cR wcM195 (by decide +kernel))) ?_
  show VV E mX9_init (d + 1) 857 _ _ (crun cM196 e00) _
  refine v_aload_n 0 DX9_init_857 rfl rfl ?_
  refine v_iconst DX9_init_858 ?_
  refine v_putI (ci := 9) (kf := 131) (z := 166) DX9_init_859 (csh wcM196 (by decide +kernel)) rfl (by decide) (Or.inl ⟨rfl, q2355⟩) (fun _ _ => rfl) ⟨by decide, by decide⟩ rfl rfl ?_
  show VV E mX9_init (d + 1) 862 _ _ (crun cM197 e00) _
  refine v_aload_n 0 DX9_init_862 rfl rfl ?_
  refine v_sipush DX9_init_863 (by decide) ?_
  refine v_newa (t := 4) (z := 601) DX9_init_866 rfl (by decide) q806 rfl (by decide) (cn_ok wcM197 (by decide)) (cz_ok wcM197 (by decide)) ?_
  rw [cnn wcM197]
  show VV E mX9_init (d + 1) 868 _ _ (crun cM198 e00) _
  refine v_putR (ci := 9) (kf := 136) (z := 166) DX9_init_868 (csh wcM198 (by decide +kernel)) rfl (by decide) (Or.inr (Or.inr ⟨rfl, rfl, rfl, q2360⟩)) (fun _ _ => rfl) rfl rfl (Or.inr (cR wcM198 (by decide +kernel))) ?_
  show VV E mX9_init (d + 1) 871 _ _ (crun cM199 e00) _
  refine v_aload_n 0 DX9_init_871 rfl rfl ?_
  refine v_sipush DX9_init_872 (by decide) ?_
  refine v_newa (t := 3) (z := 601) DX9_init_875 rfl (by decide) q807 rfl (by decide) (cn_ok wcM199 (by decide)) (cz_ok wcM199 (by decide)) ?_
  rw [cnn wcM199]
  show VV E mX9_init (d + 1) 877 _ _ (crun cM200 e00) _
  refine v_putR (ci := 9) (kf := 137) (z := 166) DX9_init_877 (csh wcM200 (by decide +kernel)) rfl (by decide) (Or.inr (Or.inr ⟨rfl, rfl, rfl, q2361⟩)) (fun _ _ => rfl) rfl rfl (Or.inr (cR wcM200 (by decide +kernel))) ?_
  show VV E mX9_init (d + 1) 880 _ _ (crun cM201 e00) _
  refine v_aload_n 0 DX9_init_880 rfl rfl ?_
  refine v_sipush DX9_init_881 (by decide) ?_
  refine v_newa (t := 4) (z := 520) DX9_init_884 rfl (by decide) q806 rfl (by decide) (cn_ok wcM201 (by decide)) (cz_ok wcM201 (by decide)) ?_
  rw [cnn wcM201]
  show VV E mX9_init (d + 1) 886 _ _ (crun cM202 e00) _
  refine v_putR (ci := 9) (kf := 138) (z := 166) DX9_init_886 (csh wcM202 (by decide +kernel)) rfl (by decide) (Or.inr (Or.inr ⟨rfl, rfl, rfl, q2362⟩)) (fun _ _ => rfl) rfl rfl (Or.inr (cR wcM202 (by decide +kernel))) ?_
  show VV E mX9_init (d + 1) 889 _ _ (crun cM203 e00) _
  refine v_aload_n 0 DX9_init_889 rfl rfl ?_
  refine v_sipush DX9_init_890 (by decide) ?_
  refine v_newa (t := 3) (z := 24000) DX9_init_893 rfl (by decide) q807 rfl (by decide) (cn_ok wcM203 (by decide)) (cz_ok wcM203 (by decide)) ?_
  rw [cnn wcM203]
  show VV E mX9_init (d + 1) 895 _ _ (crun cM204 e00) _
  refine v_putR (ci := 9) (kf := 139) (z := 166) DX9_init_895 (csh wcM204 (by decide +kernel)) rfl (by decide) (Or.inr (Or.inr ⟨rfl, rfl, rfl, q2363⟩)) (fun _ _ => rfl) rfl rfl (Or.inr (cR wcM204 (by decide +kernel))) ?_
  show VV E mX9_init (d + 1) 898 _ _ (crun cM205 e00) _
  refine v_aload_n 0 DX9_init_898 rfl rfl ?_
  refine v_sipush DX9_init_899 (by decide) ?_
  refine v_newa (t := 0) (z := 18000) DX9_init_902 rfl (by decide) q337 rfl (by decide) (cn_ok wcM205 (by decide)) (cz_ok wcM205 (by decide)) ?_
  rw [cnn wcM205]
  show VV E mX9_init (d + 1) 904 _ _ (crun cM206 e00) _
  refine v_putR (ci := 9) (kf := 140) (z := 166) DX9_init_904 (csh wcM206 (by decide +kernel)) rfl (by decide) (Or.inr (Or.inr ⟨rfl, rfl, rfl, q2364⟩)) (fun _ _ => rfl) rfl rfl (Or.inr (cR wcM206 (by decide +kernel))) ?_
  show VV E mX9_init (d + 1) 907 _ _ (crun cM207 e00) _
  refine v_aload_n 0 DX9_init_907 rfl rfl ?_
  refine v_sipush DX9_init_908 (by decide) ?_
  refine v_newa (t := 0) (z := 6000) DX9_init_911 rfl (by decide) q337 rfl (by decide) (cn_ok wcM207 (by decide)) (cz_ok wcM207 (by decide)) ?_
  rw [cnn wcM207]
  show VV E mX9_init (d + 1) 913 _ _ (crun cM208 e00) _
  refine v_putR (ci := 9) (kf := 142) (z := 166) DX9_init_913 (csh wcM208 (by decide +kernel)) rfl (by decide) (Or.inr (Or.inr ⟨rfl, rfl, rfl, q2366⟩)) (fun _ _ => rfl) rfl rfl (Or.inr (cR wcM208 (by decide +kernel))) ?_
  show VV E mX9_init (d + 1) 916 _ _ (crun cM209 e00) _
  refine v_aload_n 0 DX9_init_916 rfl rfl ?_
  refine v_sipush DX9_init_917 (by decide) ?_
  refine v_newa (t := 0) (z := 6000) DX9_init_920 rfl (by decide) q337 rfl (by decide) (cn_ok wcM209 (by decide)) (cz_ok wcM209 (by decide)) ?_
  rw [cnn wcM209]
  show VV E mX9_init (d + 1) 922 _ _ (crun cM210 e00) _
  refine v_putR (ci := 9) (kf := 143) (z := 166) DX9_init_922 (csh wcM210 (by decide +kernel)) rfl (by decide) (Or.inr (Or.inr ⟨rfl, rfl, rfl, q2367⟩)) (fun _ _ => rfl) rfl rfl (Or.inr (cR wcM210 (by decide +kernel))) ?_
  show VV E mX9_init (d + 1) 925 _ _ (crun cM211 e00) _
  refine v_aload_n 0 DX9_init_925 rfl rfl ?_
  refine v_sipush DX9_init_926 (by decide) ?_
  refine v_newa (t := 0) (z := 6000) DX9_init_929 rfl (by decide) q337 rfl (by decide) (cn_ok wcM211 (by decide)) (cz_ok wcM211 (by decide)) ?_
  rw [cnn wcM211]
  show VV E mX9_init (d + 1) 931 _ _ (crun cM212 e00) _
  refine v_putR (ci := 9) (kf := 144) (z := 166) DX9_init_931 (csh wcM212 (by decide +kernel)) rfl (by decide) (Or.inr (Or.inr ⟨rfl, rfl, rfl, q2368⟩)) (fun _ _ => rfl) rfl rfl (Or.inr (cR wcM212 (by decide +kernel))) ?_
  show VV E mX9_init (d + 1) 934 _ _ (crun cM213 e00) _
  refine v_aload_n 0 DX9_init_934 rfl rfl ?_
  refine v_sipush DX9_init_935 (by decide) ?_
  refine v_newa (t := 4) (z := 6000) DX9_init_938 rfl (by decide) q806 rfl (by decide) (cn_ok wcM213 (by decide)) (cz_ok wcM213 (by decide)) ?_
  rw [cnn wcM213]
  show VV E mX9_init (d + 1) 940 _ _ (crun cM214 e00) _
  refine v_putR (ci := 9) (kf := 145) (z := 166) DX9_init_940 (csh wcM214 (by decide +kernel)) rfl (by decide) (Or.inr (Or.inr ⟨rfl, rfl, rfl, q2369⟩)) (fun _ _ => rfl) rfl rfl (Or.inr (cR wcM214 (by decide +kernel))) ?_
  show VV E mX9_init (d + 1) 943 _ _ (crun cM215 e00) _
  refine v_aload_n 0 DX9_init_943 rfl rfl ?_
  refine v_sipush DX9_init_944 (by decide) ?_
  refine v_newa (t := 0) (z := 6000) DX9_init_947 rfl (by decide) q337 rfl (by decide) (cn_ok wcM215 (by decide)) (cz_ok wcM215 (by decide)) ?_
  rw [cnn wcM215]
  show VV E mX9_init (d + 1) 949 _ _ (crun cM216 e00) _
  refine v_putR (ci := 9) (kf := 146) (z := 166) DX9_init_949 (csh wcM216 (by decide +kernel)) rfl (by decide) (Or.inr (Or.inr ⟨rfl, rfl, rfl, q2370⟩)) (fun _ _ => rfl) rfl rfl (Or.inr (cR wcM216 (by decide +kernel))) ?_
  show VV E mX9_init (d + 1) 952 _ _ (crun cM217 e00) _
  refine v_aload_n 0 DX9_init_952 rfl rfl ?_
  refine v_ldc_w (x := 65536) DX9_init_953 q2219 rfl ?_
  refine v_newa (t := 0) (z := 65536) DX9_init_956 rfl (by decide) q337 rfl (by decide) (cn_ok wcM217 (by decide)) (cz_ok wcM217 (by decide)) ?_
  rw [cnn wcM217]
  show VV E mX9_init (d + 1) 958 _ _ (crun cM218 e00) _
  refine v_putR (ci := 9) (kf := 147) (z := 166) DX9_init_958 (csh wcM218 (by decide +kernel)) rfl (by decide) (Or.inr (Or.inr ⟨rfl, rfl, rfl, q2371⟩)) (fun _ _ => rfl) rfl rfl (Or.inr (cR wcM218 (by decide +kernel))) ?_
  show VV E mX9_init (d + 1) 961 _ _ (crun cM219 e00) _
  refine v_aload_n 0 DX9_init_961 rfl rfl ?_
  refine v_sipush DX9_init_962 (by decide) ?_
  refine v_newa (t := 0) (z := 24000) DX9_init_965 rfl (by decide) q337 rfl (by decide) (cn_ok wcM219 (by decide)) (cz_ok wcM219 (by decide)) ?_
  rw [cnn wcM219]
  show VV E mX9_init (d + 1) 967 _ _ (crun cM220 e00) _
  refine v_putR (ci := 9) (kf := 149) (z := 166) DX9_init_967 (csh wcM220 (by decide +kernel)) rfl (by decide) (Or.inr (Or.inr ⟨rfl, rfl, rfl, q2373⟩)) (fun _ _ => rfl) rfl rfl (Or.inr (cR wcM220 (by decide +kernel))) ?_
  show VV E mX9_init (d + 1) 970 _ _ (crun cM221 e00) _
  refine v_aload_n 0 DX9_init_970 rfl rfl ?_
  refine v_sipush DX9_init_971 (by decide) ?_
  refine v_newa (t := 0) (z := 24000) DX9_init_974 rfl (by decide) q337 rfl (by decide) (cn_ok wcM221 (by decide)) (cz_ok wcM221 (by decide)) ?_
  rw [cnn wcM221]
  show VV E mX9_init (d + 1) 976 _ _ (crun cM222 e00) _
  refine v_putR (ci := 9) (kf := 150) (z := 166) DX9_init_976 (csh wcM222 (by decide +kernel)) rfl (by decide) (Or.inr (Or.inr ⟨rfl, rfl, rfl, q2374⟩)) (fun _ _ => rfl) rfl rfl (Or.inr (cR wcM222 (by decide +kernel))) ?_
  show VV E mX9_init (d + 1) 979 _ _ (crun cM223 e00) _
  refine v_aload_n 0 DX9_init_979 rfl rfl ?_
  refine v_sipush DX9_init_980 (by decide) ?_
  refine v_newa (t := 0) (z := 24000) DX9_init_983 rfl (by decide) q337 rfl (by decide) (cn_ok wcM223 (by decide)) (cz_ok wcM223 (by decide)) ?_
  rw [cnn wcM223]
  show VV E mX9_init (d + 1) 985 _ _ (crun cM224 e00) _
  refine v_putR (ci := 9) (kf := 151) (z := 166) DX9_init_985 (csh wcM224 (by decide +kernel)) rfl (by decide) (Or.inr (Or.inr ⟨rfl, rfl, rfl, q2375⟩)) (fun _ _ => rfl) rfl rfl (Or.inr (cR wcM224 (by decide +kernel))) ?_
  show VV E mX9_init (d + 1) 988 _ _ (crun cM225 e00) _
  refine v_aload_n 0 DX9_init_988 rfl rfl ?_
  refine v_sipush DX9_init_989 (by decide) ?_
  refine v_newa (t := 0) (z := 24000) DX9_init_992 rfl (by decide) q337 rfl (by decide) (cn_ok wcM225 (by decide)) (cz_ok wcM225 (by decide)) ?_
  rw [cnn wcM225]
  show VV E mX9_init (d + 1) 994 _ _ (crun cM226 e00) _
  refine v_putR (ci := 9) (kf := 152) (z := 166) DX9_init_994 (csh wcM226 (by decide +kernel)) rfl (by decide) (Or.inr (Or.inr ⟨rfl, rfl, rfl, q2376⟩)) (fun _ _ => rfl) rfl rfl (Or.inr (cR wcM226 (by decide +kernel))) ?_
  show VV E mX9_init (d + 1) 997 _ _ (crun cM227 e00) _
  refine v_aload_n 0 DX9_init_997 rfl rfl ?_
  refine v_sipush DX9_init_998 (by decide) ?_
  refine v_newa (t := 0) (z := 24000) DX9_init_1001 rfl (by decide) q337 rfl (by decide) (cn_ok wcM227 (by decide)) (cz_ok wcM227 (by decide)) ?_
  rw [cnn wcM227]
  show VV E mX9_init (d + 1) 1003 _ _ (crun cM228 e00) _
  refine v_putR (ci := 9) (kf := 153) (z := 166) DX9_init_1003 (csh wcM228 (by decide +kernel)) rfl (by decide) (Or.inr (Or.inr ⟨rfl, rfl, rfl, q2377⟩)) (fun _ _ => rfl) rfl rfl (Or.inr (cR wcM228 (by decide +kernel))) ?_
  show VV E mX9_init (d + 1) 1006 _ _ (crun cM229 e00) _
  refine v_aload_n 0 DX9_init_1006 rfl rfl ?_
  refine v_sipush DX9_init_1007 (by decide) ?_
  refine v_newa (t := 1) (z := 200) DX9_init_1010 rfl (by decide) q336 rfl (by decide) (cn_ok wcM229 (by decide)) (cz_ok wcM229 (by decide)) ?_
  rw [cnn wcM229]
  show VV E mX9_init (d + 1) 1012 _ _ (crun cM230 e00) _
  refine v_putR (ci := 9) (kf := 155) (z := 166) DX9_init_1012 (csh wcM230 (by decide +kernel)) rfl (by decide) (Or.inr (Or.inr ⟨rfl, rfl, rfl, q2379⟩)) (fun _ _ => rfl) rfl rfl (Or.inr (cR wcM230 (by decide +kernel))) ?_
  show VV E mX9_init (d + 1) 1015 _ _ (crun cM231 e00) _
  refine v_aload_n 0 DX9_init_1015 rfl rfl ?_
  refine v_bipush DX9_init_1016 (by decide) ?_
  refine v_newa (t := 0) (z := 30) DX9_init_1018 rfl (by decide) q337 rfl (by decide) (cn_ok wcM231 (by decide)) (cz_ok wcM231 (by decide)) ?_
  rw [cnn wcM231]
  show VV E mX9_init (d + 1) 1020 _ _ (crun cM232 e00) _
  refine v_putR (ci := 9) (kf := 156) (z := 166) DX9_init_1020 (csh wcM232 (by decide +kernel)) rfl (by decide) (Or.inr (Or.inr ⟨rfl, rfl, rfl, q2380⟩)) (fun _ _ => rfl) rfl rfl (Or.inr (cR wcM232 (by decide +kernel))) ?_
  show VV E mX9_init (d + 1) 1023 _ _ (crun cM233 e00) _
  refine v_aload_n 0 DX9_init_1023 rfl rfl ?_
  refine v_bipush DX9_init_1024 (by decide) ?_
  refine v_newa (t := 0) (z := 11) DX9_init_1026 rfl (by decide) q337 rfl (by decide) (cn_ok wcM233 (by decide)) (cz_ok wcM233 (by decide)) ?_
  rw [cnn wcM233]
  show VV E mX9_init (d + 1) 1028 _ _ (crun cM234 e00) _
  refine v_putR (ci := 9) (kf := 157) (z := 166) DX9_init_1028 (csh wcM234 (by decide +kernel)) rfl (by decide) (Or.inr (Or.inr ⟨rfl, rfl, rfl, q2381⟩)) (fun _ _ => rfl) rfl rfl (Or.inr (cR wcM234 (by decide +kernel))) ?_
  show VV E mX9_init (d + 1) 1031 _ _ (crun cM235 e00) _
  refine v_aload_n 0 DX9_init_1031 rfl rfl ?_
  refine v_sipush DX9_init_1032 (by decide) ?_
  refine v_newa (t := 4) (z := 24000) DX9_init_1035 rfl (by decide) q806 rfl (by decide) (cn_ok wcM235 (by decide)) (cz_ok wcM235 (by decide)) ?_
  rw [cnn wcM235]
  show VV E mX9_init (d + 1) 1037 _ _ (crun cM236 e00) _
  refine v_putR (ci := 9) (kf := 158) (z := 166) DX9_init_1037 (csh wcM236 (by decide +kernel)) rfl (by decide) (Or.inr (Or.inr ⟨rfl, rfl, rfl, q2382⟩)) (fun _ _ => rfl) rfl rfl (Or.inr (cR wcM236 (by decide +kernel))) ?_
  show VV E mX9_init (d + 1) 1040 _ _ (crun cM237 e00) _
  refine v_aload_n 0 DX9_init_1040 rfl rfl ?_
  refine v_bipush DX9_init_1041 (by decide) ?_
  refine v_newa (t := 0) (z := 6) DX9_init_1043 rfl (by decide) q337 rfl (by decide) (cn_ok wcM237 (by decide)) (cz_ok wcM237 (by decide)) ?_
  rw [cnn wcM237]
  show VV E mX9_init (d + 1) 1045 _ _ (crun cM238 e00) _
  refine v_putR (ci := 9) (kf := 159) (z := 166) DX9_init_1045 (csh wcM238 (by decide +kernel)) rfl (by decide) (Or.inr (Or.inr ⟨rfl, rfl, rfl, q2383⟩)) (fun _ _ => rfl) rfl rfl (Or.inr (cR wcM238 (by decide +kernel))) ?_
  show VV E mX9_init (d + 1) 1048 _ _ (crun cM239 e00) _
  refine v_aload_n 0 DX9_init_1048 rfl rfl ?_
  refine v_bipush DX9_init_1049 (by decide) ?_
  refine v_newa (t := 0) (z := 20) DX9_init_1051 rfl (by decide) q337 rfl (by decide) (cn_ok wcM239 (by decide)) (cz_ok wcM239 (by decide)) ?_
  rw [cnn wcM239]
  show VV E mX9_init (d + 1) 1053 _ _ (crun cM240 e00) _
  refine v_putR (ci := 9) (kf := 161) (z := 166) DX9_init_1053 (csh wcM240 (by decide +kernel)) rfl (by decide) (Or.inr (Or.inr ⟨rfl, rfl, rfl, q2385⟩)) (fun _ _ => rfl) rfl rfl (Or.inr (cR wcM240 (by decide +kernel))) ?_
  show VV E mX9_init (d + 1) 1056 _ _ (crun cM241 e00) _
  refine v_aload_n 0 DX9_init_1056 rfl rfl ?_
  refine v_sipush DX9_init_1057 (by decide) ?_
  refine v_newa (t := 1) (z := 30000) DX9_init_1060 rfl (by decide) q336 rfl (by decide) (cn_ok wcM241 (by decide)) (cz_ok wcM241 (by decide)) ?_
  rw [cnn wcM241]
  show VV E mX9_init (d + 1) 1062 _ _ (crun cM242 e00) _
  refine v_putR (ci := 9) (kf := 162) (z := 166) DX9_init_1062 (csh wcM242 (by decide +kernel)) rfl (by decide) (Or.inl ⟨rfl, q2386⟩) (fun _ _ => rfl) rfl rfl (Or.inr (cR wcM242 (by decide +kernel))) ?_
  show VV E mX9_init (d + 1) 1065 _ _ (crun cM243 e00) _
  refine v_aload_n 0 DX9_init_1065 rfl rfl ?_
  refine v_sipush DX9_init_1066 (by decide) ?_
  refine v_newa (t := 1) (z := 30000) DX9_init_1069 rfl (by decide) q336 rfl (by decide) (cn_ok wcM243 (by decide)) (cz_ok wcM243 (by decide)) ?_
  rw [cnn wcM243]
  show VV E mX9_init (d + 1) 1071 _ _ (crun cM244 e00) _
  refine v_putR (ci := 9) (kf := 163) (z := 166) DX9_init_1071 (csh wcM244 (by decide +kernel)) rfl (by decide) (Or.inl ⟨rfl, q2387⟩) (fun _ _ => rfl) rfl rfl (Or.inr (cR wcM244 (by decide +kernel))) ?_
  show VV E mX9_init (d + 1) 1074 _ _ (crun cM245 e00) _
  refine v_aload_n 0 DX9_init_1074 rfl rfl ?_
  refine v_iconst DX9_init_1075 ?_
  refine v_iconst DX9_init_1076 ?_
  refine v_invV (ci := 9) (z := 166) (as := [aI 1, aI 1]) (b := 555) (st := []) DX9_init_1077 rfl okX9_spread (Or.inl q2220) q2221 (csh wcM245 (q := (109, 166)) (by decide +kernel)) rfl q2222 npX9_spread (sp_X9_spread (d := d) (by omega) layM ⟨by decide, by decide⟩ ⟨by decide, by decide⟩) (Nat.le_of_ble_eq_true rfl) (Nat.le_refl _) (Nat.le_of_ble_eq_true rfl) (RVI_ret (fun y τ _ _ e => ?_)) RVI_thr
  refine v_pop DX9_init_1080 rfl ?_
  exact v_vret DX9_init_1081 rfl (RV_mk e.2)

