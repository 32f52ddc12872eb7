/-! contracts: printed by tools/mk.py out of s98zzzq_ctX3.py -/
set_option maxRecDepth 100000
set_option maxHeartbeats 800000
/-! the constructor of SearchHouse, piece 3 -/
def cX1015 : List (Nat × Nat × Nat × Nat) := (1, 79, 15, 485) :: cX1014
theorem wcX1015 : WF 499 1924430 cX1015 := ⟨by decide, wcX1014⟩
def cX1016 : List (Nat × Nat × Nat × Nat) := (0, 103, 17, 499) :: cX1015
theorem wcX1016 : WF 500 1924447 cX1016 := ⟨rfl, by decide, wcX1015⟩
def cX1017 : List (Nat × Nat × Nat × Nat) := (0, 1, 400, 500) :: cX1016
theorem wcX1017 : WF 501 1924847 cX1017 := ⟨rfl, by decide, wcX1016⟩
def cX1018 : List (Nat × Nat × Nat × Nat) := (1, 499, 0, 500) :: cX1017
theorem wcX1018 : WF 501 1924847 cX1018 := ⟨by decide, wcX1017⟩
def cX1019 : List (Nat × Nat × Nat × Nat) := (0, 0, 200, 501) :: cX1018
theorem wcX1019 : WF 502 1925047 cX1019 := ⟨rfl, by decide, wcX1018⟩
def cX1020 : List (Nat × Nat × Nat × Nat) := (1, 499, 5, 501) :: cX1019
theorem wcX1020 : WF 502 1925047 cX1020 := ⟨by decide, wcX1019⟩
def cX1021 : List (Nat × Nat × Nat × Nat) := (0, 0, 200, 502) :: cX1020
theorem wcX1021 : WF 503 1925247 cX1021 := ⟨rfl, by decide, wcX1020⟩
def cX1022 : List (Nat × Nat × Nat × Nat) := (1, 499, 6, 502) :: cX1021
theorem wcX1022 : WF 503 1925247 cX1022 := ⟨by decide, wcX1021⟩
def cX1023 : List (Nat × Nat × Nat × Nat) := (0, 0, 200, 503) :: cX1022
theorem wcX1023 : WF 504 1925447 cX1023 := ⟨rfl, by decide, wcX1022⟩
def cX1024 : List (Nat × Nat × Nat × Nat) := (1, 499, 7, 503) :: cX1023
theorem wcX1024 : WF 504 1925447 cX1024 := ⟨by decide, wcX1023⟩
def cX1025 : List (Nat × Nat × Nat × Nat) := (0, 0, 200, 504) :: cX1024
theorem wcX1025 : WF 505 1925647 cX1025 := ⟨rfl, by decide, wcX1024⟩
def cX1026 : List (Nat × Nat × Nat × Nat) := (1, 499, 8, 504) :: cX1025
theorem wcX1026 : WF 505 1925647 cX1026 := ⟨by decide, wcX1025⟩
def cX1027 : List (Nat × Nat × Nat × Nat) := (0, 4, 200, 505) :: cX1026
theorem wcX1027 : WF 506 1925847 cX1027 := ⟨rfl, by decide, wcX1026⟩
def cX1028 : List (Nat × Nat × Nat × Nat) := (1, 499, 9, 505) :: cX1027
theorem wcX1028 : WF 506 1925847 cX1028 := ⟨by decide, wcX1027⟩
def cX1029 : List (Nat × Nat × Nat × Nat) := (0, 0, 200, 506) :: cX1028
theorem wcX1029 : WF 507 1926047 cX1029 := ⟨rfl, by decide, wcX1028⟩
def cX1030 : List (Nat × Nat × Nat × Nat) := (1, 499, 10, 506) :: cX1029
theorem wcX1030 : WF 507 1926047 cX1030 := ⟨by decide, wcX1029⟩
def cX1031 : List (Nat × Nat × Nat × Nat) := (0, 0, 200, 507) :: cX1030
theorem wcX1031 : WF 508 1926247 cX1031 := ⟨rfl, by decide, wcX1030⟩
def cX1032 : List (Nat × Nat × Nat × Nat) := (1, 499, 11, 507) :: cX1031
theorem wcX1032 : WF 508 1926247 cX1032 := ⟨by decide, wcX1031⟩
def cX1033 : List (Nat × Nat × Nat × Nat) := (0, 0, 200, 508) :: cX1032
theorem wcX1033 : WF 509 1926447 cX1033 := ⟨rfl, by decide, wcX1032⟩
def cX1034 : List (Nat × Nat × Nat × Nat) := (1, 499, 12, 508) :: cX1033
theorem wcX1034 : WF 509 1926447 cX1034 := ⟨by decide, wcX1033⟩
def cX1035 : List (Nat × Nat × Nat × Nat) := (0, 0, 200, 509) :: cX1034
theorem wcX1035 : WF 510 1926647 cX1035 := ⟨rfl, by decide, wcX1034⟩
def cX1036 : List (Nat × Nat × Nat × Nat) := (1, 499, 13, 509) :: cX1035
theorem wcX1036 : WF 510 1926647 cX1036 := ⟨by decide, wcX1035⟩
def cX1037 : List (Nat × Nat × Nat × Nat) := (0, 4, 200, 510) :: cX1036
theorem wcX1037 : WF 511 1926847 cX1037 := ⟨rfl, by decide, wcX1036⟩
def cX1038 : List (Nat × Nat × Nat × Nat) := (1, 499, 14, 510) :: cX1037
theorem wcX1038 : WF 511 1926847 cX1038 := ⟨by decide, wcX1037⟩
def cX1039 : List (Nat × Nat × Nat × Nat) := (0, 4, 200, 511) :: cX1038
theorem wcX1039 : WF 512 1927047 cX1039 := ⟨rfl, by decide, wcX1038⟩
def cX1040 : List (Nat × Nat × Nat × Nat) := (1, 499, 15, 511) :: cX1039
theorem wcX1040 : WF 512 1927047 cX1040 := ⟨by decide, wcX1039⟩
def cX1041 : List (Nat × Nat × Nat × Nat) := (0, 4, 200, 512) :: cX1040
theorem wcX1041 : WF 513 1927247 cX1041 := ⟨rfl, by decide, wcX1040⟩
def cX1042 : List (Nat × Nat × Nat × Nat) := (1, 499, 16, 512) :: cX1041
theorem wcX1042 : WF 513 1927247 cX1042 := ⟨by decide, wcX1041⟩
theorem ct_X0_31 {E : XE} {d : Nat} (hd : 2 ≤ d) : CC E mX3_init d [aO 499] (crun cX1016 e00) (RV (fun τ => τ = crun cX1042 e00)) := by
  refine v_aload_n 0 DX3_init_0 rfl rfl ?_
  refine v_objInit DX3_init_1 q717 q309 q310 (by omega) (by decide) ?_
  refine v_aload_n 0 DX3_init_4 rfl rfl ?_
  refine v_sipush DX3_init_5 (by decide) ?_
  refine v_newa (t := 1) (z := 400) DX3_init_8 rfl (by decide) q336 rfl (by decide) (cn_ok wcX1016 (by decide)) (cz_ok wcX1016 (by decide)) ?_
  rw [cnn wcX1016]
  show VV E mX3_init d 10 _ _ (crun cX1017 e00) _
  refine v_putR (ci := 3) (kf := 0) (z := 17) DX3_init_10 (csh wcX1017 (by decide +kernel)) rfl (by decide) (Or.inr (Or.inr ⟨rfl, rfl, rfl, q718⟩)) (fun _ _ => rfl) rfl rfl (Or.inr (cR wcX1017 (by decide +kernel))) ?_
  show VV E mX3_init d 13 _ _ (crun cX1018 e00) _
  refine v_aload_n 0 DX3_init_13 rfl rfl ?_
  refine v_sipush DX3_init_14 (by decide) ?_
  refine v_newa (t := 0) (z := 200) DX3_init_17 rfl (by decide) q337 rfl (by decide) (cn_ok wcX1018 (by decide)) (cz_ok wcX1018 (by decide)) ?_
  rw [cnn wcX1018]
  show VV E mX3_init d 19 _ _ (crun cX1019 e00) _
  refine v_putR (ci := 3) (kf := 5) (z := 17) DX3_init_19 (csh wcX1019 (by decide +kernel)) rfl (by decide) (Or.inr (Or.inr ⟨rfl, rfl, rfl, q734⟩)) (fun _ _ => rfl) rfl rfl (Or.inr (cR wcX1019 (by decide +kernel))) ?_
  show VV E mX3_init d 22 _ _ (crun cX1020 e00) _
  refine v_aload_n 0 DX3_init_22 rfl rfl ?_
  refine v_sipush DX3_init_23 (by decide) ?_
  refine v_newa (t := 0) (z := 200) DX3_init_26 rfl (by decide) q337 rfl (by decide) (cn_ok wcX1020 (by decide)) (cz_ok wcX1020 (by decide)) ?_
  rw [cnn wcX1020]
  show VV E mX3_init d 28 _ _ (crun cX1021 e00) _
  refine v_putR (ci := 3) (kf := 6) (z := 17) DX3_init_28 (csh wcX1021 (by decide +kernel)) rfl (by decide) (Or.inr (Or.inr ⟨rfl, rfl, rfl, q737⟩)) (fun _ _ => rfl) rfl rfl (Or.inr (cR wcX1021 (by decide +kernel))) ?_
  show VV E mX3_init d 31 _ _ (crun cX1022 e00) _
  refine v_aload_n 0 DX3_init_31 rfl rfl ?_
  refine v_sipush DX3_init_32 (by decide) ?_
  refine v_newa (t := 0) (z := 200) DX3_init_35 rfl (by decide) q337 rfl (by decide) (cn_ok wcX1022 (by decide)) (cz_ok wcX1022 (by decide)) ?_
  rw [cnn wcX1022]
  show VV E mX3_init d 37 _ _ (crun cX1023 e00) _
  refine v_putR (ci := 3) (kf := 7) (z := 17) DX3_init_37 (csh wcX1023 (by decide +kernel)) rfl (by decide) (Or.inr (Or.inr ⟨rfl, rfl, rfl, q740⟩)) (fun _ _ => rfl) rfl rfl (Or.inr (cR wcX1023 (by decide +kernel))) ?_
  show VV E mX3_init d 40 _ _ (crun cX1024 e00) _
  refine v_aload_n 0 DX3_init_40 rfl rfl ?_
  refine v_sipush DX3_init_41 (by decide) ?_
  refine v_newa (t := 0) (z := 200) DX3_init_44 rfl (by decide) q337 rfl (by decide) (cn_ok wcX1024 (by decide)) (cz_ok wcX1024 (by decide)) ?_
  rw [cnn wcX1024]
  show VV E mX3_init d 46 _ _ (crun cX1025 e00) _
  refine v_putR (ci := 3) (kf := 8) (z := 17) DX3_init_46 (csh wcX1025 (by decide +kernel)) rfl (by decide) (Or.inr (Or.inr ⟨rfl, rfl, rfl, q743⟩)) (fun _ _ => rfl) rfl rfl (Or.inr (cR wcX1025 (by decide +kernel))) ?_
  show VV E mX3_init d 49 _ _ (crun cX1026 e00) _
  refine v_aload_n 0 DX3_init_49 rfl rfl ?_
  refine v_sipush DX3_init_50 (by decide) ?_
  refine v_newa (t := 4) (z := 200) DX3_init_53 rfl (by decide) q806 rfl (by decide) (cn_ok wcX1026 (by decide)) (cz_ok wcX1026 (by decide)) ?_
  rw [cnn wcX1026]
  show VV E mX3_init d 55 _ _ (crun cX1027 e00) _
  refine v_putR (ci := 3) (kf := 9) (z := 17) DX3_init_55 (csh wcX1027 (by decide +kernel)) rfl (by decide) (Or.inr (Or.inr ⟨rfl, rfl, rfl, q746⟩)) (fun _ _ => rfl) rfl rfl (Or.inr (cR wcX1027 (by decide +kernel))) ?_
  show VV E mX3_init d 58 _ _ (crun cX1028 e00) _
  refine v_aload_n 0 DX3_init_58 rfl rfl ?_
  refine v_sipush DX3_init_59 (by decide) ?_
  refine v_newa (t := 0) (z := 200) DX3_init_62 rfl (by decide) q337 rfl (by decide) (cn_ok wcX1028 (by decide)) (cz_ok wcX1028 (by decide)) ?_
  rw [cnn wcX1028]
  show VV E mX3_init d 64 _ _ (crun cX1029 e00) _
  refine v_putR (ci := 3) (kf := 10) (z := 17) DX3_init_64 (csh wcX1029 (by decide +kernel)) rfl (by decide) (Or.inr (Or.inr ⟨rfl, rfl, rfl, q749⟩)) (fun _ _ => rfl) rfl rfl (Or.inr (cR wcX1029 (by decide +kernel))) ?_
  show VV E mX3_init d 67 _ _ (crun cX1030 e00) _
  refine v_aload_n 0 DX3_init_67 rfl rfl ?_
  refine v_sipush DX3_init_68 (by decide) ?_
  refine v_newa (t := 0) (z := 200) DX3_init_71 rfl (by decide) q337 rfl (by decide) (cn_ok wcX1030 (by decide)) (cz_ok wcX1030 (by decide)) ?_
  rw [cnn wcX1030]
  show VV E mX3_init d 73 _ _ (crun cX1031 e00) _
  refine v_putR (ci := 3) (kf := 11) (z := 17) DX3_init_73 (csh wcX1031 (by decide +kernel)) rfl (by decide) (Or.inr (Or.inr ⟨rfl, rfl, rfl, q752⟩)) (fun _ _ => rfl) rfl rfl (Or.inr (cR wcX1031 (by decide +kernel))) ?_
  show VV E mX3_init d 76 _ _ (crun cX1032 e00) _
  refine v_aload_n 0 DX3_init_76 rfl rfl ?_
  refine v_sipush DX3_init_77 (by decide) ?_
  refine v_newa (t := 0) (z := 200) DX3_init_80 rfl (by decide) q337 rfl (by decide) (cn_ok wcX1032 (by decide)) (cz_ok wcX1032 (by decide)) ?_
  rw [cnn wcX1032]
  show VV E mX3_init d 82 _ _ (crun cX1033 e00) _
  refine v_putR (ci := 3) (kf := 12) (z := 17) DX3_init_82 (csh wcX1033 (by decide +kernel)) rfl (by decide) (Or.inr (Or.inr ⟨rfl, rfl, rfl, q755⟩)) (fun _ _ => rfl) rfl rfl (Or.inr (cR wcX1033 (by decide +kernel))) ?_
  show VV E mX3_init d 85 _ _ (crun cX1034 e00) _
  refine v_aload_n 0 DX3_init_85 rfl rfl ?_
  refine v_sipush DX3_init_86 (by decide) ?_
  refine v_newa (t := 0) (z := 200) DX3_init_89 rfl (by decide) q337 rfl (by decide) (cn_ok wcX1034 (by decide)) (cz_ok wcX1034 (by decide)) ?_
  rw [cnn wcX1034]
  show VV E mX3_init d 91 _ _ (crun cX1035 e00) _
  refine v_putR (ci := 3) (kf := 13) (z := 17) DX3_init_91 (csh wcX1035 (by decide +kernel)) rfl (by decide) (Or.inr (Or.inr ⟨rfl, rfl, rfl, q758⟩)) (fun _ _ => rfl) rfl rfl (Or.inr (cR wcX1035 (by decide +kernel))) ?_
  show VV E mX3_init d 94 _ _ (crun cX1036 e00) _
  refine v_aload_n 0 DX3_init_94 rfl rfl ?_
  refine v_sipush DX3_init_95 (by decide) ?_
  refine v_newa (t := 4) (z := 200) DX3_init_98 rfl (by decide) q806 rfl (by decide) (cn_ok wcX1036 (by decide)) (cz_ok wcX1036 (by decide)) ?_
  rw [cnn wcX1036]
  show VV E mX3_init d 100 _ _ (crun cX1037 e00) _
  refine v_putR (ci := 3) (kf := 14) (z := 17) DX3_init_100 (csh wcX1037 (by decide +kernel)) rfl (by decide) (Or.inr (Or.inr ⟨rfl, rfl, rfl, q761⟩)) (fun _ _ => rfl) rfl rfl (Or.inr (cR wcX1037 (by decide +kernel))) ?_
  show VV E mX3_init d 103 _ _ (crun cX1038 e00) _
  refine v_aload_n 0 DX3_init_103 rfl rfl ?_
  refine v_sipush DX3_init_104 (by decide) ?_
  refine v_newa (t := 4) (z := 200) DX3_init_107 rfl (by decide) q806 rfl (by decide) (cn_ok wcX1038 (by decide)) (cz_ok wcX1038 (by decide)) ?_
  rw [cnn wcX1038]
  show VV E mX3_init d 109 _ _ (crun cX1039 e00) _
  refine v_putR (ci := 3) (kf := 15) (z := 17) DX3_init_109 (csh wcX1039 (by decide +kernel)) rfl (by decide) (Or.inr (Or.inr ⟨rfl, rfl, rfl, q764⟩)) (fun _ _ => rfl) rfl rfl (Or.inr (cR wcX1039 (by decide +kernel))) ?_
  show VV E mX3_init d 112 _ _ (crun cX1040 e00) _
  refine v_aload_n 0 DX3_init_112 rfl rfl ?_
  refine v_sipush DX3_init_113 (by decide) ?_
  refine v_newa (t := 4) (z := 200) DX3_init_116 rfl (by decide) q806 rfl (by decide) (cn_ok wcX1040 (by decide)) (cz_ok wcX1040 (by decide)) ?_
  rw [cnn wcX1040]
  show VV E mX3_init d 118 _ _ (crun cX1041 e00) _
  refine v_putR (ci := 3) (kf := 16) (z := 17) DX3_init_118 (csh wcX1041 (by decide +kernel)) rfl (by decide) (Or.inr (Or.inr ⟨rfl, rfl, rfl, q767⟩)) (fun _ _ => rfl) rfl rfl (Or.inr (cR wcX1041 (by decide +kernel))) ?_
  show VV E mX3_init d 121 _ _ (crun cX1042 e00) _
  exact v_vret DX3_init_121 rfl (RV_mk rfl)
def cX1043 : List (Nat × Nat × Nat × Nat) := (1, 79, 16, 499) :: cX1042
theorem wcX1043 : WF 513 1927247 cX1043 := ⟨by decide, wcX1042⟩
def cX1044 : List (Nat × Nat × Nat × Nat) := (0, 103, 17, 513) :: cX1043
theorem wcX1044 : WF 514 1927264 cX1044 := ⟨rfl, by decide, wcX1043⟩
def cX1045 : List (Nat × Nat × Nat × Nat) := (0, 1, 400, 514) :: cX1044
theorem wcX1045 : WF 515 1927664 cX1045 := ⟨rfl, by decide, wcX1044⟩
def cX1046 : List (Nat × Nat × Nat × Nat) := (1, 513, 0, 514) :: cX1045
theorem wcX1046 : WF 515 1927664 cX1046 := ⟨by decide, wcX1045⟩
def cX1047 : List (Nat × Nat × Nat × Nat) := (0, 0, 200, 515) :: cX1046
theorem wcX1047 : WF 516 1927864 cX1047 := ⟨rfl, by decide, wcX1046⟩
def cX1048 : List (Nat × Nat × Nat × Nat) := (1, 513, 5, 515) :: cX1047
theorem wcX1048 : WF 516 1927864 cX1048 := ⟨by decide, wcX1047⟩
def cX1049 : List (Nat × Nat × Nat × Nat) := (0, 0, 200, 516) :: cX1048
theorem wcX1049 : WF 517 1928064 cX1049 := ⟨rfl, by decide, wcX1048⟩
def cX1050 : List (Nat × Nat × Nat × Nat) := (1, 513, 6, 516) :: cX1049
theorem wcX1050 : WF 517 1928064 cX1050 := ⟨by decide, wcX1049⟩
def cX1051 : List (Nat × Nat × Nat × Nat) := (0, 0, 200, 517) :: cX1050
theorem wcX1051 : WF 518 1928264 cX1051 := ⟨rfl, by decide, wcX1050⟩
def cX1052 : List (Nat × Nat × Nat × Nat) := (1, 513, 7, 517) :: cX1051
theorem wcX1052 : WF 518 1928264 cX1052 := ⟨by decide, wcX1051⟩
def cX1053 : List (Nat × Nat × Nat × Nat) := (0, 0, 200, 518) :: cX1052
theorem wcX1053 : WF 519 1928464 cX1053 := ⟨rfl, by decide, wcX1052⟩
def cX1054 : List (Nat × Nat × Nat × Nat) := (1, 513, 8, 518) :: cX1053
theorem wcX1054 : WF 519 1928464 cX1054 := ⟨by decide, wcX1053⟩
def cX1055 : List (Nat × Nat × Nat × Nat) := (0, 4, 200, 519) :: cX1054
theorem wcX1055 : WF 520 1928664 cX1055 := ⟨rfl, by decide, wcX1054⟩
def cX1056 : List (Nat × Nat × Nat × Nat) := (1, 513, 9, 519) :: cX1055
theorem wcX1056 : WF 520 1928664 cX1056 := ⟨by decide, wcX1055⟩
def cX1057 : List (Nat × Nat × Nat × Nat) := (0, 0, 200, 520) :: cX1056
theorem wcX1057 : WF 521 1928864 cX1057 := ⟨rfl, by decide, wcX1056⟩
def cX1058 : List (Nat × Nat × Nat × Nat) := (1, 513, 10, 520) :: cX1057
theorem wcX1058 : WF 521 1928864 cX1058 := ⟨by decide, wcX1057⟩
def cX1059 : List (Nat × Nat × Nat × Nat) := (0, 0, 200, 521) :: cX1058
theorem wcX1059 : WF 522 1929064 cX1059 := ⟨rfl, by decide, wcX1058⟩
def cX1060 : List (Nat × Nat × Nat × Nat) := (1, 513, 11, 521) :: cX1059
theorem wcX1060 : WF 522 1929064 cX1060 := ⟨by decide, wcX1059⟩
def cX1061 : List (Nat × Nat × Nat × Nat) := (0, 0, 200, 522) :: cX1060
theorem wcX1061 : WF 523 1929264 cX1061 := ⟨rfl, by decide, wcX1060⟩
def cX1062 : List (Nat × Nat × Nat × Nat) := (1, 513, 12, 522) :: cX1061
theorem wcX1062 : WF 523 1929264 cX1062 := ⟨by decide, wcX1061⟩
def cX1063 : List (Nat × Nat × Nat × Nat) := (0, 0, 200, 523) :: cX1062
theorem wcX1063 : WF 524 1929464 cX1063 := ⟨rfl, by decide, wcX1062⟩
def cX1064 : List (Nat × Nat × Nat × Nat) := (1, 513, 13, 523) :: cX1063
theorem wcX1064 : WF 524 1929464 cX1064 := ⟨by decide, wcX1063⟩
def cX1065 : List (Nat × Nat × Nat × Nat) := (0, 4, 200, 524) :: cX1064
theorem wcX1065 : WF 525 1929664 cX1065 := ⟨rfl, by decide, wcX1064⟩
def cX1066 : List (Nat × Nat × Nat × Nat) := (1, 513, 14, 524) :: cX1065
theorem wcX1066 : WF 525 1929664 cX1066 := ⟨by decide, wcX1065⟩
def cX1067 : List (Nat × Nat × Nat × Nat) := (0, 4, 200, 525) :: cX1066
theorem wcX1067 : WF 526 1929864 cX1067 := ⟨rfl, by decide, wcX1066⟩
def cX1068 : List (Nat × Nat × Nat × Nat) := (1, 513, 15, 525) :: cX1067
theorem wcX1068 : WF 526 1929864 cX1068 := ⟨by decide, wcX1067⟩
def cX1069 : List (Nat × Nat × Nat × Nat) := (0, 4, 200, 526) :: cX1068
theorem wcX1069 : WF 527 1930064 cX1069 := ⟨rfl, by decide, wcX1068⟩
def cX1070 : List (Nat × Nat × Nat × Nat) := (1, 513, 16, 526) :: cX1069
theorem wcX1070 : WF 527 1930064 cX1070 := ⟨by decide, wcX1069⟩
theorem ct_X0_32 {E : XE} {d : Nat} (hd : 2 ≤ d) : CC E mX3_init d [aO 513] (crun cX1044 e00) (RV (fun τ => τ = crun cX1070 e00)) := by
  refine v_aload_n 0 DX3_init_0 rfl rfl ?_
  refine v_objInit DX3_init_1 q717 q309 q310 (by omega) (by decide) ?_
  refine v_aload_n 0 DX3_init_4 rfl rfl ?_
  refine v_sipush DX3_init_5 (by decide) ?_
  refine v_newa (t := 1) (z := 400) DX3_init_8 rfl (by decide) q336 rfl (by decide) (cn_ok wcX1044 (by decide)) (cz_ok wcX1044 (by decide)) ?_
  rw [cnn wcX1044]
  show VV E mX3_init d 10 _ _ (crun cX1045 e00) _
  refine v_putR (ci := 3) (kf := 0) (z := 17) DX3_init_10 (csh wcX1045 (by decide +kernel)) rfl (by decide) (Or.inr (Or.inr ⟨rfl, rfl, rfl, q718⟩)) (fun _ _ => rfl) rfl rfl (Or.inr (cR wcX1045 (by decide +kernel))) ?_
  show VV E mX3_init d 13 _ _ (crun cX1046 e00) _
  refine v_aload_n 0 DX3_init_13 rfl rfl ?_
  refine v_sipush DX3_init_14 (by decide) ?_
  refine v_newa (t := 0) (z := 200) DX3_init_17 rfl (by decide) q337 rfl (by decide) (cn_ok wcX1046 (by decide)) (cz_ok wcX1046 (by decide)) ?_
  rw [cnn wcX1046]
  show VV E mX3_init d 19 _ _ (crun cX1047 e00) _
  refine v_putR (ci := 3) (kf := 5) (z := 17) DX3_init_19 (csh wcX1047 (by decide +kernel)) rfl (by decide) (Or.inr (Or.inr ⟨rfl, rfl, rfl, q734⟩)) (fun _ _ => rfl) rfl rfl (Or.inr (cR wcX1047 (by decide +kernel))) ?_
  show VV E mX3_init d 22 _ _ (crun cX1048 e00) _
  refine v_aload_n 0 DX3_init_22 rfl rfl ?_
  refine v_sipush DX3_init_23 (by decide) ?_
  refine v_newa (t := 0) (z := 200) DX3_init_26 rfl (by decide) q337 rfl (by decide) (cn_ok wcX1048 (by decide)) (cz_ok wcX1048 (by decide)) ?_
  rw [cnn wcX1048]
  show VV E mX3_init d 28 _ _ (crun cX1049 e00) _
  refine v_putR (ci := 3) (kf := 6) (z := 17) DX3_init_28 (csh wcX1049 (by decide +kernel)) rfl (by decide) (Or.inr (Or.inr ⟨rfl, rfl, rfl, q737⟩)) (fun _ _ => rfl) rfl rfl (Or.inr (cR wcX1049 (by decide +kernel))) ?_
  show VV E mX3_init d 31 _ _ (crun cX1050 e00) _
  refine v_aload_n 0 DX3_init_31 rfl rfl ?_
  refine v_sipush DX3_init_32 (by decide) ?_
  refine v_newa (t := 0) (z := 200) DX3_init_35 rfl (by decide) q337 rfl (by decide) (cn_ok wcX1050 (by decide)) (cz_ok wcX1050 (by decide)) ?_
  rw [cnn wcX1050]
  show VV E mX3_init d 37 _ _ (crun cX1051 e00) _
  refine v_putR (ci := 3) (kf := 7) (z := 17) DX3_init_37 (csh wcX1051 (by decide +kernel)) rfl (by decide) (Or.inr (Or.inr ⟨rfl, rfl, rfl, q740⟩)) (fun _ _ => rfl) rfl rfl (Or.inr (cR wcX1051 (by decide +kernel))) ?_
  show VV E mX3_init d 40 _ _ (crun cX1052 e00) _
  refine v_aload_n 0 DX3_init_40 rfl rfl ?_
  refine v_sipush DX3_init_41 (by decide) ?_
  refine v_newa (t := 0) (z := 200) DX3_init_44 rfl (by decide) q337 rfl (by decide) (cn_ok wcX1052 (by decide)) (cz_ok wcX1052 (by decide)) ?_
  rw [cnn wcX1052]
  show VV E mX3_init d 46 _ _ (crun cX1053 e00) _
  refine v_putR (ci := 3) (kf := 8) (z := 17) DX3_init_46 (csh wcX1053 (by decide +kernel)) rfl (by decide) (Or.inr (Or.inr ⟨rfl, rfl, rfl, q743⟩)) (fun _ _ => rfl) rfl rfl (Or.inr (cR wcX1053 (by decide +kernel))) ?_
  show VV E mX3_init d 49 _ _ (crun cX1054 e00) _
  refine v_aload_n 0 DX3_init_49 rfl rfl ?_
  refine v_sipush DX3_init_50 (by decide) ?_
  refine v_newa (t := 4) (z := 200) DX3_init_53 rfl (by decide) q806 rfl (by decide) (cn_ok wcX1054 (by decide)) (cz_ok wcX1054 (by decide)) ?_
  rw [cnn wcX1054]
  show VV E mX3_init d 55 _ _ (crun cX1055 e00) _
  refine v_putR (ci := 3) (kf := 9) (z := 17) DX3_init_55 (csh wcX1055 (by decide +kernel)) rfl (by decide) (Or.inr (Or.inr ⟨rfl, rfl, rfl, q746⟩)) (fun _ _ => rfl) rfl rfl (Or.inr (cR wcX1055 (by decide +kernel))) ?_
  show VV E mX3_init d 58 _ _ (crun cX1056 e00) _
  refine v_aload_n 0 DX3_init_58 rfl rfl ?_
  refine v_sipush DX3_init_59 (by decide) ?_
  refine v_newa (t := 0) (z := 200) DX3_init_62 rfl (by decide) q337 rfl (by decide) (cn_ok wcX1056 (by decide)) (cz_ok wcX1056 (by decide)) ?_
  rw [cnn wcX1056]
  show VV E mX3_init d 64 _ _ (crun cX1057 e00) _
  refine v_putR (ci := 3) (kf := 10) (z := 17) DX3_init_64 (csh wcX1057 (by decide +kernel)) rfl (by decide) (Or.inr (Or.inr ⟨rfl, rfl, rfl, q749⟩)) (fun _ _ => rfl) rfl rfl (Or.inr (cR wcX1057 (by decide +kernel))) ?_
  show VV E mX3_init d 67 _ _ (crun cX1058 e00) _
  refine v_aload_n 0 DX3_init_67 rfl rfl ?_
  refine v_sipush DX3_init_68 (by decide) ?_
  refine v_newa (t := 0) (z := 200) DX3_init_71 rfl (by decide) q337 rfl (by decide) (cn_ok wcX1058 (by decide)) (cz_ok wcX1058 (by decide)) ?_
  rw [cnn wcX1058]
  show VV E mX3_init d 73 _ _ (crun cX1059 e00) _
  refine v_putR (ci := 3) (kf := 11) (z := 17) DX3_init_73 (csh wcX1059 (by decide +kernel)) rfl (by decide) (Or.inr (Or.inr ⟨rfl, rfl, rfl, q752⟩)) (fun _ _ => rfl) rfl rfl (Or.inr (cR wcX1059 (by decide +kernel))) ?_
  show VV E mX3_init d 76 _ _ (crun cX1060 e00) _
  refine v_aload_n 0 DX3_init_76 rfl rfl ?_
  refine v_sipush DX3_init_77 (by decide) ?_
  refine v_newa (t := 0) (z := 200) DX3_init_80 rfl (by decide) q337 rfl (by decide) (cn_ok wcX1060 (by decide)) (cz_ok wcX1060 (by decide)) ?_
  rw [cnn wcX1060]
  show VV E mX3_init d 82 _ _ (crun cX1061 e00) _
  refine v_putR (ci := 3) (kf := 12) (z := 17) DX3_init_82 (csh wcX1061 (by decide +kernel)) rfl (by decide) (Or.inr (Or.inr ⟨rfl, rfl, rfl, q755⟩)) (fun _ _ => rfl) rfl rfl (Or.inr (cR wcX1061 (by decide +kernel))) ?_
  show VV E mX3_init d 85 _ _ (crun cX1062 e00) _
  refine v_aload_n 0 DX3_init_85 rfl rfl ?_
  refine v_sipush DX3_init_86 (by decide) ?_
  refine v_newa (t := 0) (z := 200) DX3_init_89 rfl (by decide) q337 rfl (by decide) (cn_ok wcX1062 (by decide)) (cz_ok wcX1062 (by decide)) ?_
  rw [cnn wcX1062]
  show VV E mX3_init d 91 _ _ (crun cX1063 e00) _
  refine v_putR (ci := 3) (kf := 13) (z := 17) DX3_init_91 (csh wcX1063 (by decide +kernel)) rfl (by decide) (Or.inr (Or.inr ⟨rfl, rfl, rfl, q758⟩)) (fun _ _ => rfl) rfl rfl (Or.inr (cR wcX1063 (by decide +kernel))) ?_
  show VV E mX3_init d 94 _ _ (crun cX1064 e00) _
  refine v_aload_n 0 DX3_init_94 rfl rfl ?_
  refine v_sipush DX3_init_95 (by decide) ?_
  refine v_newa (t := 4) (z := 200) DX3_init_98 rfl (by decide) q806 rfl (by decide) (cn_ok wcX1064 (by decide)) (cz_ok wcX1064 (by decide)) ?_
  rw [cnn wcX1064]
  show VV E mX3_init d 100 _ _ (crun cX1065 e00) _
  refine v_putR (ci := 3) (kf := 14) (z := 17) DX3_init_100 (csh wcX1065 (by decide +kernel)) rfl (by decide) (Or.inr (Or.inr ⟨rfl, rfl, rfl, q761⟩)) (fun _ _ => rfl) rfl rfl (Or.inr (cR wcX1065 (by decide +kernel))) ?_
  show VV E mX3_init d 103 _ _ (crun cX1066 e00) _
  refine v_aload_n 0 DX3_init_103 rfl rfl ?_
  refine v_sipush DX3_init_104 (by decide) ?_
  refine v_newa (t := 4) (z := 200) DX3_init_107 rfl (by decide) q806 rfl (by decide) (cn_ok wcX1066 (by decide)) (cz_ok wcX1066 (by decide)) ?_
  rw [cnn wcX1066]
  show VV E mX3_init d 109 _ _ (crun cX1067 e00) _
  refine v_putR (ci := 3) (kf := 15) (z := 17) DX3_init_109 (csh wcX1067 (by decide +kernel)) rfl (by decide) (Or.inr (Or.inr ⟨rfl, rfl, rfl, q764⟩)) (fun _ _ => rfl) rfl rfl (Or.inr (cR wcX1067 (by decide +kernel))) ?_
  show VV E mX3_init d 112 _ _ (crun cX1068 e00) _
  refine v_aload_n 0 DX3_init_112 rfl rfl ?_
  refine v_sipush DX3_init_113 (by decide) ?_
  refine v_newa (t := 4) (z := 200) DX3_init_116 rfl (by decide) q806 rfl (by decide) (cn_ok wcX1068 (by decide)) (cz_ok wcX1068 (by decide)) ?_
  rw [cnn wcX1068]
  show VV E mX3_init d 118 _ _ (crun cX1069 e00) _
  refine v_putR (ci := 3) (kf := 16) (z := 17) DX3_init_118 (csh wcX1069 (by decide +kernel)) rfl (by decide) (Or.inr (Or.inr ⟨rfl, rfl, rfl, q767⟩)) (fun _ _ => rfl) rfl rfl (Or.inr (cR wcX1069 (by decide +kernel))) ?_
  show VV E mX3_init d 121 _ _ (crun cX1070 e00) _
  exact v_vret DX3_init_121 rfl (RV_mk rfl)
def cX1071 : List (Nat × Nat × Nat × Nat) := (1, 79, 17, 513) :: cX1070
theorem wcX1071 : WF 527 1930064 cX1071 := ⟨by decide, wcX1070⟩
def cX1072 : List (Nat × Nat × Nat × Nat) := (0, 103, 17, 527) :: cX1071
theorem wcX1072 : WF 528 1930081 cX1072 := ⟨rfl, by decide, wcX1071⟩
def cX1073 : List (Nat × Nat × Nat × Nat) := (0, 1, 400, 528) :: cX1072
theorem wcX1073 : WF 529 1930481 cX1073 := ⟨rfl, by decide, wcX1072⟩
def cX1074 : List (Nat × Nat × Nat × Nat) := (1, 527, 0, 528) :: cX1073
theorem wcX1074 : WF 529 1930481 cX1074 := ⟨by decide, wcX1073⟩
def cX1075 : List (Nat × Nat × Nat × Nat) := (0, 0, 200, 529) :: cX1074
theorem wcX1075 : WF 530 1930681 cX1075 := ⟨rfl, by decide, wcX1074⟩
def cX1076 : List (Nat × Nat × Nat × Nat) := (1, 527, 5, 529) :: cX1075
theorem wcX1076 : WF 530 1930681 cX1076 := ⟨by decide, wcX1075⟩
def cX1077 : List (Nat × Nat × Nat × Nat) := (0, 0, 200, 530) :: cX1076
theorem wcX1077 : WF 531 1930881 cX1077 := ⟨rfl, by decide, wcX1076⟩
def cX1078 : List (Nat × Nat × Nat × Nat) := (1, 527, 6, 530) :: cX1077
theorem wcX1078 : WF 531 1930881 cX1078 := ⟨by decide, wcX1077⟩
def cX1079 : List (Nat × Nat × Nat × Nat) := (0, 0, 200, 531) :: cX1078
theorem wcX1079 : WF 532 1931081 cX1079 := ⟨rfl, by decide, wcX1078⟩
def cX1080 : List (Nat × Nat × Nat × Nat) := (1, 527, 7, 531) :: cX1079
theorem wcX1080 : WF 532 1931081 cX1080 := ⟨by decide, wcX1079⟩
def cX1081 : List (Nat × Nat × Nat × Nat) := (0, 0, 200, 532) :: cX1080
theorem wcX1081 : WF 533 1931281 cX1081 := ⟨rfl, by decide, wcX1080⟩
def cX1082 : List (Nat × Nat × Nat × Nat) := (1, 527, 8, 532) :: cX1081
theorem wcX1082 : WF 533 1931281 cX1082 := ⟨by decide, wcX1081⟩
def cX1083 : List (Nat × Nat × Nat × Nat) := (0, 4, 200, 533) :: cX1082
theorem wcX1083 : WF 534 1931481 cX1083 := ⟨rfl, by decide, wcX1082⟩
def cX1084 : List (Nat × Nat × Nat × Nat) := (1, 527, 9, 533) :: cX1083
theorem wcX1084 : WF 534 1931481 cX1084 := ⟨by decide, wcX1083⟩
def cX1085 : List (Nat × Nat × Nat × Nat) := (0, 0, 200, 534) :: cX1084
theorem wcX1085 : WF 535 1931681 cX1085 := ⟨rfl, by decide, wcX1084⟩
def cX1086 : List (Nat × Nat × Nat × Nat) := (1, 527, 10, 534) :: cX1085
theorem wcX1086 : WF 535 1931681 cX1086 := ⟨by decide, wcX1085⟩
def cX1087 : List (Nat × Nat × Nat × Nat) := (0, 0, 200, 535) :: cX1086
theorem wcX1087 : WF 536 1931881 cX1087 := ⟨rfl, by decide, wcX1086⟩
def cX1088 : List (Nat × Nat × Nat × Nat) := (1, 527, 11, 535) :: cX1087
theorem wcX1088 : WF 536 1931881 cX1088 := ⟨by decide, wcX1087⟩
def cX1089 : List (Nat × Nat × Nat × Nat) := (0, 0, 200, 536) :: cX1088
theorem wcX1089 : WF 537 1932081 cX1089 := ⟨rfl, by decide, wcX1088⟩
def cX1090 : List (Nat × Nat × Nat × Nat) := (1, 527, 12, 536) :: cX1089
theorem wcX1090 : WF 537 1932081 cX1090 := ⟨by decide, wcX1089⟩
def cX1091 : List (Nat × Nat × Nat × Nat) := (0, 0, 200, 537) :: cX1090
theorem wcX1091 : WF 538 1932281 cX1091 := ⟨rfl, by decide, wcX1090⟩
def cX1092 : List (Nat × Nat × Nat × Nat) := (1, 527, 13, 537) :: cX1091
theorem wcX1092 : WF 538 1932281 cX1092 := ⟨by decide, wcX1091⟩
def cX1093 : List (Nat × Nat × Nat × Nat) := (0, 4, 200, 538) :: cX1092
theorem wcX1093 : WF 539 1932481 cX1093 := ⟨rfl, by decide, wcX1092⟩
def cX1094 : List (Nat × Nat × Nat × Nat) := (1, 527, 14, 538) :: cX1093
theorem wcX1094 : WF 539 1932481 cX1094 := ⟨by decide, wcX1093⟩
def cX1095 : List (Nat × Nat × Nat × Nat) := (0, 4, 200, 539) :: cX1094
theorem wcX1095 : WF 540 1932681 cX1095 := ⟨rfl, by decide, wcX1094⟩
def cX1096 : List (Nat × Nat × Nat × Nat) := (1, 527, 15, 539) :: cX1095
theorem wcX1096 : WF 540 1932681 cX1096 := ⟨by decide, wcX1095⟩
def cX1097 : List (Nat × Nat × Nat × Nat) := (0, 4, 200, 540) :: cX1096
theorem wcX1097 : WF 541 1932881 cX1097 := ⟨rfl, by decide, wcX1096⟩
def cX1098 : List (Nat × Nat × Nat × Nat) := (1, 527, 16, 540) :: cX1097
theorem wcX1098 : WF 541 1932881 cX1098 := ⟨by decide, wcX1097⟩
theorem ct_X0_33 {E : XE} {d : Nat} (hd : 2 ≤ d) : CC E mX3_init d [aO 527] (crun cX1072 e00) (RV (fun τ => τ = crun cX1098 e00)) := by
  refine v_aload_n 0 DX3_init_0 rfl rfl ?_
  refine v_objInit DX3_init_1 q717 q309 q310 (by omega) (by decide) ?_
  refine v_aload_n 0 DX3_init_4 rfl rfl ?_
  refine v_sipush DX3_init_5 (by decide) ?_
  refine v_newa (t := 1) (z := 400) DX3_init_8 rfl (by decide) q336 rfl (by decide) (cn_ok wcX1072 (by decide)) (cz_ok wcX1072 (by decide)) ?_
  rw [cnn wcX1072]
  show VV E mX3_init d 10 _ _ (crun cX1073 e00) _
  refine v_putR (ci := 3) (kf := 0) (z := 17) DX3_init_10 (csh wcX1073 (by decide +kernel)) rfl (by decide) (Or.inr (Or.inr ⟨rfl, rfl, rfl, q718⟩)) (fun _ _ => rfl) rfl rfl (Or.inr (cR wcX1073 (by decide +kernel))) ?_
  show VV E mX3_init d 13 _ _ (crun cX1074 e00) _
  refine v_aload_n 0 DX3_init_13 rfl rfl ?_
  refine v_sipush DX3_init_14 (by decide) ?_
  refine v_newa (t := 0) (z := 200) DX3_init_17 rfl (by decide) q337 rfl (by decide) (cn_ok wcX1074 (by decide)) (cz_ok wcX1074 (by decide)) ?_
  rw [cnn wcX1074]
  show VV E mX3_init d 19 _ _ (crun cX1075 e00) _
  refine v_putR (ci := 3) (kf := 5) (z := 17) DX3_init_19 (csh wcX1075 (by decide +kernel)) rfl (by decide) (Or.inr (Or.inr ⟨rfl, rfl, rfl, q734⟩)) (fun _ _ => rfl) rfl rfl (Or.inr (cR wcX1075 (by decide +kernel))) ?_
  show VV E mX3_init d 22 _ _ (crun cX1076 e00) _
  refine v_aload_n 0 DX3_init_22 rfl rfl ?_
  refine v_sipush DX3_init_23 (by decide) ?_
  refine v_newa (t := 0) (z := 200) DX3_init_26 rfl (by decide) q337 rfl (by decide) (cn_ok wcX1076 (by decide)) (cz_ok wcX1076 (by decide)) ?_
  rw [cnn wcX1076]
  show VV E mX3_init d 28 _ _ (crun cX1077 e00) _
  refine v_putR (ci := 3) (kf := 6) (z := 17) DX3_init_28 (csh wcX1077 (by decide +kernel)) rfl (by decide) (Or.inr (Or.inr ⟨rfl, rfl, rfl, q737⟩)) (fun _ _ => rfl) rfl rfl (Or.inr (cR wcX1077 (by decide +kernel))) ?_
  show VV E mX3_init d 31 _ _ (crun cX1078 e00) _
  refine v_aload_n 0 DX3_init_31 rfl rfl ?_
  refine v_sipush DX3_init_32 (by decide) ?_
  refine v_newa (t := 0) (z := 200) DX3_init_35 rfl (by decide) q337 rfl (by decide) (cn_ok wcX1078 (by decide)) (cz_ok wcX1078 (by decide)) ?_
  rw [cnn wcX1078]
  show VV E mX3_init d 37 _ _ (crun cX1079 e00) _
  refine v_putR (ci := 3) (kf := 7) (z := 17) DX3_init_37 (csh wcX1079 (by decide +kernel)) rfl (by decide) (Or.inr (Or.inr ⟨rfl, rfl, rfl, q740⟩)) (fun _ _ => rfl) rfl rfl (Or.inr (cR wcX1079 (by decide +kernel))) ?_
  show VV E mX3_init d 40 _ _ (crun cX1080 e00) _
  refine v_aload_n 0 DX3_init_40 rfl rfl ?_
  refine v_sipush DX3_init_41 (by decide) ?_
  refine v_newa (t := 0) (z := 200) DX3_init_44 rfl (by decide) q337 rfl (by decide) (cn_ok wcX1080 (by decide)) (cz_ok wcX1080 (by decide)) ?_
  rw [cnn wcX1080]
  show VV E mX3_init d 46 _ _ (crun cX1081 e00) _
  refine v_putR (ci := 3) (kf := 8) (z := 17) DX3_init_46 (csh wcX1081 (by decide +kernel)) rfl (by decide) (Or.inr (Or.inr ⟨rfl, rfl, rfl, q743⟩)) (fun _ _ => rfl) rfl rfl (Or.inr (cR wcX1081 (by decide +kernel))) ?_
  show VV E mX3_init d 49 _ _ (crun cX1082 e00) _
  refine v_aload_n 0 DX3_init_49 rfl rfl ?_
  refine v_sipush DX3_init_50 (by decide) ?_
  refine v_newa (t := 4) (z := 200) DX3_init_53 rfl (by decide) q806 rfl (by decide) (cn_ok wcX1082 (by decide)) (cz_ok wcX1082 (by decide)) ?_
  rw [cnn wcX1082]
  show VV E mX3_init d 55 _ _ (crun cX1083 e00) _
  refine v_putR (ci := 3) (kf := 9) (z := 17) DX3_init_55 (csh wcX1083 (by decide +kernel)) rfl (by decide) (Or.inr (Or.inr ⟨rfl, rfl, rfl, q746⟩)) (fun _ _ => rfl) rfl rfl (Or.inr (cR wcX1083 (by decide +kernel))) ?_
  show VV E mX3_init d 58 _ _ (crun cX1084 e00) _
  refine v_aload_n 0 DX3_init_58 rfl rfl ?_
  refine v_sipush DX3_init_59 (by decide) ?_
  refine v_newa (t := 0) (z := 200) DX3_init_62 rfl (by decide) q337 rfl (by decide) (cn_ok wcX1084 (by decide)) (cz_ok wcX1084 (by decide)) ?_
  rw [cnn wcX1084]
  show VV E mX3_init d 64 _ _ (crun cX1085 e00) _
  refine v_putR (ci := 3) (kf := 10) (z := 17) DX3_init_64 (csh wcX1085 (by decide +kernel)) rfl (by decide) (Or.inr (Or.inr ⟨rfl, rfl, rfl, q749⟩)) (fun _ _ => rfl) rfl rfl (Or.inr (cR wcX1085 (by decide +kernel))) ?_
  show VV E mX3_init d 67 _ _ (crun cX1086 e00) _
  refine v_aload_n 0 DX3_init_67 rfl rfl ?_
  refine v_sipush DX3_init_68 (by decide) ?_
  refine v_newa (t := 0) (z := 200) DX3_init_71 rfl (by decide) q337 rfl (by decide) (cn_ok wcX1086 (by decide)) (cz_ok wcX1086 (by decide)) ?_
  rw [cnn wcX1086]
  show VV E mX3_init d 73 _ _ (crun cX1087 e00) _
  refine v_putR (ci := 3) (kf := 11) (z := 17) DX3_init_73 (csh wcX1087 (by decide +kernel)) rfl (by decide) (Or.inr (Or.inr ⟨rfl, rfl, rfl, q752⟩)) (fun _ _ => rfl) rfl rfl (Or.inr (cR wcX1087 (by decide +kernel))) ?_
  show VV E mX3_init d 76 _ _ (crun cX1088 e00) _
  refine v_aload_n 0 DX3_init_76 rfl rfl ?_
  refine v_sipush DX3_init_77 (by decide) ?_
  refine v_newa (t := 0) (z := 200) DX3_init_80 rfl (by decide) q337 rfl (by decide) (cn_ok wcX1088 (by decide)) (cz_ok wcX1088 (by decide)) ?_
  rw [cnn wcX1088]
  show VV E mX3_init d 82 _ _ (crun cX1089 e00) _
  refine v_putR (ci := 3) (kf := 12) (z := 17) DX3_init_82 (csh wcX1089 (by decide +kernel)) rfl (by decide) (Or.inr (Or.inr ⟨rfl, rfl, rfl, q755⟩)) (fun _ _ => rfl) rfl rfl (Or.inr (cR wcX1089 (by decide +kernel))) ?_
  show VV E mX3_init d 85 _ _ (crun cX1090 e00) _
  refine v_aload_n 0 DX3_init_85 rfl rfl ?_
  refine v_sipush DX3_init_86 (by decide) ?_
  refine v_newa (t := 0) (z := 200) DX3_init_89 rfl (by decide) q337 rfl (by decide) (cn_ok wcX1090 (by decide)) (cz_ok wcX1090 (by decide)) ?_
  rw [cnn wcX1090]
  show VV E mX3_init d 91 _ _ (crun cX1091 e00) _
  refine v_putR (ci := 3) (kf := 13) (z := 17) DX3_init_91 (csh wcX1091 (by decide +kernel)) rfl (by decide) (Or.inr (Or.inr ⟨rfl, rfl, rfl, q758⟩)) (fun _ _ => rfl) rfl rfl (Or.inr (cR wcX1091 (by decide +kernel))) ?_
  show VV E mX3_init d 94 _ _ (crun cX1092 e00) _
  refine v_aload_n 0 DX3_init_94 rfl rfl ?_
  refine v_sipush DX3_init_95 (by decide) ?_
  refine v_newa (t := 4) (z := 200) DX3_init_98 rfl (by decide) q806 rfl (by decide) (cn_ok wcX1092 (by decide)) (cz_ok wcX1092 (by decide)) ?_
  rw [cnn wcX1092]
  show VV E mX3_init d 100 _ _ (crun cX1093 e00) _
  refine v_putR (ci := 3) (kf := 14) (z := 17) DX3_init_100 (csh wcX1093 (by decide +kernel)) rfl (by decide) (Or.inr (Or.inr ⟨rfl, rfl, rfl, q761⟩)) (fun _ _ => rfl) rfl rfl (Or.inr (cR wcX1093 (by decide +kernel))) ?_
  show VV E mX3_init d 103 _ _ (crun cX1094 e00) _
  refine v_aload_n 0 DX3_init_103 rfl rfl ?_
  refine v_sipush DX3_init_104 (by decide) ?_
  refine v_newa (t := 4) (z := 200) DX3_init_107 rfl (by decide) q806 rfl (by decide) (cn_ok wcX1094 (by decide)) (cz_ok wcX1094 (by decide)) ?_
  rw [cnn wcX1094]
  show VV E mX3_init d 109 _ _ (crun cX1095 e00) _
  refine v_putR (ci := 3) (kf := 15) (z := 17) DX3_init_109 (csh wcX1095 (by decide +kernel)) rfl (by decide) (Or.inr (Or.inr ⟨rfl, rfl, rfl, q764⟩)) (fun _ _ => rfl) rfl rfl (Or.inr (cR wcX1095 (by decide +kernel))) ?_
  show VV E mX3_init d 112 _ _ (crun cX1096 e00) _
  refine v_aload_n 0 DX3_init_112 rfl rfl ?_
  refine v_sipush DX3_init_113 (by decide) ?_
  refine v_newa (t := 4) (z := 200) DX3_init_116 rfl (by decide) q806 rfl (by decide) (cn_ok wcX1096 (by decide)) (cz_ok wcX1096 (by decide)) ?_
  rw [cnn wcX1096]
  show VV E mX3_init d 118 _ _ (crun cX1097 e00) _
  refine v_putR (ci := 3) (kf := 16) (z := 17) DX3_init_118 (csh wcX1097 (by decide +kernel)) rfl (by decide) (Or.inr (Or.inr ⟨rfl, rfl, rfl, q767⟩)) (fun _ _ => rfl) rfl rfl (Or.inr (cR wcX1097 (by decide +kernel))) ?_
  show VV E mX3_init d 121 _ _ (crun cX1098 e00) _
  exact v_vret DX3_init_121 rfl (RV_mk rfl)
def cX1099 : List (Nat × Nat × Nat × Nat) := (1, 79, 18, 527) :: cX1098
theorem wcX1099 : WF 541 1932881 cX1099 := ⟨by decide, wcX1098⟩
def cX1100 : List (Nat × Nat × Nat × Nat) := (0, 103, 17, 541) :: cX1099
theorem wcX1100 : WF 542 1932898 cX1100 := ⟨rfl, by decide, wcX1099⟩
def cX1101 : List (Nat × Nat × Nat × Nat) := (0, 1, 400, 542) :: cX1100
theorem wcX1101 : WF 543 1933298 cX1101 := ⟨rfl, by decide, wcX1100⟩
def cX1102 : List (Nat × Nat × Nat × Nat) := (1, 541, 0, 542) :: cX1101
theorem wcX1102 : WF 543 1933298 cX1102 := ⟨by decide, wcX1101⟩
def cX1103 : List (Nat × Nat × Nat × Nat) := (0, 0, 200, 543) :: cX1102
theorem wcX1103 : WF 544 1933498 cX1103 := ⟨rfl, by decide, wcX1102⟩
def cX1104 : List (Nat × Nat × Nat × Nat) := (1, 541, 5, 543) :: cX1103
theorem wcX1104 : WF 544 1933498 cX1104 := ⟨by decide, wcX1103⟩
def cX1105 : List (Nat × Nat × Nat × Nat) := (0, 0, 200, 544) :: cX1104
theorem wcX1105 : WF 545 1933698 cX1105 := ⟨rfl, by decide, wcX1104⟩
def cX1106 : List (Nat × Nat × Nat × Nat) := (1, 541, 6, 544) :: cX1105
theorem wcX1106 : WF 545 1933698 cX1106 := ⟨by decide, wcX1105⟩
def cX1107 : List (Nat × Nat × Nat × Nat) := (0, 0, 200, 545) :: cX1106
theorem wcX1107 : WF 546 1933898 cX1107 := ⟨rfl, by decide, wcX1106⟩
def cX1108 : List (Nat × Nat × Nat × Nat) := (1, 541, 7, 545) :: cX1107
theorem wcX1108 : WF 546 1933898 cX1108 := ⟨by decide, wcX1107⟩
def cX1109 : List (Nat × Nat × Nat × Nat) := (0, 0, 200, 546) :: cX1108
theorem wcX1109 : WF 547 1934098 cX1109 := ⟨rfl, by decide, wcX1108⟩
def cX1110 : List (Nat × Nat × Nat × Nat) := (1, 541, 8, 546) :: cX1109
theorem wcX1110 : WF 547 1934098 cX1110 := ⟨by decide, wcX1109⟩
def cX1111 : List (Nat × Nat × Nat × Nat) := (0, 4, 200, 547) :: cX1110
theorem wcX1111 : WF 548 1934298 cX1111 := ⟨rfl, by decide, wcX1110⟩
def cX1112 : List (Nat × Nat × Nat × Nat) := (1, 541, 9, 547) :: cX1111
theorem wcX1112 : WF 548 1934298 cX1112 := ⟨by decide, wcX1111⟩
def cX1113 : List (Nat × Nat × Nat × Nat) := (0, 0, 200, 548) :: cX1112
theorem wcX1113 : WF 549 1934498 cX1113 := ⟨rfl, by decide, wcX1112⟩
def cX1114 : List (Nat × Nat × Nat × Nat) := (1, 541, 10, 548) :: cX1113
theorem wcX1114 : WF 549 1934498 cX1114 := ⟨by decide, wcX1113⟩
def cX1115 : List (Nat × Nat × Nat × Nat) := (0, 0, 200, 549) :: cX1114
theorem wcX1115 : WF 550 1934698 cX1115 := ⟨rfl, by decide, wcX1114⟩
def cX1116 : List (Nat × Nat × Nat × Nat) := (1, 541, 11, 549) :: cX1115
theorem wcX1116 : WF 550 1934698 cX1116 := ⟨by decide, wcX1115⟩
def cX1117 : List (Nat × Nat × Nat × Nat) := (0, 0, 200, 550) :: cX1116
theorem wcX1117 : WF 551 1934898 cX1117 := ⟨rfl, by decide, wcX1116⟩
def cX1118 : List (Nat × Nat × Nat × Nat) := (1, 541, 12, 550) :: cX1117
theorem wcX1118 : WF 551 1934898 cX1118 := ⟨by decide, wcX1117⟩
def cX1119 : List (Nat × Nat × Nat × Nat) := (0, 0, 200, 551) :: cX1118
theorem wcX1119 : WF 552 1935098 cX1119 := ⟨rfl, by decide, wcX1118⟩
def cX1120 : List (Nat × Nat × Nat × Nat) := (1, 541, 13, 551) :: cX1119
theorem wcX1120 : WF 552 1935098 cX1120 := ⟨by decide, wcX1119⟩
def cX1121 : List (Nat × Nat × Nat × Nat) := (0, 4, 200, 552) :: cX1120
theorem wcX1121 : WF 553 1935298 cX1121 := ⟨rfl, by decide, wcX1120⟩
def cX1122 : List (Nat × Nat × Nat × Nat) := (1, 541, 14, 552) :: cX1121
theorem wcX1122 : WF 553 1935298 cX1122 := ⟨by decide, wcX1121⟩
def cX1123 : List (Nat × Nat × Nat × Nat) := (0, 4, 200, 553) :: cX1122
theorem wcX1123 : WF 554 1935498 cX1123 := ⟨rfl, by decide, wcX1122⟩
def cX1124 : List (Nat × Nat × Nat × Nat) := (1, 541, 15, 553) :: cX1123
theorem wcX1124 : WF 554 1935498 cX1124 := ⟨by decide, wcX1123⟩
def cX1125 : List (Nat × Nat × Nat × Nat) := (0, 4, 200, 554) :: cX1124
theorem wcX1125 : WF 555 1935698 cX1125 := ⟨rfl, by decide, wcX1124⟩
def cX1126 : List (Nat × Nat × Nat × Nat) := (1, 541, 16, 554) :: cX1125
theorem wcX1126 : WF 555 1935698 cX1126 := ⟨by decide, wcX1125⟩
theorem ct_X0_34 {E : XE} {d : Nat} (hd : 2 ≤ d) : CC E mX3_init d [aO 541] (crun cX1100 e00) (RV (fun τ => τ = crun cX1126 e00)) := by
  refine v_aload_n 0 DX3_init_0 rfl rfl ?_
  refine v_objInit DX3_init_1 q717 q309 q310 (by omega) (by decide) ?_
  refine v_aload_n 0 DX3_init_4 rfl rfl ?_
  refine v_sipush DX3_init_5 (by decide) ?_
  refine v_newa (t := 1) (z := 400) DX3_init_8 rfl (by decide) q336 rfl (by decide) (cn_ok wcX1100 (by decide)) (cz_ok wcX1100 (by decide)) ?_
  rw [cnn wcX1100]
  show VV E mX3_init d 10 _ _ (crun cX1101 e00) _
  refine v_putR (ci := 3) (kf := 0) (z := 17) DX3_init_10 (csh wcX1101 (by decide +kernel)) rfl (by decide) (Or.inr (Or.inr ⟨rfl, rfl, rfl, q718⟩)) (fun _ _ => rfl) rfl rfl (Or.inr (cR wcX1101 (by decide +kernel))) ?_
  show VV E mX3_init d 13 _ _ (crun cX1102 e00) _
  refine v_aload_n 0 DX3_init_13 rfl rfl ?_
  refine v_sipush DX3_init_14 (by decide) ?_
  refine v_newa (t := 0) (z := 200) DX3_init_17 rfl (by decide) q337 rfl (by decide) (cn_ok wcX1102 (by decide)) (cz_ok wcX1102 (by decide)) ?_
  rw [cnn wcX1102]
  show VV E mX3_init d 19 _ _ (crun cX1103 e00) _
  refine v_putR (ci := 3) (kf := 5) (z := 17) DX3_init_19 (csh wcX1103 (by decide +kernel)) rfl (by decide) (Or.inr (Or.inr ⟨rfl, rfl, rfl, q734⟩)) (fun _ _ => rfl) rfl rfl (Or.inr (cR wcX1103 (by decide +kernel))) ?_
  show VV E mX3_init d 22 _ _ (crun cX1104 e00) _
  refine v_aload_n 0 DX3_init_22 rfl rfl ?_
  refine v_sipush DX3_init_23 (by decide) ?_
  refine v_newa (t := 0) (z := 200) DX3_init_26 rfl (by decide) q337 rfl (by decide) (cn_ok wcX1104 (by decide)) (cz_ok wcX1104 (by decide)) ?_
  rw [cnn wcX1104]
  show VV E mX3_init d 28 _ _ (crun cX1105 e00) _
  refine v_putR (ci := 3) (kf := 6) (z := 17) DX3_init_28 (csh wcX1105 (by decide +kernel)) rfl (by decide) (Or.inr (Or.inr ⟨rfl, rfl, rfl, q737⟩)) (fun _ _ => rfl) rfl rfl (Or.inr (cR wcX1105 (by decide +kernel))) ?_
  show VV E mX3_init d 31 _ _ (crun cX1106 e00) _
  refine v_aload_n 0 DX3_init_31 rfl rfl ?_
  refine v_sipush DX3_init_32 (by decide) ?_
  refine v_newa (t := 0) (z := 200) DX3_init_35 rfl (by decide) q337 rfl (by decide) (cn_ok wcX1106 (by decide)) (cz_ok wcX1106 (by decide)) ?_
  rw [cnn wcX1106]
  show VV E mX3_init d 37 _ _ (crun cX1107 e00) _
  refine v_putR (ci := 3) (kf := 7) (z := 17) DX3_init_37 (csh wcX1107 (by decide +kernel)) rfl (by decide) (Or.inr (Or.inr ⟨rfl, rfl, rfl, q740⟩)) (fun _ _ => rfl) rfl rfl (Or.inr (cR wcX1107 (by decide +kernel))) ?_
  show VV E mX3_init d 40 _ _ (crun cX1108 e00) _
  refine v_aload_n 0 DX3_init_40 rfl rfl ?_
  refine v_sipush DX3_init_41 (by decide) ?_
  refine v_newa (t := 0) (z := 200) DX3_init_44 rfl (by decide) q337 rfl (by decide) (cn_ok wcX1108 (by decide)) (cz_ok wcX1108 (by decide)) ?_
  rw [cnn wcX1108]
  show VV E mX3_init d 46 _ _ (crun cX1109 e00) _
  refine v_putR (ci := 3) (kf := 8) (z := 17) DX3_init_46 (csh wcX1109 (by decide +kernel)) rfl (by decide) (Or.inr (Or.inr ⟨rfl, rfl, rfl, q743⟩)) (fun _ _ => rfl) rfl rfl (Or.inr (cR wcX1109 (by decide +kernel))) ?_
  show VV E mX3_init d 49 _ _ (crun cX1110 e00) _
  refine v_aload_n 0 DX3_init_49 rfl rfl ?_
  refine v_sipush DX3_init_50 (by decide) ?_
  refine v_newa (t := 4) (z := 200) DX3_init_53 rfl (by decide) q806 rfl (by decide) (cn_ok wcX1110 (by decide)) (cz_ok wcX1110 (by decide)) ?_
  rw [cnn wcX1110]
  show VV E mX3_init d 55 _ _ (crun cX1111 e00) _
  refine v_putR (ci := 3) (kf := 9) (z := 17) DX3_init_55 (csh wcX1111 (by decide +kernel)) rfl (by decide) (Or.inr (Or.inr ⟨rfl, rfl, rfl, q746⟩)) (fun _ _ => rfl) rfl rfl (Or.inr (cR wcX1111 (by decide +kernel))) ?_
  show VV E mX3_init d 58 _ _ (crun cX1112 e00) _
  refine v_aload_n 0 DX3_init_58 rfl rfl ?_
  refine v_sipush DX3_init_59 (by decide) ?_
  refine v_newa (t := 0) (z := 200) DX3_init_62 rfl (by decide) q337 rfl (by decide) (cn_ok wcX1112 (by decide)) (cz_ok wcX1112 (by decide)) ?_
  rw [cnn wcX1112]
  show VV E mX3_init d 64 _ _ (crun cX1113 e00) _
  refine v_putR (ci := 3) (kf := 10) (z := 17) DX3_init_64 (csh wcX1113 (by decide +kernel)) rfl (by decide) (Or.inr (Or.inr ⟨rfl, rfl, rfl, q749⟩)) (fun _ _ => rfl) rfl rfl (Or.inr (cR wcX1113 (by decide +kernel))) ?_
  show VV E mX3_init d 67 _ _ (crun cX1114 e00) _
  refine v_aload_n 0 DX3_init_67 rfl rfl ?_
  refine v_sipush DX3_init_68 (by decide) ?_
  refine v_newa (t := 0) (z := 200) DX3_init_71 rfl (by decide) q337 rfl (by decide) (cn_ok wcX1114 (by decide)) (cz_ok wcX1114 (by decide)) ?_
  rw [cnn wcX1114]
  show VV E mX3_init d 73 _ _ (crun cX1115 e00) _
  refine v_putR (ci := 3) (kf := 11) (z := 17) DX3_init_73 (csh wcX1115 (by decide +kernel)) rfl (by decide) (Or.inr (Or.inr ⟨rfl, rfl, rfl, q752⟩)) (fun _ _ => rfl) rfl rfl (Or.inr (cR wcX1115 (by decide +kernel))) ?_
  show VV E mX3_init d 76 _ _ (crun cX1116 e00) _
  refine v_aload_n 0 DX3_init_76 rfl rfl ?_
  refine v_sipush DX3_init_77 (by decide) ?_
  refine v_newa (t := 0) (z := 200) DX3_init_80 rfl (by decide) q337 rfl (by decide) (cn_ok wcX1116 (by decide)) (cz_ok wcX1116 (by decide)) ?_
  rw [cnn wcX1116]
  show VV E mX3_init d 82 _ _ (crun cX1117 e00) _
  refine v_putR (ci := 3) (kf := 12) (z := 17) DX3_init_82 (csh wcX1117 (by decide +kernel)) rfl (by decide) (Or.inr (Or.inr ⟨rfl, rfl, rfl, q755⟩)) (fun _ _ => rfl) rfl rfl (Or.inr (cR wcX1117 (by decide +kernel))) ?_
  show VV E mX3_init d 85 _ _ (crun cX1118 e00) _
  refine v_aload_n 0 DX3_init_85 rfl rfl ?_
  refine v_sipush DX3_init_86 (by decide) ?_
  refine v_newa (t := 0) (z := 200) DX3_init_89 rfl (by decide) q337 rfl (by decide) (cn_ok wcX1118 (by decide)) (cz_ok wcX1118 (by decide)) ?_
  rw [cnn wcX1118]
  show VV E mX3_init d 91 _ _ (crun cX1119 e00) _
  refine v_putR (ci := 3) (kf := 13) (z := 17) DX3_init_91 (csh wcX1119 (by decide +kernel)) rfl (by decide) (Or.inr (Or.inr ⟨rfl, rfl, rfl, q758⟩)) (fun _ _ => rfl) rfl rfl (Or.inr (cR wcX1119 (by decide +kernel))) ?_
  show VV E mX3_init d 94 _ _ (crun cX1120 e00) _
  refine v_aload_n 0 DX3_init_94 rfl rfl ?_
  refine v_sipush DX3_init_95 (by decide) ?_
  refine v_newa (t := 4) (z := 200) DX3_init_98 rfl (by decide) q806 rfl (by decide) (cn_ok wcX1120 (by decide)) (cz_ok wcX1120 (by decide)) ?_
  rw [cnn wcX1120]
  show VV E mX3_init d 100 _ _ (crun cX1121 e00) _
  refine v_putR (ci := 3) (kf := 14) (z := 17) DX3_init_100 (csh wcX1121 (by decide +kernel)) rfl (by decide) (Or.inr (Or.inr ⟨rfl, rfl, rfl, q761⟩)) (fun _ _ => rfl) rfl rfl (Or.inr (cR wcX1121 (by decide +kernel))) ?_
  show VV E mX3_init d 103 _ _ (crun cX1122 e00) _
  refine v_aload_n 0 DX3_init_103 rfl rfl ?_
  refine v_sipush DX3_init_104 (by decide) ?_
  refine v_newa (t := 4) (z := 200) DX3_init_107 rfl (by decide) q806 rfl (by decide) (cn_ok wcX1122 (by decide)) (cz_ok wcX1122 (by decide)) ?_
  rw [cnn wcX1122]
  show VV E mX3_init d 109 _ _ (crun cX1123 e00) _
  refine v_putR (ci := 3) (kf := 15) (z := 17) DX3_init_109 (csh wcX1123 (by decide +kernel)) rfl (by decide) (Or.inr (Or.inr ⟨rfl, rfl, rfl, q764⟩)) (fun _ _ => rfl) rfl rfl (Or.inr (cR wcX1123 (by decide +kernel))) ?_
  show VV E mX3_init d 112 _ _ (crun cX1124 e00) _
  refine v_aload_n 0 DX3_init_112 rfl rfl ?_
  refine v_sipush DX3_init_113 (by decide) ?_
  refine v_newa (t := 4) (z := 200) DX3_init_116 rfl (by decide) q806 rfl (by decide) (cn_ok wcX1124 (by decide)) (cz_ok wcX1124 (by decide)) ?_
  rw [cnn wcX1124]
  show VV E mX3_init d 118 _ _ (crun cX1125 e00) _
  refine v_putR (ci := 3) (kf := 16) (z := 17) DX3_init_118 (csh wcX1125 (by decide +kernel)) rfl (by decide) (Or.inr (Or.inr ⟨rfl, rfl, rfl, q767⟩)) (fun _ _ => rfl) rfl rfl (Or.inr (cR wcX1125 (by decide +kernel))) ?_
  show VV E mX3_init d 121 _ _ (crun cX1126 e00) _
  exact v_vret DX3_init_121 rfl (RV_mk rfl)
def cX1127 : List (Nat × Nat × Nat × Nat) := (1, 79, 19, 541) :: cX1126
theorem wcX1127 : WF 555 1935698 cX1127 := ⟨by decide, wcX1126⟩
theorem ct_X0 {E : XE} {d : Nat} (hd : 4 ≤ d) : CC E mX0_init d [aO 0] (crun cX1 e00) (RV (fun τ => τ = crun cX1127 e00)) := by
  obtain ⟨d, rfl⟩ : ∃ e, d = e + 1 := ⟨d - 1, by omega⟩
  refine v_aload_n 0 DX0_init_0 rfl rfl ?_
  refine v_objInit DX0_init_1 q620 q309 q310 (by omega) (by decide) ?_
  refine v_aload_n 0 DX0_init_4 rfl rfl ?_
  refine v_sipush DX0_init_5 (by decide) ?_
  refine v_newa (t := 1) (z := 30000) DX0_init_8 rfl (by decide) q336 rfl (by decide) (cn_ok wcX1 (by decide)) (cz_ok wcX1 (by decide)) ?_
  rw [cnn wcX1]
  show VV E mX0_init (d + 1) 10 _ _ (crun cX2 e00) _
  refine v_putR (ci := 0) (kf := 0) (z := 104) DX0_init_10 (csh wcX2 (by decide +kernel)) rfl (by decide) (Or.inr (Or.inr ⟨rfl, rfl, rfl, q990⟩)) (fun _ _ => rfl) rfl rfl (Or.inr (cR wcX2 (by decide +kernel))) ?_
  show VV E mX0_init (d + 1) 13 _ _ (crun cX3 e00) _
  refine v_aload_n 0 DX0_init_13 rfl rfl ?_
  refine v_sipush DX0_init_14 (by decide) ?_
  refine v_newa (t := 1) (z := 30000) DX0_init_17 rfl (by decide) q336 rfl (by decide) (cn_ok wcX3 (by decide)) (cz_ok wcX3 (by decide)) ?_
  rw [cnn wcX3]
  show VV E mX0_init (d + 1) 19 _ _ (crun cX4 e00) _
  refine v_putR (ci := 0) (kf := 2) (z := 104) DX0_init_19 (csh wcX4 (by decide +kernel)) rfl (by decide) (Or.inr (Or.inr ⟨rfl, rfl, rfl, q993⟩)) (fun _ _ => rfl) rfl rfl (Or.inr (cR wcX4 (by decide +kernel))) ?_
  show VV E mX0_init (d + 1) 22 _ _ (crun cX5 e00) _
  refine v_aload_n 0 DX0_init_22 rfl rfl ?_
  refine v_bipush DX0_init_23 (by decide) ?_
  refine v_anew (t := 5) (z := 6) DX0_init_25 (by decide) rfl q303 q621 rfl (by decide) (cn_ok wcX5 (by decide)) (cz_ok wcX5 (by decide)) ?_
  rw [cnn wcX5]
  show VV E mX0_init (d + 1) 28 _ _ (crun cX6 e00) _
  refine v_putR (ci := 0) (kf := 3) (z := 104) DX0_init_28 (csh wcX6 (by decide +kernel)) rfl (by decide) (Or.inr (Or.inr ⟨rfl, rfl, rfl, q995⟩)) (fun _ _ => rfl) rfl rfl (Or.inr (cR wcX6 (by decide +kernel))) ?_
  show VV E mX0_init (d + 1) 31 _ _ (crun cX7 e00) _
  refine v_aload_n 0 DX0_init_31 rfl rfl ?_
  refine v_new (ci := 1) (z := 6) DX0_init_32 rfl q622 q623 q254 (cn_ok wcX7 (by decide)) (cz_ok wcX7 (by decide)) ?_
  rw [cnn wcX7]
  show VV E mX0_init (d + 1) 35 _ _ (crun cX8 e00) _
  refine v_dup DX0_init_35 rfl ?_
  refine v_invI (as := []) (b := 4) (st := [aO 4, aO 0]) DX0_init_36 rfl okX1_init (Or.inr ⟨_, q624⟩) q625 q626 rfl npX1_init (ct_X0_1 (d := d) (by omega)) (Nat.le_of_ble_eq_true rfl) (Nat.le_refl _) (Nat.le_of_ble_eq_true rfl) (RV_ret (fun τ g e => ?_)) RV_thr
  subst e
  refine v_putR (ci := 0) (kf := 5) (z := 104) DX0_init_39 (csh wcX18 (by decide +kernel)) rfl (by decide) (Or.inr (Or.inr ⟨rfl, rfl, rfl, q999⟩)) (fun _ _ => rfl) rfl rfl (Or.inr (cR wcX18 (by decide +kernel))) ?_
  show VV E mX0_init (d + 1) 42 _ _ (crun cX19 e00) _
  refine v_aload_n 0 DX0_init_42 rfl rfl ?_
  refine v_new (ci := 1) (z := 6) DX0_init_43 rfl q622 q623 q254 (cn_ok wcX19 (by decide)) (cz_ok wcX19 (by decide)) ?_
  rw [cnn wcX19]
  show VV E mX0_init (d + 1) 46 _ _ (crun cX20 e00) _
  refine v_dup DX0_init_46 rfl ?_
  refine v_invI (as := []) (b := 10) (st := [aO 10, aO 0]) DX0_init_47 rfl okX1_init (Or.inr ⟨_, q624⟩) q625 q626 rfl npX1_init (ct_X0_2 (d := d) (by omega)) (Nat.le_of_ble_eq_true rfl) (Nat.le_refl _) (Nat.le_of_ble_eq_true rfl) (RV_ret (fun τ g e => ?_)) RV_thr
  subst e
  refine v_putR (ci := 0) (kf := 6) (z := 104) DX0_init_50 (csh wcX30 (by decide +kernel)) rfl (by decide) (Or.inr (Or.inr ⟨rfl, rfl, rfl, q1001⟩)) (fun _ _ => rfl) rfl rfl (Or.inr (cR wcX30 (by decide +kernel))) ?_
  show VV E mX0_init (d + 1) 53 _ _ (crun cX31 e00) _
  refine v_aload_n 0 DX0_init_53 rfl rfl ?_
  refine v_bipush DX0_init_54 (by decide) ?_
  refine v_newa (t := 0) (z := 12) DX0_init_56 rfl (by decide) q337 rfl (by decide) (cn_ok wcX31 (by decide)) (cz_ok wcX31 (by decide)) ?_
  rw [cnn wcX31]
  show VV E mX0_init (d + 1) 58 _ _ (crun cX32 e00) _
  refine v_putR (ci := 0) (kf := 7) (z := 104) DX0_init_58 (csh wcX32 (by decide +kernel)) rfl (by decide) (Or.inr (Or.inr ⟨rfl, rfl, rfl, q1005⟩)) (fun _ _ => rfl) rfl rfl (Or.inr (cR wcX32 (by decide +kernel))) ?_
  show VV E mX0_init (d + 1) 61 _ _ (crun cX33 e00) _
  refine v_aload_n 0 DX0_init_61 rfl rfl ?_
  refine v_bipush DX0_init_62 (by decide) ?_
  refine v_newa (t := 0) (z := 12) DX0_init_64 rfl (by decide) q337 rfl (by decide) (cn_ok wcX33 (by decide)) (cz_ok wcX33 (by decide)) ?_
  rw [cnn wcX33]
  show VV E mX0_init (d + 1) 66 _ _ (crun cX34 e00) _
  refine v_putR (ci := 0) (kf := 8) (z := 104) DX0_init_66 (csh wcX34 (by decide +kernel)) rfl (by decide) (Or.inr (Or.inr ⟨rfl, rfl, rfl, q1008⟩)) (fun _ _ => rfl) rfl rfl (Or.inr (cR wcX34 (by decide +kernel))) ?_
  show VV E mX0_init (d + 1) 69 _ _ (crun cX35 e00) _
  refine v_aload_n 0 DX0_init_69 rfl rfl ?_
  refine v_new (ci := 2) (z := 9) DX0_init_70 rfl q658 q659 q255 (cn_ok wcX35 (by decide)) (cz_ok wcX35 (by decide)) ?_
  rw [cnn wcX35]
  show VV E mX0_init (d + 1) 73 _ _ (crun cX36 e00) _
  refine v_dup DX0_init_73 rfl ?_
  refine v_aload_n 0 DX0_init_74 rfl rfl ?_
  refine v_invI (as := [aO 0]) (b := 18) (st := [aO 18, aO 0]) DX0_init_75 rfl okX2_init (Or.inr ⟨_, q660⟩) q661 q662 rfl npX2_init (ct_X0_3 (d := d) (by omega)) (Nat.le_of_ble_eq_true rfl) (Nat.le_refl _) (Nat.le_of_ble_eq_true rfl) (RV_ret (fun τ g e => ?_)) RV_thr
  subst e
  refine v_putR (ci := 0) (kf := 10) (z := 104) DX0_init_78 (csh wcX51 (by decide +kernel)) rfl (by decide) (Or.inr (Or.inr ⟨rfl, rfl, rfl, q1013⟩)) (fun _ _ => rfl) rfl rfl (Or.inr (cR wcX51 (by decide +kernel))) ?_
  show VV E mX0_init (d + 1) 81 _ _ (crun cX52 e00) _
  refine v_aload_n 0 DX0_init_81 rfl rfl ?_
  refine v_sipush DX0_init_82 (by decide) ?_
  refine v_newa (t := 1) (z := 6000) DX0_init_85 rfl (by decide) q336 rfl (by decide) (cn_ok wcX52 (by decide)) (cz_ok wcX52 (by decide)) ?_
  rw [cnn wcX52]
  show VV E mX0_init (d + 1) 87 _ _ (crun cX53 e00) _
  refine v_putR (ci := 0) (kf := 11) (z := 104) DX0_init_87 (csh wcX53 (by decide +kernel)) rfl (by decide) (Or.inr (Or.inr ⟨rfl, rfl, rfl, q1016⟩)) (fun _ _ => rfl) rfl rfl (Or.inr (cR wcX53 (by decide +kernel))) ?_
  show VV E mX0_init (d + 1) 90 _ _ (crun cX54 e00) _
  refine v_aload_n 0 DX0_init_90 rfl rfl ?_
  refine v_sipush DX0_init_91 (by decide) ?_
  refine v_newa (t := 2) (z := 6000) DX0_init_94 rfl (by decide) q805 rfl (by decide) (cn_ok wcX54 (by decide)) (cz_ok wcX54 (by decide)) ?_
  rw [cnn wcX54]
  show VV E mX0_init (d + 1) 96 _ _ (crun cX55 e00) _
  refine v_putR (ci := 0) (kf := 12) (z := 104) DX0_init_96 (csh wcX55 (by decide +kernel)) rfl (by decide) (Or.inr (Or.inr ⟨rfl, rfl, rfl, q1019⟩)) (fun _ _ => rfl) rfl rfl (Or.inr (cR wcX55 (by decide +kernel))) ?_
  show VV E mX0_init (d + 1) 99 _ _ (crun cX56 e00) _
  refine v_aload_n 0 DX0_init_99 rfl rfl ?_
  refine v_sipush DX0_init_100 (by decide) ?_
  refine v_newa (t := 0) (z := 6000) DX0_init_103 rfl (by decide) q337 rfl (by decide) (cn_ok wcX56 (by decide)) (cz_ok wcX56 (by decide)) ?_
  rw [cnn wcX56]
  show VV E mX0_init (d + 1) 105 _ _ (crun cX57 e00) _
  refine v_putR (ci := 0) (kf := 13) (z := 104) DX0_init_105 (csh wcX57 (by decide +kernel)) rfl (by decide) (Or.inr (Or.inr ⟨rfl, rfl, rfl, q1020⟩)) (fun _ _ => rfl) rfl rfl (Or.inr (cR wcX57 (by decide +kernel))) ?_
  show VV E mX0_init (d + 1) 108 _ _ (crun cX58 e00) _
  refine v_aload_n 0 DX0_init_108 rfl rfl ?_
  refine v_sipush DX0_init_109 (by decide) ?_
  refine v_newa (t := 0) (z := 6000) DX0_init_112 rfl (by decide) q337 rfl (by decide) (cn_ok wcX58 (by decide)) (cz_ok wcX58 (by decide)) ?_
  rw [cnn wcX58]
  show VV E mX0_init (d + 1) 114 _ _ (crun cX59 e00) _
  refine v_putR (ci := 0) (kf := 14) (z := 104) DX0_init_114 (csh wcX59 (by decide +kernel)) rfl (by decide) (Or.inr (Or.inr ⟨rfl, rfl, rfl, q1021⟩)) (fun _ _ => rfl) rfl rfl (Or.inr (cR wcX59 (by decide +kernel))) ?_
  show VV E mX0_init (d + 1) 117 _ _ (crun cX60 e00) _
  refine v_aload_n 0 DX0_init_117 rfl rfl ?_
  refine v_sipush DX0_init_118 (by decide) ?_
  refine v_newa (t := 4) (z := 6000) DX0_init_121 rfl (by decide) q806 rfl (by decide) (cn_ok wcX60 (by decide)) (cz_ok wcX60 (by decide)) ?_
  rw [cnn wcX60]
  show VV E mX0_init (d + 1) 123 _ _ (crun cX61 e00) _
  refine v_putR (ci := 0) (kf := 15) (z := 104) DX0_init_123 (csh wcX61 (by decide +kernel)) rfl (by decide) (Or.inr (Or.inr ⟨rfl, rfl, rfl, q1023⟩)) (fun _ _ => rfl) rfl rfl (Or.inr (cR wcX61 (by decide +kernel))) ?_
  show VV E mX0_init (d + 1) 126 _ _ (crun cX62 e00) _
  refine v_aload_n 0 DX0_init_126 rfl rfl ?_
  refine v_sipush DX0_init_127 (by decide) ?_
  refine v_newa (t := 0) (z := 6000) DX0_init_130 rfl (by decide) q337 rfl (by decide) (cn_ok wcX62 (by decide)) (cz_ok wcX62 (by decide)) ?_
  rw [cnn wcX62]
  show VV E mX0_init (d + 1) 132 _ _ (crun cX63 e00) _
  refine v_putR (ci := 0) (kf := 16) (z := 104) DX0_init_132 (csh wcX63 (by decide +kernel)) rfl (by decide) (Or.inr (Or.inr ⟨rfl, rfl, rfl, q1025⟩)) (fun _ _ => rfl) rfl rfl (Or.inr (cR wcX63 (by decide +kernel))) ?_
  show VV E mX0_init (d + 1) 135 _ _ (crun cX64 e00) _
  refine v_aload_n 0 DX0_init_135 rfl rfl ?_
  refine v_sipush DX0_init_136 (by decide) ?_
  refine v_newa (t := 0) (z := 6000) DX0_init_139 rfl (by decide) q337 rfl (by decide) (cn_ok wcX64 (by decide)) (cz_ok wcX64 (by decide)) ?_
  rw [cnn wcX64]
  show VV E mX0_init (d + 1) 141 _ _ (crun cX65 e00) _
  refine v_putR (ci := 0) (kf := 17) (z := 104) DX0_init_141 (csh wcX65 (by decide +kernel)) rfl (by decide) (Or.inr (Or.inr ⟨rfl, rfl, rfl, q1028⟩)) (fun _ _ => rfl) rfl rfl (Or.inr (cR wcX65 (by decide +kernel))) ?_
  show VV E mX0_init (d + 1) 144 _ _ (crun cX66 e00) _
  refine v_aload_n 0 DX0_init_144 rfl rfl ?_
  refine v_sipush DX0_init_145 (by decide) ?_
  refine v_newa (t := 0) (z := 6000) DX0_init_148 rfl (by decide) q337 rfl (by decide) (cn_ok wcX66 (by decide)) (cz_ok wcX66 (by decide)) ?_
  rw [cnn wcX66]
  show VV E mX0_init (d + 1) 150 _ _ (crun cX67 e00) _
  refine v_putR (ci := 0) (kf := 18) (z := 104) DX0_init_150 (csh wcX67 (by decide +kernel)) rfl (by decide) (Or.inr (Or.inr ⟨rfl, rfl, rfl, q1030⟩)) (fun _ _ => rfl) rfl rfl (Or.inr (cR wcX67 (by decide +kernel))) ?_
  show VV E mX0_init (d + 1) 153 _ _ (crun cX68 e00) _
  refine v_aload_n 0 DX0_init_153 rfl rfl ?_
  refine v_sipush DX0_init_154 (by decide) ?_
  refine v_newa (t := 0) (z := 6000) DX0_init_157 rfl (by decide) q337 rfl (by decide) (cn_ok wcX68 (by decide)) (cz_ok wcX68 (by decide)) ?_
  rw [cnn wcX68]
  show VV E mX0_init (d + 1) 159 _ _ (crun cX69 e00) _
  refine v_putR (ci := 0) (kf := 19) (z := 104) DX0_init_159 (csh wcX69 (by decide +kernel)) rfl (by decide) (Or.inr (Or.inr ⟨rfl, rfl, rfl, q1033⟩)) (fun _ _ => rfl) rfl rfl (Or.inr (cR wcX69 (by decide +kernel))) ?_
  show VV E mX0_init (d + 1) 162 _ _ (crun cX70 e00) _
  refine v_aload_n 0 DX0_init_162 rfl rfl ?_
  refine v_ldc (x := 60000) DX0_init_163 q708 rfl ?_
  refine v_newa (t := 1) (z := 60000) DX0_init_165 rfl (by decide) q336 rfl (by decide) (cn_ok wcX70 (by decide)) (cz_ok wcX70 (by decide)) ?_
  rw [cnn wcX70]
  show VV E mX0_init (d + 1) 167 _ _ (crun cX71 e00) _
  refine v_putR (ci := 0) (kf := 21) (z := 104) DX0_init_167 (csh wcX71 (by decide +kernel)) rfl (by decide) (Or.inr (Or.inr ⟨rfl, rfl, rfl, q1037⟩)) (fun _ _ => rfl) rfl rfl (Or.inr (cR wcX71 (by decide +kernel))) ?_
  show VV E mX0_init (d + 1) 170 _ _ (crun cX72 e00) _
  refine v_aload_n 0 DX0_init_170 rfl rfl ?_
  refine v_sipush DX0_init_171 (by decide) ?_
  refine v_newa (t := 0) (z := 24000) DX0_init_174 rfl (by decide) q337 rfl (by decide) (cn_ok wcX72 (by decide)) (cz_ok wcX72 (by decide)) ?_
  rw [cnn wcX72]
  show VV E mX0_init (d + 1) 176 _ _ (crun cX73 e00) _
  refine v_putR (ci := 0) (kf := 23) (z := 104) DX0_init_176 (csh wcX73 (by decide +kernel)) rfl (by decide) (Or.inr (Or.inr ⟨rfl, rfl, rfl, q1040⟩)) (fun _ _ => rfl) rfl rfl (Or.inr (cR wcX73 (by decide +kernel))) ?_
  show VV E mX0_init (d + 1) 179 _ _ (crun cX74 e00) _
  refine v_aload_n 0 DX0_init_179 rfl rfl ?_
  refine v_sipush DX0_init_180 (by decide) ?_
  refine v_newa (t := 0) (z := 24000) DX0_init_183 rfl (by decide) q337 rfl (by decide) (cn_ok wcX74 (by decide)) (cz_ok wcX74 (by decide)) ?_
  rw [cnn wcX74]
  show VV E mX0_init (d + 1) 185 _ _ (crun cX75 e00) _
  refine v_putR (ci := 0) (kf := 24) (z := 104) DX0_init_185 (csh wcX75 (by decide +kernel)) rfl (by decide) (Or.inr (Or.inr ⟨rfl, rfl, rfl, q1043⟩)) (fun _ _ => rfl) rfl rfl (Or.inr (cR wcX75 (by decide +kernel))) ?_
  show VV E mX0_init (d + 1) 188 _ _ (crun cX76 e00) _
  refine v_aload_n 0 DX0_init_188 rfl rfl ?_
  refine v_sipush DX0_init_189 (by decide) ?_
  refine v_newa (t := 2) (z := 24000) DX0_init_192 rfl (by decide) q805 rfl (by decide) (cn_ok wcX76 (by decide)) (cz_ok wcX76 (by decide)) ?_
  rw [cnn wcX76]
  show VV E mX0_init (d + 1) 194 _ _ (crun cX77 e00) _
  refine v_putR (ci := 0) (kf := 25) (z := 104) DX0_init_194 (csh wcX77 (by decide +kernel)) rfl (by decide) (Or.inr (Or.inr ⟨rfl, rfl, rfl, q1046⟩)) (fun _ _ => rfl) rfl rfl (Or.inr (cR wcX77 (by decide +kernel))) ?_
  show VV E mX0_init (d + 1) 197 _ _ (crun cX78 e00) _
  refine v_aload_n 0 DX0_init_197 rfl rfl ?_
  refine v_sipush DX0_init_198 (by decide) ?_
  refine v_newa (t := 2) (z := 24000) DX0_init_201 rfl (by decide) q805 rfl (by decide) (cn_ok wcX78 (by decide)) (cz_ok wcX78 (by decide)) ?_
  rw [cnn wcX78]
  show VV E mX0_init (d + 1) 203 _ _ (crun cX79 e00) _
  refine v_putR (ci := 0) (kf := 26) (z := 104) DX0_init_203 (csh wcX79 (by decide +kernel)) rfl (by decide) (Or.inr (Or.inr ⟨rfl, rfl, rfl, q1048⟩)) (fun _ _ => rfl) rfl rfl (Or.inr (cR wcX79 (by decide +kernel))) ?_
  show VV E mX0_init (d + 1) 206 _ _ (crun cX80 e00) _
  refine v_aload_n 0 DX0_init_206 rfl rfl ?_
  refine v_sipush DX0_init_207 (by decide) ?_
  refine v_newa (t := 2) (z := 24000) DX0_init_210 rfl (by decide) q805 rfl (by decide) (cn_ok wcX80 (by decide)) (cz_ok wcX80 (by decide)) ?_
  rw [cnn wcX80]
  show VV E mX0_init (d + 1) 212 _ _ (crun cX81 e00) _
  refine v_putR (ci := 0) (kf := 27) (z := 104) DX0_init_212 (csh wcX81 (by decide +kernel)) rfl (by decide) (Or.inr (Or.inr ⟨rfl, rfl, rfl, q1049⟩)) (fun _ _ => rfl) rfl rfl (Or.inr (cR wcX81 (by decide +kernel))) ?_
  show VV E mX0_init (d + 1) 215 _ _ (crun cX82 e00) _
  refine v_aload_n 0 DX0_init_215 rfl rfl ?_
  refine v_sipush DX0_init_216 (by decide) ?_
  refine v_newa (t := 2) (z := 24000) DX0_init_219 rfl (by decide) q805 rfl (by decide) (cn_ok wcX82 (by decide)) (cz_ok wcX82 (by decide)) ?_
  rw [cnn wcX82]
  show VV E mX0_init (d + 1) 221 _ _ (crun cX83 e00) _
  refine v_putR (ci := 0) (kf := 28) (z := 104) DX0_init_221 (csh wcX83 (by decide +kernel)) rfl (by decide) (Or.inr (Or.inr ⟨rfl, rfl, rfl, q1050⟩)) (fun _ _ => rfl) rfl rfl (Or.inr (cR wcX83 (by decide +kernel))) ?_
  show VV E mX0_init (d + 1) 224 _ _ (crun cX84 e00) _
  refine v_aload_n 0 DX0_init_224 rfl rfl ?_
  refine v_sipush DX0_init_225 (by decide) ?_
  refine v_newa (t := 0) (z := 601) DX0_init_228 rfl (by decide) q337 rfl (by decide) (cn_ok wcX84 (by decide)) (cz_ok wcX84 (by decide)) ?_
  rw [cnn wcX84]
  show VV E mX0_init (d + 1) 230 _ _ (crun cX85 e00) _
  refine v_putR (ci := 0) (kf := 33) (z := 104) DX0_init_230 (csh wcX85 (by decide +kernel)) rfl (by decide) (Or.inr (Or.inr ⟨rfl, rfl, rfl, q1061⟩)) (fun _ _ => rfl) rfl rfl (Or.inr (cR wcX85 (by decide +kernel))) ?_
  show VV E mX0_init (d + 1) 233 _ _ (crun cX86 e00) _
  refine v_aload_n 0 DX0_init_233 rfl rfl ?_
  refine v_sipush DX0_init_234 (by decide) ?_
  refine v_newa (t := 0) (z := 601) DX0_init_237 rfl (by decide) q337 rfl (by decide) (cn_ok wcX86 (by decide)) (cz_ok wcX86 (by decide)) ?_
  rw [cnn wcX86]
  show VV E mX0_init (d + 1) 239 _ _ (crun cX87 e00) _
  refine v_putR (ci := 0) (kf := 34) (z := 104) DX0_init_239 (csh wcX87 (by decide +kernel)) rfl (by decide) (Or.inr (Or.inr ⟨rfl, rfl, rfl, q1065⟩)) (fun _ _ => rfl) rfl rfl (Or.inr (cR wcX87 (by decide +kernel))) ?_
  show VV E mX0_init (d + 1) 242 _ _ (crun cX88 e00) _
  refine v_aload_n 0 DX0_init_242 rfl rfl ?_
  refine v_sipush DX0_init_243 (by decide) ?_
  refine v_newa (t := 0) (z := 601) DX0_init_246 rfl (by decide) q337 rfl (by decide) (cn_ok wcX88 (by decide)) (cz_ok wcX88 (by decide)) ?_
  rw [cnn wcX88]
  show VV E mX0_init (d + 1) 248 _ _ (crun cX89 e00) _
  refine v_putR (ci := 0) (kf := 35) (z := 104) DX0_init_248 (csh wcX89 (by decide +kernel)) rfl (by decide) (Or.inr (Or.inr ⟨rfl, rfl, rfl, q1068⟩)) (fun _ _ => rfl) rfl rfl (Or.inr (cR wcX89 (by decide +kernel))) ?_
  show VV E mX0_init (d + 1) 251 _ _ (crun cX90 e00) _
  refine v_aload_n 0 DX0_init_251 rfl rfl ?_
  refine v_sipush DX0_init_252 (by decide) ?_
  refine v_newa (t := 0) (z := 600) DX0_init_255 rfl (by decide) q337 rfl (by decide) (cn_ok wcX90 (by decide)) (cz_ok wcX90 (by decide)) ?_
  rw [cnn wcX90]
  show VV E mX0_init (d + 1) 257 _ _ (crun cX91 e00) _
  refine v_putR (ci := 0) (kf := 36) (z := 104) DX0_init_257 (csh wcX91 (by decide +kernel)) rfl (by decide) (Or.inr (Or.inr ⟨rfl, rfl, rfl, q1071⟩)) (fun _ _ => rfl) rfl rfl (Or.inr (cR wcX91 (by decide +kernel))) ?_
  show VV E mX0_init (d + 1) 260 _ _ (crun cX92 e00) _
  refine v_aload_n 0 DX0_init_260 rfl rfl ?_
  refine v_sipush DX0_init_261 (by decide) ?_
  refine v_newa (t := 0) (z := 600) DX0_init_264 rfl (by decide) q337 rfl (by decide) (cn_ok wcX92 (by decide)) (cz_ok wcX92 (by decide)) ?_
  rw [cnn wcX92]
  show VV E mX0_init (d + 1) 266 _ _ (crun cX93 e00) _
  refine v_putR (ci := 0) (kf := 37) (z := 104) DX0_init_266 (csh wcX93 (by decide +kernel)) rfl (by decide) (Or.inr (Or.inr ⟨rfl, rfl, rfl, q1073⟩)) (fun _ _ => rfl) rfl rfl (Or.inr (cR wcX93 (by decide +kernel))) ?_
  show VV E mX0_init (d + 1) 269 _ _ (crun cX94 e00) _
  refine v_aload_n 0 DX0_init_269 rfl rfl ?_
  refine v_sipush DX0_init_270 (by decide) ?_
  refine v_newa (t := 3) (z := 600) DX0_init_273 rfl (by decide) q807 rfl (by decide) (cn_ok wcX94 (by decide)) (cz_ok wcX94 (by decide)) ?_
  rw [cnn wcX94]
  show VV E mX0_init (d + 1) 275 _ _ (crun cX95 e00) _
  refine v_putR (ci := 0) (kf := 38) (z := 104) DX0_init_275 (csh wcX95 (by decide +kernel)) rfl (by decide) (Or.inr (Or.inr ⟨rfl, rfl, rfl, q1075⟩)) (fun _ _ => rfl) rfl rfl (Or.inr (cR wcX95 (by decide +kernel))) ?_
  show VV E mX0_init (d + 1) 278 _ _ (crun cX96 e00) _
  refine v_aload_n 0 DX0_init_278 rfl rfl ?_
  refine v_iconst DX0_init_279 ?_
  refine v_newa (t := 0) (z := 4) DX0_init_280 rfl (by decide) q337 rfl (by decide) (cn_ok wcX96 (by decide)) (cz_ok wcX96 (by decide)) ?_
  rw [cnn wcX96]
  show VV E mX0_init (d + 1) 282 _ _ (crun cX97 e00) _
  refine v_dup DX0_init_282 rfl ?_
  refine v_iconst DX0_init_283 ?_
  refine v_iconst DX0_init_284 ?_
  refine v_iast (z := 4) DX0_init_285 (csh wcX97 (by decide +kernel)) (by decide) (by decide) ⟨by decide, by decide⟩ ?_
  show VV E mX0_init (d + 1) 286 _ _ (crun cX98 e00) _
  refine v_dup DX0_init_286 rfl ?_
  refine v_iconst DX0_init_287 ?_
  refine v_iconst DX0_init_288 ?_
  refine v_iast (z := 4) DX0_init_289 (csh wcX98 (by decide +kernel)) (by decide) (by decide) ⟨by decide, by decide⟩ ?_
  show VV E mX0_init (d + 1) 290 _ _ (crun cX99 e00) _
  refine v_dup DX0_init_290 rfl ?_
  refine v_iconst DX0_init_291 ?_
  refine v_iconst DX0_init_292 ?_
  refine v_iast (z := 4) DX0_init_293 (csh wcX99 (by decide +kernel)) (by decide) (by decide) ⟨by decide, by decide⟩ ?_
  show VV E mX0_init (d + 1) 294 _ _ (crun cX100 e00) _
  refine v_dup DX0_init_294 rfl ?_
  refine v_iconst DX0_init_295 ?_
  refine v_iconst DX0_init_296 ?_
  refine v_iast (z := 4) DX0_init_297 (csh wcX100 (by decide +kernel)) (by decide) (by decide) ⟨by decide, by decide⟩ ?_
  show VV E mX0_init (d + 1) 298 _ _ (crun cX101 e00) _
  refine v_putR (ci := 0) (kf := 43) (z := 104) DX0_init_298 (csh wcX101 (by decide +kernel)) rfl (by decide) (Or.inr (Or.inr ⟨rfl, rfl, rfl, q1083⟩)) (fun _ _ => rfl) rfl rfl (Or.inr (cR wcX101 (by decide +kernel))) ?_
  show VV E mX0_init (d + 1) 301 _ _ (crun cX102 e00) _
  refine v_aload_n 0 DX0_init_301 rfl rfl ?_
  refine v_ldc (x := 36500) DX0_init_302 q709 rfl ?_
  refine v_newa (t := 0) (z := 36500) DX0_init_304 rfl (by decide) q337 rfl (by decide) (cn_ok wcX102 (by decide)) (cz_ok wcX102 (by decide)) ?_
  rw [cnn wcX102]
  show VV E mX0_init (d + 1) 306 _ _ (crun cX103 e00) _
  refine v_putR (ci := 0) (kf := 44) (z := 104) DX0_init_306 (csh wcX103 (by decide +kernel)) rfl (by decide) (Or.inr (Or.inr ⟨rfl, rfl, rfl, q1084⟩)) (fun _ _ => rfl) rfl rfl (Or.inr (cR wcX103 (by decide +kernel))) ?_
  show VV E mX0_init (d + 1) 309 _ _ (crun cX104 e00) _
  refine v_aload_n 0 DX0_init_309 rfl rfl ?_
  refine v_iconst DX0_init_310 ?_
  refine v_anew (t := 6) (z := 4) DX0_init_311 (by decide) rfl q710 q711 rfl (by decide) (cn_ok wcX104 (by decide)) (cz_ok wcX104 (by decide)) ?_
  rw [cnn wcX104]
  show VV E mX0_init (d + 1) 314 _ _ (crun cX105 e00) _
  refine v_putR (ci := 0) (kf := 45) (z := 104) DX0_init_314 (csh wcX105 (by decide +kernel)) rfl (by decide) (Or.inr (Or.inr ⟨rfl, rfl, rfl, q1085⟩)) (fun _ _ => rfl) rfl rfl (Or.inr (cR wcX105 (by decide +kernel))) ?_
  show VV E mX0_init (d + 1) 317 _ _ (crun cX106 e00) _
  refine v_aload_n 0 DX0_init_317 rfl rfl ?_
  refine v_new (ci := 3) (z := 17) DX0_init_318 rfl q712 q713 q256 (cn_ok wcX106 (by decide)) (cz_ok wcX106 (by decide)) ?_
  rw [cnn wcX106]
  show VV E mX0_init (d + 1) 321 _ _ (crun cX107 e00) _
  refine v_dup DX0_init_321 rfl ?_
  refine v_invI (as := []) (b := 51) (st := [aO 51, aO 0]) DX0_init_322 rfl okX3_init (Or.inr ⟨_, q714⟩) q715 q716 rfl npX3_init (ct_X0_4 (d := d) (by omega)) (Nat.le_of_ble_eq_true rfl) (Nat.le_refl _) (Nat.le_of_ble_eq_true rfl) (RV_ret (fun τ g e => ?_)) RV_thr
  subst e
  refine v_putR (ci := 0) (kf := 47) (z := 104) DX0_init_325 (csh wcX133 (by decide +kernel)) rfl (by decide) (Or.inr (Or.inr ⟨rfl, rfl, rfl, q1087⟩)) (fun _ _ => rfl) rfl rfl (Or.inr (cR wcX133 (by decide +kernel))) ?_
  show VV E mX0_init (d + 1) 328 _ _ (crun cX134 e00) _
  refine v_aload_n 0 DX0_init_328 rfl rfl ?_
  refine v_new (ci := 3) (z := 17) DX0_init_329 rfl q712 q713 q256 (cn_ok wcX134 (by decide)) (cz_ok wcX134 (by decide)) ?_
  rw [cnn wcX134]
  show VV E mX0_init (d + 1) 332 _ _ (crun cX135 e00) _
  refine v_dup DX0_init_332 rfl ?_
  refine v_invI (as := []) (b := 65) (st := [aO 65, aO 0]) DX0_init_333 rfl okX3_init (Or.inr ⟨_, q714⟩) q715 q716 rfl npX3_init (ct_X0_5 (d := d) (by omega)) (Nat.le_of_ble_eq_true rfl) (Nat.le_refl _) (Nat.le_of_ble_eq_true rfl) (RV_ret (fun τ g e => ?_)) RV_thr
  subst e
  refine v_putR (ci := 0) (kf := 49) (z := 104) DX0_init_336 (csh wcX161 (by decide +kernel)) rfl (by decide) (Or.inr (Or.inr ⟨rfl, rfl, rfl, q1089⟩)) (fun _ _ => rfl) rfl rfl (Or.inr (cR wcX161 (by decide +kernel))) ?_
  show VV E mX0_init (d + 1) 339 _ _ (crun cX162 e00) _
  refine v_aload_n 0 DX0_init_339 rfl rfl ?_
  refine v_bipush DX0_init_340 (by decide) ?_
  refine v_anew (t := 7) (z := 20) DX0_init_342 (by decide) rfl q712 q808 rfl (by decide) (cn_ok wcX162 (by decide)) (cz_ok wcX162 (by decide)) ?_
  rw [cnn wcX162]
  show VV E mX0_init (d + 1) 345 _ _ (crun cX163 e00) _
  refine v_putR (ci := 0) (kf := 50) (z := 104) DX0_init_345 (csh wcX163 (by decide +kernel)) rfl (by decide) (Or.inr (Or.inr ⟨rfl, rfl, rfl, q1090⟩)) (fun _ _ => rfl) rfl rfl (Or.inr (cR wcX163 (by decide +kernel))) ?_
  show VV E mX0_init (d + 1) 348 _ _ (crun cX164 e00) _
  refine v_aload_n 0 DX0_init_348 rfl rfl ?_
  refine v_new (ci := 4) (z := 4) DX0_init_349 rfl q809 q810 q257 (cn_ok wcX164 (by decide)) (cz_ok wcX164 (by decide)) ?_
  rw [cnn wcX164]
  show VV E mX0_init (d + 1) 352 _ _ (crun cX165 e00) _
  refine v_dup DX0_init_352 rfl ?_
  refine v_aload_n 0 DX0_init_353 rfl rfl ?_
  refine v_invI (as := [aO 0]) (b := 80) (st := [aO 80, aO 0]) DX0_init_354 rfl okX4_init (Or.inr ⟨_, q811⟩) q812 q813 rfl npX4_init (ct_X0_6 (d := d) (by omega)) (Nat.le_of_ble_eq_true rfl) (Nat.le_refl _) (Nat.le_of_ble_eq_true rfl) (RV_ret (fun τ g e => ?_)) RV_thr
  subst e
  refine v_putR (ci := 0) (kf := 52) (z := 104) DX0_init_357 (csh wcX166 (by decide +kernel)) rfl (by decide) (Or.inr (Or.inr ⟨rfl, rfl, rfl, q1092⟩)) (fun _ _ => rfl) rfl rfl (Or.inr (cR wcX166 (by decide +kernel))) ?_
  show VV E mX0_init (d + 1) 360 _ _ (crun cX167 e00) _
  refine v_aload_n 0 DX0_init_360 rfl rfl ?_
  refine v_sipush DX0_init_361 (by decide) ?_
  refine v_newa (t := 0) (z := 484) DX0_init_364 rfl (by decide) q337 rfl (by decide) (cn_ok wcX167 (by decide)) (cz_ok wcX167 (by decide)) ?_
  rw [cnn wcX167]
  show VV E mX0_init (d + 1) 366 _ _ (crun cX168 e00) _
  refine v_putR (ci := 0) (kf := 53) (z := 104) DX0_init_366 (csh wcX168 (by decide +kernel)) rfl (by decide) (Or.inr (Or.inr ⟨rfl, rfl, rfl, q1093⟩)) (fun _ _ => rfl) rfl rfl (Or.inr (cR wcX168 (by decide +kernel))) ?_
  show VV E mX0_init (d + 1) 369 _ _ (crun cX169 e00) _
  refine v_aload_n 0 DX0_init_369 rfl rfl ?_
  refine v_sipush DX0_init_370 (by decide) ?_
  refine v_newa (t := 3) (z := 24000) DX0_init_373 rfl (by decide) q807 rfl (by decide) (cn_ok wcX169 (by decide)) (cz_ok wcX169 (by decide)) ?_
  rw [cnn wcX169]
  show VV E mX0_init (d + 1) 375 _ _ (crun cX170 e00) _
  refine v_putR (ci := 0) (kf := 54) (z := 104) DX0_init_375 (csh wcX170 (by decide +kernel)) rfl (by decide) (Or.inr (Or.inr ⟨rfl, rfl, rfl, q1094⟩)) (fun _ _ => rfl) rfl rfl (Or.inr (cR wcX170 (by decide +kernel))) ?_
  show VV E mX0_init (d + 1) 378 _ _ (crun cX171 e00) _
  refine v_aload_n 0 DX0_init_378 rfl rfl ?_
  refine v_sipush DX0_init_379 (by decide) ?_
  refine v_newa (t := 0) (z := 200) DX0_init_382 rfl (by decide) q337 rfl (by decide) (cn_ok wcX171 (by decide)) (cz_ok wcX171 (by decide)) ?_
  rw [cnn wcX171]
  show VV E mX0_init (d + 1) 384 _ _ (crun cX172 e00) _
  refine v_putR (ci := 0) (kf := 55) (z := 104) DX0_init_384 (csh wcX172 (by decide +kernel)) rfl (by decide) (Or.inr (Or.inr ⟨rfl, rfl, rfl, q1096⟩)) (fun _ _ => rfl) rfl rfl (Or.inr (cR wcX172 (by decide +kernel))) ?_
  show VV E mX0_init (d + 1) 387 _ _ (crun cX173 e00) _
  refine v_aload_n 0 DX0_init_387 rfl rfl ?_
  refine v_sipush DX0_init_388 (by decide) ?_
  refine v_newa (t := 0) (z := 200) DX0_init_391 rfl (by decide) q337 rfl (by decide) (cn_ok wcX173 (by decide)) (cz_ok wcX173 (by decide)) ?_
  rw [cnn wcX173]
  show VV E mX0_init (d + 1) 393 _ _ (crun cX174 e00) _
  refine v_putR (ci := 0) (kf := 56) (z := 104) DX0_init_393 (csh wcX174 (by decide +kernel)) rfl (by decide) (Or.inr (Or.inr ⟨rfl, rfl, rfl, q1098⟩)) (fun _ _ => rfl) rfl rfl (Or.inr (cR wcX174 (by decide +kernel))) ?_
  show VV E mX0_init (d + 1) 396 _ _ (crun cX175 e00) _
  refine v_aload_n 0 DX0_init_396 rfl rfl ?_
  refine v_sipush DX0_init_397 (by decide) ?_
  refine v_newa (t := 4) (z := 200) DX0_init_400 rfl (by decide) q806 rfl (by decide) (cn_ok wcX175 (by decide)) (cz_ok wcX175 (by decide)) ?_
  rw [cnn wcX175]
  show VV E mX0_init (d + 1) 402 _ _ (crun cX176 e00) _
  refine v_putR (ci := 0) (kf := 57) (z := 104) DX0_init_402 (csh wcX176 (by decide +kernel)) rfl (by decide) (Or.inr (Or.inr ⟨rfl, rfl, rfl, q1100⟩)) (fun _ _ => rfl) rfl rfl (Or.inr (cR wcX176 (by decide +kernel))) ?_
  show VV E mX0_init (d + 1) 405 _ _ (crun cX177 e00) _
  refine v_aload_n 0 DX0_init_405 rfl rfl ?_
  refine v_sipush DX0_init_406 (by decide) ?_
  refine v_newa (t := 0) (z := 200) DX0_init_409 rfl (by decide) q337 rfl (by decide) (cn_ok wcX177 (by decide)) (cz_ok wcX177 (by decide)) ?_
  rw [cnn wcX177]
  show VV E mX0_init (d + 1) 411 _ _ (crun cX178 e00) _
  refine v_putR (ci := 0) (kf := 58) (z := 104) DX0_init_411 (csh wcX178 (by decide +kernel)) rfl (by decide) (Or.inr (Or.inr ⟨rfl, rfl, rfl, q1102⟩)) (fun _ _ => rfl) rfl rfl (Or.inr (cR wcX178 (by decide +kernel))) ?_
  show VV E mX0_init (d + 1) 414 _ _ (crun cX179 e00) _
  refine v_aload_n 0 DX0_init_414 rfl rfl ?_
  refine v_new (ci := 5) (z := 21) DX0_init_415 rfl q828 q829 q258 (cn_ok wcX179 (by decide)) (cz_ok wcX179 (by decide)) ?_
  rw [cnn wcX179]
  show VV E mX0_init (d + 1) 418 _ _ (crun cX180 e00) _
  refine v_dup DX0_init_418 rfl ?_
  refine v_aload_n 0 DX0_init_419 rfl rfl ?_
  refine v_invI (as := [aO 0]) (b := 87) (st := [aO 87, aO 0]) DX0_init_420 rfl okX5_init (Or.inr ⟨_, q830⟩) q831 q832 rfl npX5_init (ct_X0_7 (d := d) (by omega)) (Nat.le_of_ble_eq_true rfl) (Nat.le_refl _) (Nat.le_of_ble_eq_true rfl) (RV_ret (fun τ g e => ?_)) RV_thr
  subst e
  refine v_putR (ci := 0) (kf := 60) (z := 104) DX0_init_423 (csh wcX248 (by decide +kernel)) rfl (by decide) (Or.inr (Or.inr ⟨rfl, rfl, rfl, q1106⟩)) (fun _ _ => rfl) rfl rfl (Or.inr (cR wcX248 (by decide +kernel))) ?_
  show VV E mX0_init (d + 1) 426 _ _ (crun cX249 e00) _
  refine v_aload_n 0 DX0_init_426 rfl rfl ?_
  refine v_new (ci := 5) (z := 21) DX0_init_427 rfl q828 q829 q258 (cn_ok wcX249 (by decide)) (cz_ok wcX249 (by decide)) ?_
  rw [cnn wcX249]
  show VV E mX0_init (d + 1) 430 _ _ (crun cX250 e00) _
  refine v_dup DX0_init_430 rfl ?_
  refine v_aload_n 0 DX0_init_431 rfl rfl ?_
  refine v_invI (as := [aO 0]) (b := 121) (st := [aO 121, aO 0]) DX0_init_432 rfl okX5_init (Or.inr ⟨_, q830⟩) q831 q832 rfl npX5_init (ct_X0_8 (d := d) (by omega)) (Nat.le_of_ble_eq_true rfl) (Nat.le_refl _) (Nat.le_of_ble_eq_true rfl) (RV_ret (fun τ g e => ?_)) RV_thr
  subst e
  refine v_putR (ci := 0) (kf := 61) (z := 104) DX0_init_435 (csh wcX318 (by decide +kernel)) rfl (by decide) (Or.inr (Or.inr ⟨rfl, rfl, rfl, q1107⟩)) (fun _ _ => rfl) rfl rfl (Or.inr (cR wcX318 (by decide +kernel))) ?_
  show VV E mX0_init (d + 1) 438 _ _ (crun cX319 e00) _
  refine v_aload_n 0 DX0_init_438 rfl rfl ?_
  refine v_new (ci := 5) (z := 21) DX0_init_439 rfl q828 q829 q258 (cn_ok wcX319 (by decide)) (cz_ok wcX319 (by decide)) ?_
  rw [cnn wcX319]
  show VV E mX0_init (d + 1) 442 _ _ (crun cX320 e00) _
  refine v_dup DX0_init_442 rfl ?_
  refine v_aload_n 0 DX0_init_443 rfl rfl ?_
  refine v_invI (as := [aO 0]) (b := 155) (st := [aO 155, aO 0]) DX0_init_444 rfl okX5_init (Or.inr ⟨_, q830⟩) q831 q832 rfl npX5_init (ct_X0_9 (d := d) (by omega)) (Nat.le_of_ble_eq_true rfl) (Nat.le_refl _) (Nat.le_of_ble_eq_true rfl) (RV_ret (fun τ g e => ?_)) RV_thr
  subst e
  refine v_putR (ci := 0) (kf := 62) (z := 104) DX0_init_447 (csh wcX388 (by decide +kernel)) rfl (by decide) (Or.inr (Or.inr ⟨rfl, rfl, rfl, q1108⟩)) (fun _ _ => rfl) rfl rfl (Or.inr (cR wcX388 (by decide +kernel))) ?_
  show VV E mX0_init (d + 1) 450 _ _ (crun cX389 e00) _
  refine v_aload_n 0 DX0_init_450 rfl rfl ?_
  refine v_iconst DX0_init_451 ?_
  refine v_putI (ci := 0) (kf := 64) (z := 104) DX0_init_452 (csh wcX389 (by decide +kernel)) rfl (by decide) (Or.inl ⟨rfl, q1110⟩) (fun _ _ => rfl) ⟨by decide, by decide⟩ rfl rfl ?_
  show VV E mX0_init (d + 1) 455 _ _ (crun cX390 e00) _
  refine v_aload_n 0 DX0_init_455 rfl rfl ?_
  refine v_sipush DX0_init_456 (by decide) ?_
  refine v_newa (t := 0) (z := 600) DX0_init_459 rfl (by decide) q337 rfl (by decide) (cn_ok wcX390 (by decide)) (cz_ok wcX390 (by decide)) ?_
  rw [cnn wcX390]
  show VV E mX0_init (d + 1) 461 _ _ (crun cX391 e00) _
  refine v_putR (ci := 0) (kf := 66) (z := 104) DX0_init_461 (csh wcX391 (by decide +kernel)) rfl (by decide) (Or.inr (Or.inr ⟨rfl, rfl, rfl, q1112⟩)) (fun _ _ => rfl) rfl rfl (Or.inr (cR wcX391 (by decide +kernel))) ?_
  show VV E mX0_init (d + 1) 464 _ _ (crun cX392 e00) _
  refine v_aload_n 0 DX0_init_464 rfl rfl ?_
  refine v_sipush DX0_init_465 (by decide) ?_
  refine v_newa (t := 4) (z := 600) DX0_init_468 rfl (by decide) q806 rfl (by decide) (cn_ok wcX392 (by decide)) (cz_ok wcX392 (by decide)) ?_
  rw [cnn wcX392]
  show VV E mX0_init (d + 1) 470 _ _ (crun cX393 e00) _
  refine v_putR (ci := 0) (kf := 67) (z := 104) DX0_init_470 (csh wcX393 (by decide +kernel)) rfl (by decide) (Or.inr (Or.inr ⟨rfl, rfl, rfl, q1113⟩)) (fun _ _ => rfl) rfl rfl (Or.inr (cR wcX393 (by decide +kernel))) ?_
  show VV E mX0_init (d + 1) 473 _ _ (crun cX394 e00) _
  refine v_aload_n 0 DX0_init_473 rfl rfl ?_
  refine v_sipush DX0_init_474 (by decide) ?_
  refine v_newa (t := 4) (z := 600) DX0_init_477 rfl (by decide) q806 rfl (by decide) (cn_ok wcX394 (by decide)) (cz_ok wcX394 (by decide)) ?_
  rw [cnn wcX394]
  show VV E mX0_init (d + 1) 479 _ _ (crun cX395 e00) _
  refine v_putR (ci := 0) (kf := 68) (z := 104) DX0_init_479 (csh wcX395 (by decide +kernel)) rfl (by decide) (Or.inr (Or.inr ⟨rfl, rfl, rfl, q1114⟩)) (fun _ _ => rfl) rfl rfl (Or.inr (cR wcX395 (by decide +kernel))) ?_
  show VV E mX0_init (d + 1) 482 _ _ (crun cX396 e00) _
  refine v_aload_n 0 DX0_init_482 rfl rfl ?_
  refine v_sipush DX0_init_483 (by decide) ?_
  refine v_newa (t := 3) (z := 600) DX0_init_486 rfl (by decide) q807 rfl (by decide) (cn_ok wcX396 (by decide)) (cz_ok wcX396 (by decide)) ?_
  rw [cnn wcX396]
  show VV E mX0_init (d + 1) 488 _ _ (crun cX397 e00) _
  refine v_putR (ci := 0) (kf := 69) (z := 104) DX0_init_488 (csh wcX397 (by decide +kernel)) rfl (by decide) (Or.inr (Or.inr ⟨rfl, rfl, rfl, q1115⟩)) (fun _ _ => rfl) rfl rfl (Or.inr (cR wcX397 (by decide +kernel))) ?_
  show VV E mX0_init (d + 1) 491 _ _ (crun cX398 e00) _
  refine v_aload_n 0 DX0_init_491 rfl rfl ?_
  refine v_sipush DX0_init_492 (by decide) ?_
  refine v_newa (t := 0) (z := 6000) DX0_init_495 rfl (by decide) q337 rfl (by decide) (cn_ok wcX398 (by decide)) (cz_ok wcX398 (by decide)) ?_
  rw [cnn wcX398]
  show VV E mX0_init (d + 1) 497 _ _ (crun cX399 e00) _
  refine v_putR (ci := 0) (kf := 72) (z := 104) DX0_init_497 (csh wcX399 (by decide +kernel)) rfl (by decide) (Or.inr (Or.inr ⟨rfl, rfl, rfl, q1118⟩)) (fun _ _ => rfl) rfl rfl (Or.inr (cR wcX399 (by decide +kernel))) ?_
  show VV E mX0_init (d + 1) 500 _ _ (crun cX400 e00) _
  refine v_aload_n 0 DX0_init_500 rfl rfl ?_
  refine v_sipush DX0_init_501 (by decide) ?_
  refine v_newa (t := 0) (z := 6000) DX0_init_504 rfl (by decide) q337 rfl (by decide) (cn_ok wcX400 (by decide)) (cz_ok wcX400 (by decide)) ?_
  rw [cnn wcX400]
  show VV E mX0_init (d + 1) 506 _ _ (crun cX401 e00) _
  refine v_putR (ci := 0) (kf := 73) (z := 104) DX0_init_506 (csh wcX401 (by decide +kernel)) rfl (by decide) (Or.inr (Or.inr ⟨rfl, rfl, rfl, q1119⟩)) (fun _ _ => rfl) rfl rfl (Or.inr (cR wcX401 (by decide +kernel))) ?_
  show VV E mX0_init (d + 1) 509 _ _ (crun cX402 e00) _
  refine v_aload_n 0 DX0_init_509 rfl rfl ?_
  refine v_sipush DX0_init_510 (by decide) ?_
  refine v_newa (t := 0) (z := 6000) DX0_init_513 rfl (by decide) q337 rfl (by decide) (cn_ok wcX402 (by decide)) (cz_ok wcX402 (by decide)) ?_
  rw [cnn wcX402]
  show VV E mX0_init (d + 1) 515 _ _ (crun cX403 e00) _
  refine v_putR (ci := 0) (kf := 74) (z := 104) DX0_init_515 (csh wcX403 (by decide +kernel)) rfl (by decide) (Or.inr (Or.inr ⟨rfl, rfl, rfl, q1120⟩)) (fun _ _ => rfl) rfl rfl (Or.inr (cR wcX403 (by decide +kernel))) ?_
  show VV E mX0_init (d + 1) 518 _ _ (crun cX404 e00) _
  refine v_aload_n 0 DX0_init_518 rfl rfl ?_
  refine v_sipush DX0_init_519 (by decide) ?_
  refine v_newa (t := 4) (z := 6000) DX0_init_522 rfl (by decide) q806 rfl (by decide) (cn_ok wcX404 (by decide)) (cz_ok wcX404 (by decide)) ?_
  rw [cnn wcX404]
  show VV E mX0_init (d + 1) 524 _ _ (crun cX405 e00) _
  refine v_putR (ci := 0) (kf := 76) (z := 104) DX0_init_524 (csh wcX405 (by decide +kernel)) rfl (by decide) (Or.inr (Or.inr ⟨rfl, rfl, rfl, q1122⟩)) (fun _ _ => rfl) rfl rfl (Or.inr (cR wcX405 (by decide +kernel))) ?_
  show VV E mX0_init (d + 1) 527 _ _ (crun cX406 e00) _
  refine v_aload_n 0 DX0_init_527 rfl rfl ?_
  refine v_sipush DX0_init_528 (by decide) ?_
  refine v_newa (t := 0) (z := 6000) DX0_init_531 rfl (by decide) q337 rfl (by decide) (cn_ok wcX406 (by decide)) (cz_ok wcX406 (by decide)) ?_
  rw [cnn wcX406]
  show VV E mX0_init (d + 1) 533 _ _ (crun cX407 e00) _
  refine v_putR (ci := 0) (kf := 77) (z := 104) DX0_init_533 (csh wcX407 (by decide +kernel)) rfl (by decide) (Or.inr (Or.inr ⟨rfl, rfl, rfl, q1123⟩)) (fun _ _ => rfl) rfl rfl (Or.inr (cR wcX407 (by decide +kernel))) ?_
  show VV E mX0_init (d + 1) 536 _ _ (crun cX408 e00) _
  refine v_aload_n 0 DX0_init_536 rfl rfl ?_
  refine v_sipush DX0_init_537 (by decide) ?_
  refine v_newa (t := 0) (z := 6000) DX0_init_540 rfl (by decide) q337 rfl (by decide) (cn_ok wcX408 (by decide)) (cz_ok wcX408 (by decide)) ?_
  rw [cnn wcX408]
  show VV E mX0_init (d + 1) 542 _ _ (crun cX409 e00) _
  refine v_putR (ci := 0) (kf := 78) (z := 104) DX0_init_542 (csh wcX409 (by decide +kernel)) rfl (by decide) (Or.inr (Or.inr ⟨rfl, rfl, rfl, q1124⟩)) (fun _ _ => rfl) rfl rfl (Or.inr (cR wcX409 (by decide +kernel))) ?_
  show VV E mX0_init (d + 1) 545 _ _ (crun cX410 e00) _
  refine v_aload_n 0 DX0_init_545 rfl rfl ?_
  refine v_ldc (x := 36500) DX0_init_546 q709 rfl ?_
  refine v_newa (t := 0) (z := 36500) DX0_init_548 rfl (by decide) q337 rfl (by decide) (cn_ok wcX410 (by decide)) (cz_ok wcX410 (by decide)) ?_
  rw [cnn wcX410]
  show VV E mX0_init (d + 1) 550 _ _ (crun cX411 e00) _
  refine v_putR (ci := 0) (kf := 81) (z := 104) DX0_init_550 (csh wcX411 (by decide +kernel)) rfl (by decide) (Or.inr (Or.inr ⟨rfl, rfl, rfl, q1127⟩)) (fun _ _ => rfl) rfl rfl (Or.inr (cR wcX411 (by decide +kernel))) ?_
  show VV E mX0_init (d + 1) 553 _ _ (crun cX412 e00) _
  refine v_aload_n 0 DX0_init_553 rfl rfl ?_
  refine v_sipush DX0_init_554 (by decide) ?_
  refine v_newa (t := 0) (z := 6000) DX0_init_557 rfl (by decide) q337 rfl (by decide) (cn_ok wcX412 (by decide)) (cz_ok wcX412 (by decide)) ?_
  rw [cnn wcX412]
  show VV E mX0_init (d + 1) 559 _ _ (crun cX413 e00) _
  refine v_putR (ci := 0) (kf := 82) (z := 104) DX0_init_559 (csh wcX413 (by decide +kernel)) rfl (by decide) (Or.inr (Or.inr ⟨rfl, rfl, rfl, q1128⟩)) (fun _ _ => rfl) rfl rfl (Or.inr (cR wcX413 (by decide +kernel))) ?_
  show VV E mX0_init (d + 1) 562 _ _ (crun cX414 e00) _
  refine v_aload_n 0 DX0_init_562 rfl rfl ?_
  refine v_bipush DX0_init_563 (by decide) ?_
  refine v_newa (t := 0) (z := 11) DX0_init_565 rfl (by decide) q337 rfl (by decide) (cn_ok wcX414 (by decide)) (cz_ok wcX414 (by decide)) ?_
  rw [cnn wcX414]
  show VV E mX0_init (d + 1) 567 _ _ (crun cX415 e00) _
  refine v_putR (ci := 0) (kf := 83) (z := 104) DX0_init_567 (csh wcX415 (by decide +kernel)) rfl (by decide) (Or.inr (Or.inr ⟨rfl, rfl, rfl, q1129⟩)) (fun _ _ => rfl) rfl rfl (Or.inr (cR wcX415 (by decide +kernel))) ?_
  show VV E mX0_init (d + 1) 570 _ _ (crun cX416 e00) _
  refine v_aload_n 0 DX0_init_570 rfl rfl ?_
  refine v_bipush DX0_init_571 (by decide) ?_
  refine v_newa (t := 0) (z := 11) DX0_init_573 rfl (by decide) q337 rfl (by decide) (cn_ok wcX416 (by decide)) (cz_ok wcX416 (by decide)) ?_
  rw [cnn wcX416]
  show VV E mX0_init (d + 1) 575 _ _ (crun cX417 e00) _
  refine v_putR (ci := 0) (kf := 84) (z := 104) DX0_init_575 (csh wcX417 (by decide +kernel)) rfl (by decide) (Or.inr (Or.inr ⟨rfl, rfl, rfl, q1130⟩)) (fun _ _ => rfl) rfl rfl (Or.inr (cR wcX417 (by decide +kernel))) ?_
  show VV E mX0_init (d + 1) 578 _ _ (crun cX418 e00) _
  refine v_aload_n 0 DX0_init_578 rfl rfl ?_
  refine v_bipush DX0_init_579 (by decide) ?_
  refine v_newa (t := 0) (z := 11) DX0_init_581 rfl (by decide) q337 rfl (by decide) (cn_ok wcX418 (by decide)) (cz_ok wcX418 (by decide)) ?_
  rw [cnn wcX418]
  show VV E mX0_init (d + 1) 583 _ _ (crun cX419 e00) _
  refine v_putR (ci := 0) (kf := 85) (z := 104) DX0_init_583 (csh wcX419 (by decide +kernel)) rfl (by decide) (Or.inr (Or.inr ⟨rfl, rfl, rfl, q1131⟩)) (fun _ _ => rfl) rfl rfl (Or.inr (cR wcX419 (by decide +kernel))) ?_
  show VV E mX0_init (d + 1) 586 _ _ (crun cX420 e00) _
  refine v_aload_n 0 DX0_init_586 rfl rfl ?_
  refine v_sipush DX0_init_587 (by decide) ?_
  refine v_newa (t := 1) (z := 200) DX0_init_590 rfl (by decide) q336 rfl (by decide) (cn_ok wcX420 (by decide)) (cz_ok wcX420 (by decide)) ?_
  rw [cnn wcX420]
  show VV E mX0_init (d + 1) 592 _ _ (crun cX421 e00) _
  refine v_putR (ci := 0) (kf := 86) (z := 104) DX0_init_592 (csh wcX421 (by decide +kernel)) rfl (by decide) (Or.inr (Or.inr ⟨rfl, rfl, rfl, q1132⟩)) (fun _ _ => rfl) rfl rfl (Or.inr (cR wcX421 (by decide +kernel))) ?_
  show VV E mX0_init (d + 1) 595 _ _ (crun cX422 e00) _
  refine v_aload_n 0 DX0_init_595 rfl rfl ?_
  refine v_bipush DX0_init_596 (by decide) ?_
  refine v_newa (t := 0) (z := 10) DX0_init_598 rfl (by decide) q337 rfl (by decide) (cn_ok wcX422 (by decide)) (cz_ok wcX422 (by decide)) ?_
  rw [cnn wcX422]
  show VV E mX0_init (d + 1) 600 _ _ (crun cX423 e00) _
  refine v_putR (ci := 0) (kf := 87) (z := 104) DX0_init_600 (csh wcX423 (by decide +kernel)) rfl (by decide) (Or.inr (Or.inr ⟨rfl, rfl, rfl, q1133⟩)) (fun _ _ => rfl) rfl rfl (Or.inr (cR wcX423 (by decide +kernel))) ?_
  show VV E mX0_init (d + 1) 603 _ _ (crun cX424 e00) _
  refine v_aload_n 0 DX0_init_603 rfl rfl ?_
  refine v_ldc (x := 36500) DX0_init_604 q709 rfl ?_
  refine v_newa (t := 0) (z := 36500) DX0_init_606 rfl (by decide) q337 rfl (by decide) (cn_ok wcX424 (by decide)) (cz_ok wcX424 (by decide)) ?_
  rw [cnn wcX424]
  show VV E mX0_init (d + 1) 608 _ _ (crun cX425 e00) _
  refine v_putR (ci := 0) (kf := 89) (z := 104) DX0_init_608 (csh wcX425 (by decide +kernel)) rfl (by decide) (Or.inr (Or.inr ⟨rfl, rfl, rfl, q1135⟩)) (fun _ _ => rfl) rfl rfl (Or.inr (cR wcX425 (by decide +kernel))) ?_
  show VV E mX0_init (d + 1) 611 _ _ (crun cX426 e00) _
  refine v_aload_n 0 DX0_init_611 rfl rfl ?_
  refine v_bipush DX0_init_612 (by decide) ?_
  refine v_newa (t := 0) (z := 6) DX0_init_614 rfl (by decide) q337 rfl (by decide) (cn_ok wcX426 (by decide)) (cz_ok wcX426 (by decide)) ?_
  rw [cnn wcX426]
  show VV E mX0_init (d + 1) 616 _ _ (crun cX427 e00) _
  refine v_putR (ci := 0) (kf := 90) (z := 104) DX0_init_616 (csh wcX427 (by decide +kernel)) rfl (by decide) (Or.inr (Or.inr ⟨rfl, rfl, rfl, q1136⟩)) (fun _ _ => rfl) rfl rfl (Or.inr (cR wcX427 (by decide +kernel))) ?_
  show VV E mX0_init (d + 1) 619 _ _ (crun cX428 e00) _
  refine v_aload_n 0 DX0_init_619 rfl rfl ?_
  refine v_bipush DX0_init_620 (by decide) ?_
  refine v_newa (t := 4) (z := 6) DX0_init_622 rfl (by decide) q806 rfl (by decide) (cn_ok wcX428 (by decide)) (cz_ok wcX428 (by decide)) ?_
  rw [cnn wcX428]
  show VV E mX0_init (d + 1) 624 _ _ (crun cX429 e00) _
  refine v_putR (ci := 0) (kf := 91) (z := 104) DX0_init_624 (csh wcX429 (by decide +kernel)) rfl (by decide) (Or.inr (Or.inr ⟨rfl, rfl, rfl, q1137⟩)) (fun _ _ => rfl) rfl rfl (Or.inr (cR wcX429 (by decide +kernel))) ?_
  show VV E mX0_init (d + 1) 627 _ _ (crun cX430 e00) _
  refine v_aload_n 0 DX0_init_627 rfl rfl ?_
  refine v_bipush DX0_init_628 (by decide) ?_
  refine v_newa (t := 0) (z := 20) DX0_init_630 rfl (by decide) q337 rfl (by decide) (cn_ok wcX430 (by decide)) (cz_ok wcX430 (by decide)) ?_
  rw [cnn wcX430]
  show VV E mX0_init (d + 1) 632 _ _ (crun cX431 e00) _
  refine v_putR (ci := 0) (kf := 93) (z := 104) DX0_init_632 (csh wcX431 (by decide +kernel)) rfl (by decide) (Or.inr (Or.inr ⟨rfl, rfl, rfl, q1139⟩)) (fun _ _ => rfl) rfl rfl (Or.inr (cR wcX431 (by decide +kernel))) ?_
  show VV E mX0_init (d + 1) 635 _ _ (crun cX432 e00) _
  refine v_aload_n 0 DX0_init_635 rfl rfl ?_
  refine v_iconst DX0_init_636 ?_
  refine v_putI (ci := 0) (kf := 95) (z := 104) DX0_init_637 (csh wcX432 (by decide +kernel)) rfl (by decide) (Or.inl ⟨rfl, q1141⟩) (fun _ _ => rfl) ⟨by decide, by decide⟩ rfl rfl ?_
  show VV E mX0_init (d + 1) 640 _ _ (crun cX433 e00) _
  refine v_aload_n 0 DX0_init_640 rfl rfl ?_
  refine v_iconst DX0_init_641 ?_
  refine v_putI (ci := 0) (kf := 96) (z := 104) DX0_init_642 (csh wcX433 (by decide +kernel)) rfl (by decide) (Or.inl ⟨rfl, q1142⟩) (fun _ _ => rfl) ⟨by decide, by decide⟩ rfl rfl ?_
  show VV E mX0_init (d + 1) 645 _ _ (crun cX434 e00) _
  refine v_aload_n 0 DX0_init_645 rfl rfl ?_
  refine v_bipush DX0_init_646 (by decide) ?_
  refine v_newa (t := 3) (z := 8) DX0_init_648 rfl (by decide) q807 rfl (by decide) (cn_ok wcX434 (by decide)) (cz_ok wcX434 (by decide)) ?_
  rw [cnn wcX434]
  show VV E mX0_init (d + 1) 650 _ _ (crun cX435 e00) _
  refine v_putR (ci := 0) (kf := 97) (z := 104) DX0_init_650 (csh wcX435 (by decide +kernel)) rfl (by decide) (Or.inr (Or.inr ⟨rfl, rfl, rfl, q1143⟩)) (fun _ _ => rfl) rfl rfl (Or.inr (cR wcX435 (by decide +kernel))) ?_
  show VV E mX0_init (d + 1) 653 _ _ (crun cX436 e00) _
  refine v_aload_n 0 DX0_init_653 rfl rfl ?_
  refine v_bipush DX0_init_654 (by decide) ?_
  refine v_newa (t := 0) (z := 8) DX0_init_656 rfl (by decide) q337 rfl (by decide) (cn_ok wcX436 (by decide)) (cz_ok wcX436 (by decide)) ?_
  rw [cnn wcX436]
  show VV E mX0_init (d + 1) 658 _ _ (crun cX437 e00) _
  refine v_putR (ci := 0) (kf := 98) (z := 104) DX0_init_658 (csh wcX437 (by decide +kernel)) rfl (by decide) (Or.inr (Or.inr ⟨rfl, rfl, rfl, q1144⟩)) (fun _ _ => rfl) rfl rfl (Or.inr (cR wcX437 (by decide +kernel))) ?_
  show VV E mX0_init (d + 1) 661 _ _ (crun cX438 e00) _
  refine v_aload_n 0 DX0_init_661 rfl rfl ?_
  refine v_sipush DX0_init_662 (by decide) ?_
  refine v_newa (t := 1) (z := 30000) DX0_init_665 rfl (by decide) q336 rfl (by decide) (cn_ok wcX438 (by decide)) (cz_ok wcX438 (by decide)) ?_
  rw [cnn wcX438]
  show VV E mX0_init (d + 1) 667 _ _ (crun cX439 e00) _
  refine v_putR (ci := 0) (kf := 99) (z := 104) DX0_init_667 (csh wcX439 (by decide +kernel)) rfl (by decide) (Or.inr (Or.inr ⟨rfl, rfl, rfl, q1145⟩)) (fun _ _ => rfl) rfl rfl (Or.inr (cR wcX439 (by decide +kernel))) ?_
  show VV E mX0_init (d + 1) 670 _ _ (crun cX440 e00) _
  refine v_aload_n 0 DX0_init_670 rfl rfl ?_
  refine v_sipush DX0_init_671 (by decide) ?_
  refine v_newa (t := 1) (z := 30000) DX0_init_674 rfl (by decide) q336 rfl (by decide) (cn_ok wcX440 (by decide)) (cz_ok wcX440 (by decide)) ?_
  rw [cnn wcX440]
  show VV E mX0_init (d + 1) 676 _ _ (crun cX441 e00) _
  refine v_putR (ci := 0) (kf := 102) (z := 104) DX0_init_676 (csh wcX441 (by decide +kernel)) rfl (by decide) (Or.inr (Or.inr ⟨rfl, rfl, rfl, q1148⟩)) (fun _ _ => rfl) rfl rfl (Or.inr (cR wcX441 (by decide +kernel))) ?_
  show VV E mX0_init (d + 1) 679 _ _ (crun cX442 e00) _
  refine v_aload_n 0 DX0_init_679 rfl rfl ?_
  refine v_new (ci := 7) (z := 3) DX0_init_680 rfl q952 q953 q260 (cn_ok wcX442 (by decide)) (cz_ok wcX442 (by decide)) ?_
  rw [cnn wcX442]
  show VV E mX0_init (d + 1) 683 _ _ (crun cX443 e00) _
  refine v_dup DX0_init_683 rfl ?_
  refine v_aload_n 0 DX0_init_684 rfl rfl ?_
  refine v_invI (as := [aO 0]) (b := 214) (st := [aO 214, aO 0]) DX0_init_685 rfl okX7_init (Or.inr ⟨_, q954⟩) q955 q956 rfl npX7_init (ct_X0_10 (d := d) (by omega)) (Nat.le_of_ble_eq_true rfl) (Nat.le_refl _) (Nat.le_of_ble_eq_true rfl) (RV_ret (fun τ g e => ?_)) RV_thr
  subst e
  refine v_putR (ci := 0) (kf := 103) (z := 104) DX0_init_688 (csh wcX444 (by decide +kernel)) rfl (by decide) (Or.inr (Or.inr ⟨rfl, rfl, rfl, q1149⟩)) (fun _ _ => rfl) rfl rfl (Or.inr (cR wcX444 (by decide +kernel))) ?_
  show VV E mX0_init (d + 1) 691 _ _ (crun cX445 e00) _
  refine v_aload_n 0 DX0_init_691 rfl rfl ?_
  refine w_getR (ci := 0) (kf := 10) (kz := 10) DX0_init_692 (csh wcX445 (q := (100, 104)) (by decide +kernel)) rfl (by decide) rfl (Or.inl q1013) (fun _ _ => rfl) (cR wcX445 (k := 10) (v := some 18) (by decide +kernel)) ?_
  refine v_invV (ci := 2) (z := 9) (as := []) (b := 18) (st := []) DX0_init_695 rfl okX2_clear (Or.inl q968) q969 (csh wcX445 (q := (102, 9)) (by decide +kernel)) rfl q970 npX2_clear (cc_clear (d := d) (csh wcX445 (q := (102, 9)) (by decide +kernel)) (cR wcX445 (a := 18) (k := 6) (v := some 25) (by decide +kernel)) (csh wcX445 (a := 25) (q := (0, 8192)) (by decide +kernel))) (Nat.le_of_ble_eq_true rfl) (Nat.le_refl _) (Nat.le_of_ble_eq_true rfl) (RV_ret (fun τ g e => ?_)) RV_thr
  subst e
  show VV E mX0_init (d + 1) 698 _ _ (crun cX447 e00) _
  refine v_iconst DX0_init_698 ?_
  refine v_istore_n (L' := [(1, aI (0)), (0, aO 0)]) DX0_init_699 rfl (by decide) rfl ?_
  refine v_iload_n 0 DX0_init_700 rfl rfl ?_
  refine v_iconst DX0_init_701 ?_
  refine v_icmp_ge (tg := 724) DX0_init_702 rfl ⟨by decide, by decide⟩ ⟨by decide, by decide⟩ (fun e => absurd e (by decide)) (fun _ => ?_)
  refine v_aload_n 1 DX0_init_705 rfl rfl ?_
  refine w_getR (ci := 0) (kf := 45) (kz := 45) DX0_init_706 (csh wcX447 (q := (100, 104)) (by decide +kernel)) rfl (by decide) rfl (Or.inl q1085) (fun _ _ => rfl) (cR wcX447 (k := 45) (v := some 50) (by decide +kernel)) ?_
  refine v_iload_n 0 DX0_init_709 rfl rfl ?_
  refine v_new (ci := 8) (z := 3) DX0_init_710 rfl q710 q972 q261 (cn_ok wcX447 (by decide)) (cz_ok wcX447 (by decide)) ?_
  rw [cnn wcX447]
  show VV E mX0_init (d + 1) 713 _ _ (crun cX448 e00) _
  refine v_dup DX0_init_713 rfl ?_
  refine v_invI (as := []) (b := 215) (st := [aO 215, aI (0), aO 50]) DX0_init_714 rfl okX8_init (Or.inr ⟨_, q973⟩) q974 q975 rfl npX8_init (ct_X0_11 (d := d) (by omega)) (Nat.le_of_ble_eq_true rfl) (Nat.le_refl _) (Nat.le_of_ble_eq_true rfl) (RV_ret (fun τ g e => ?_)) RV_thr
  subst e
  refine v_aast (t := 6) (z := 4) (ci := 8) (zb := 3) DX0_init_717 (csh wcX476 (by decide +kernel)) (by decide) (by decide) (by decide) (csh wcX476 (by decide +kernel)) rfl rfl (Or.inr (cR wcX476 (k := 0) (by decide +kernel))) ?_
  show VV E mX0_init (d + 1) 718 _ _ (crun cX477 e00) _
  refine v_iinc (L' := [(1, aI (1)), (0, aO 0)]) 0 DX0_init_718 rfl (by decide) rfl ?_
  refine v_goto (pc' := 700) DX0_init_721 rfl ?_
  refine v_iload_n 0 DX0_init_700 rfl rfl ?_
  refine v_iconst DX0_init_701 ?_
  refine v_icmp_ge (tg := 724) DX0_init_702 rfl ⟨by decide, by decide⟩ ⟨by decide, by decide⟩ (fun e => absurd e (by decide)) (fun _ => ?_)
  refine v_aload_n 1 DX0_init_705 rfl rfl ?_
  refine w_getR (ci := 0) (kf := 45) (kz := 45) DX0_init_706 (csh wcX477 (q := (100, 104)) (by decide +kernel)) rfl (by decide) rfl (Or.inl q1085) (fun _ _ => rfl) (cR wcX477 (k := 45) (v := some 50) (by decide +kernel)) ?_
  refine v_iload_n 0 DX0_init_709 rfl rfl ?_
  refine v_new (ci := 8) (z := 3) DX0_init_710 rfl q710 q972 q261 (cn_ok wcX477 (by decide)) (cz_ok wcX477 (by decide)) ?_
  rw [cnn wcX477]
  show VV E mX0_init (d + 1) 713 _ _ (crun cX478 e00) _
  refine v_dup DX0_init_713 rfl ?_
  refine v_invI (as := []) (b := 230) (st := [aO 230, aI (1), aO 50]) DX0_init_714 rfl okX8_init (Or.inr ⟨_, q973⟩) q974 q975 rfl npX8_init (ct_X0_12 (d := d) (by omega)) (Nat.le_of_ble_eq_true rfl) (Nat.le_refl _) (Nat.le_of_ble_eq_true rfl) (RV_ret (fun τ g e => ?_)) RV_thr
  subst e
  refine v_aast (t := 6) (z := 4) (ci := 8) (zb := 3) DX0_init_717 (csh wcX506 (by decide +kernel)) (by decide) (by decide) (by decide) (csh wcX506 (by decide +kernel)) rfl rfl (Or.inr (cR wcX506 (k := 1) (by decide +kernel))) ?_
  show VV E mX0_init (d + 1) 718 _ _ (crun cX507 e00) _
  refine v_iinc (L' := [(1, aI (2)), (0, aO 0)]) 0 DX0_init_718 rfl (by decide) rfl ?_
  refine v_goto (pc' := 700) DX0_init_721 rfl ?_
  refine v_iload_n 0 DX0_init_700 rfl rfl ?_
  refine v_iconst DX0_init_701 ?_
  refine v_icmp_ge (tg := 724) DX0_init_702 rfl ⟨by decide, by decide⟩ ⟨by decide, by decide⟩ (fun e => absurd e (by decide)) (fun _ => ?_)
  refine v_aload_n 1 DX0_init_705 rfl rfl ?_
  refine w_getR (ci := 0) (kf := 45) (kz := 45) DX0_init_706 (csh wcX507 (q := (100, 104)) (by decide +kernel)) rfl (by decide) rfl (Or.inl q1085) (fun _ _ => rfl) (cR wcX507 (k := 45) (v := some 50) (by decide +kernel)) ?_
  refine v_iload_n 0 DX0_init_709 rfl rfl ?_
  refine v_new (ci := 8) (z := 3) DX0_init_710 rfl q710 q972 q261 (cn_ok wcX507 (by decide)) (cz_ok wcX507 (by decide)) ?_
  rw [cnn wcX507]
  show VV E mX0_init (d + 1) 713 _ _ (crun cX508 e00) _
  refine v_dup DX0_init_713 rfl ?_
  refine v_invI (as := []) (b := 245) (st := [aO 245, aI (2), aO 50]) DX0_init_714 rfl okX8_init (Or.inr ⟨_, q973⟩) q974 q975 rfl npX8_init (ct_X0_13 (d := d) (by omega)) (Nat.le_of_ble_eq_true rfl) (Nat.le_refl _) (Nat.le_of_ble_eq_true rfl) (RV_ret (fun τ g e => ?_)) RV_thr
  subst e
  refine v_aast (t := 6) (z := 4) (ci := 8) (zb := 3) DX0_init_717 (csh wcX536 (by decide +kernel)) (by decide) (by decide) (by decide) (csh wcX536 (by decide +kernel)) rfl rfl (Or.inr (cR wcX536 (k := 2) (by decide +kernel))) ?_
  show VV E mX0_init (d + 1) 718 _ _ (crun cX537 e00) _
  refine v_iinc (L' := [(1, aI (3)), (0, aO 0)]) 0 DX0_init_718 rfl (by decide) rfl ?_
  refine v_goto (pc' := 700) DX0_init_721 rfl ?_
  refine v_iload_n 0 DX0_init_700 rfl rfl ?_
  refine v_iconst DX0_init_701 ?_
  refine v_icmp_ge (tg := 724) DX0_init_702 rfl ⟨by decide, by decide⟩ ⟨by decide, by decide⟩ (fun e => absurd e (by decide)) (fun _ => ?_)
  refine v_aload_n 1 DX0_init_705 rfl rfl ?_
  refine w_getR (ci := 0) (kf := 45) (kz := 45) DX0_init_706 (csh wcX537 (q := (100, 104)) (by decide +kernel)) rfl (by decide) rfl (Or.inl q1085) (fun _ _ => rfl) (cR wcX537 (k := 45) (v := some 50) (by decide +kernel)) ?_
  refine v_iload_n 0 DX0_init_709 rfl rfl ?_
  refine v_new (ci := 8) (z := 3) DX0_init_710 rfl q710 q972 q261 (cn_ok wcX537 (by decide)) (cz_ok wcX537 (by decide)) ?_
  rw [cnn wcX537]
  show VV E mX0_init (d + 1) 713 _ _ (crun cX538 e00) _
  refine v_dup DX0_init_713 rfl ?_
  refine v_invI (as := []) (b := 260) (st := [aO 260, aI (3), aO 50]) DX0_init_714 rfl okX8_init (Or.inr ⟨_, q973⟩) q974 q975 rfl npX8_init (ct_X0_14 (d := d) (by omega)) (Nat.le_of_ble_eq_true rfl) (Nat.le_refl _) (Nat.le_of_ble_eq_true rfl) (RV_ret (fun τ g e => ?_)) RV_thr
  subst e
  refine v_aast (t := 6) (z := 4) (ci := 8) (zb := 3) DX0_init_717 (csh wcX566 (by decide +kernel)) (by decide) (by decide) (by decide) (csh wcX566 (by decide +kernel)) rfl rfl (Or.inr (cR wcX566 (k := 3) (by decide +kernel))) ?_
  show VV E mX0_init (d + 1) 718 _ _ (crun cX567 e00) _
  refine v_iinc (L' := [(1, aI (4)), (0, aO 0)]) 0 DX0_init_718 rfl (by decide) rfl ?_
  refine v_goto (pc' := 700) DX0_init_721 rfl ?_
  refine v_iload_n 0 DX0_init_700 rfl rfl ?_
  refine v_iconst DX0_init_701 ?_
  refine v_icmp_ge (tg := 724) DX0_init_702 rfl ⟨by decide, by decide⟩ ⟨by decide, by decide⟩ (fun _ => ?_) (fun e => absurd e (by decide))
  refine v_iconst DX0_init_724 ?_
  refine v_istore_n (L' := [(1, aI (0)), (0, aO 0)]) DX0_init_725 rfl (by decide) rfl ?_
  refine v_iload_n 0 DX0_init_726 rfl rfl ?_
  refine v_bipush DX0_init_727 (by decide) ?_
  refine v_icmp_ge (tg := 751) DX0_init_729 rfl ⟨by decide, by decide⟩ ⟨by decide, by decide⟩ (fun e => absurd e (by decide)) (fun _ => ?_)
  refine v_aload_n 1 DX0_init_732 rfl rfl ?_
  refine w_getR (ci := 0) (kf := 50) (kz := 50) DX0_init_733 (csh wcX567 (q := (100, 104)) (by decide +kernel)) rfl (by decide) rfl (Or.inl q1090) (fun _ _ => rfl) (cR wcX567 (k := 50) (v := some 79) (by decide +kernel)) ?_
  refine v_iload_n 0 DX0_init_736 rfl rfl ?_
  refine v_new (ci := 3) (z := 17) DX0_init_737 rfl q712 q713 q256 (cn_ok wcX567 (by decide)) (cz_ok wcX567 (by decide)) ?_
  rw [cnn wcX567]
  show VV E mX0_init (d + 1) 740 _ _ (crun cX568 e00) _
  refine v_dup DX0_init_740 rfl ?_
  refine v_invI (as := []) (b := 275) (st := [aO 275, aI (0), aO 79]) DX0_init_741 rfl okX3_init (Or.inr ⟨_, q714⟩) q715 q716 rfl npX3_init (ct_X0_15 (d := d) (by omega)) (Nat.le_of_ble_eq_true rfl) (Nat.le_refl _) (Nat.le_of_ble_eq_true rfl) (RV_ret (fun τ g e => ?_)) RV_thr
  subst e
  refine v_aast (t := 7) (z := 20) (ci := 3) (zb := 17) DX0_init_744 (csh wcX594 (by decide +kernel)) (by decide) (by decide) (by decide) (csh wcX594 (by decide +kernel)) rfl rfl (Or.inr (cR wcX594 (k := 0) (by decide +kernel))) ?_
  show VV E mX0_init (d + 1) 745 _ _ (crun cX595 e00) _
  refine v_iinc (L' := [(1, aI (1)), (0, aO 0)]) 0 DX0_init_745 rfl (by decide) rfl ?_
  refine v_goto (pc' := 726) DX0_init_748 rfl ?_
  refine v_iload_n 0 DX0_init_726 rfl rfl ?_
  refine v_bipush DX0_init_727 (by decide) ?_
  refine v_icmp_ge (tg := 751) DX0_init_729 rfl ⟨by decide, by decide⟩ ⟨by decide, by decide⟩ (fun e => absurd e (by decide)) (fun _ => ?_)
  refine v_aload_n 1 DX0_init_732 rfl rfl ?_
  refine w_getR (ci := 0) (kf := 50) (kz := 50) DX0_init_733 (csh wcX595 (q := (100, 104)) (by decide +kernel)) rfl (by decide) rfl (Or.inl q1090) (fun _ _ => rfl) (cR wcX595 (k := 50) (v := some 79) (by decide +kernel)) ?_
  refine v_iload_n 0 DX0_init_736 rfl rfl ?_
  refine v_new (ci := 3) (z := 17) DX0_init_737 rfl q712 q713 q256 (cn_ok wcX595 (by decide)) (cz_ok wcX595 (by decide)) ?_
  rw [cnn wcX595]
  show VV E mX0_init (d + 1) 740 _ _ (crun cX596 e00) _
  refine v_dup DX0_init_740 rfl ?_
  refine v_invI (as := []) (b := 289) (st := [aO 289, aI (1), aO 79]) DX0_init_741 rfl okX3_init (Or.inr ⟨_, q714⟩) q715 q716 rfl npX3_init (ct_X0_16 (d := d) (by omega)) (Nat.le_of_ble_eq_true rfl) (Nat.le_refl _) (Nat.le_of_ble_eq_true rfl) (RV_ret (fun τ g e => ?_)) RV_thr
  subst e
  refine v_aast (t := 7) (z := 20) (ci := 3) (zb := 17) DX0_init_744 (csh wcX622 (by decide +kernel)) (by decide) (by decide) (by decide) (csh wcX622 (by decide +kernel)) rfl rfl (Or.inr (cR wcX622 (k := 1) (by decide +kernel))) ?_
  show VV E mX0_init (d + 1) 745 _ _ (crun cX623 e00) _
  refine v_iinc (L' := [(1, aI (2)), (0, aO 0)]) 0 DX0_init_745 rfl (by decide) rfl ?_
  refine v_goto (pc' := 726) DX0_init_748 rfl ?_
  refine v_iload_n 0 DX0_init_726 rfl rfl ?_
  refine v_bipush DX0_init_727 (by decide) ?_
  refine v_icmp_ge (tg := 751) DX0_init_729 rfl ⟨by decide, by decide⟩ ⟨by decide, by decide⟩ (fun e => absurd e (by decide)) (fun _ => ?_)
  refine v_aload_n 1 DX0_init_732 rfl rfl ?_
  refine w_getR (ci := 0) (kf := 50) (kz := 50) DX0_init_733 (csh wcX623 (q := (100, 104)) (by decide +kernel)) rfl (by decide) rfl (Or.inl q1090) (fun _ _ => rfl) (cR wcX623 (k := 50) (v := some 79) (by decide +kernel)) ?_
  refine v_iload_n 0 DX0_init_736 rfl rfl ?_
  refine v_new (ci := 3) (z := 17) DX0_init_737 rfl q712 q713 q256 (cn_ok wcX623 (by decide)) (cz_ok wcX623 (by decide)) ?_
  rw [cnn wcX623]
  show VV E mX0_init (d + 1) 740 _ _ (crun cX624 e00) _
  refine v_dup DX0_init_740 rfl ?_
  refine v_invI (as := []) (b := 303) (st := [aO 303, aI (2), aO 79]) DX0_init_741 rfl okX3_init (Or.inr ⟨_, q714⟩) q715 q716 rfl npX3_init (ct_X0_17 (d := d) (by omega)) (Nat.le_of_ble_eq_true rfl) (Nat.le_refl _) (Nat.le_of_ble_eq_true rfl) (RV_ret (fun τ g e => ?_)) RV_thr
  subst e
  refine v_aast (t := 7) (z := 20) (ci := 3) (zb := 17) DX0_init_744 (csh wcX650 (by decide +kernel)) (by decide) (by decide) (by decide) (csh wcX650 (by decide +kernel)) rfl rfl (Or.inr (cR wcX650 (k := 2) (by decide +kernel))) ?_
  show VV E mX0_init (d + 1) 745 _ _ (crun cX651 e00) _
  refine v_iinc (L' := [(1, aI (3)), (0, aO 0)]) 0 DX0_init_745 rfl (by decide) rfl ?_
  refine v_goto (pc' := 726) DX0_init_748 rfl ?_
  refine v_iload_n 0 DX0_init_726 rfl rfl ?_
  refine v_bipush DX0_init_727 (by decide) ?_
  refine v_icmp_ge (tg := 751) DX0_init_729 rfl ⟨by decide, by decide⟩ ⟨by decide, by decide⟩ (fun e => absurd e (by decide)) (fun _ => ?_)
  refine v_aload_n 1 DX0_init_732 rfl rfl ?_
  refine w_getR (ci := 0) (kf := 50) (kz := 50) DX0_init_733 (csh wcX651 (q := (100, 104)) (by decide +kernel)) rfl (by decide) rfl (Or.inl q1090) (fun _ _ => rfl) (cR wcX651 (k := 50) (v := some 79) (by decide +kernel)) ?_
  refine v_iload_n 0 DX0_init_736 rfl rfl ?_
  refine v_new (ci := 3) (z := 17) DX0_init_737 rfl q712 q713 q256 (cn_ok wcX651 (by decide)) (cz_ok wcX651 (by decide)) ?_
  rw [cnn wcX651]
  show VV E mX0_init (d + 1) 740 _ _ (crun cX652 e00) _
  refine v_dup DX0_init_740 rfl ?_
  refine v_invI (as := []) (b := 317) (st := [aO 317, aI (3), aO 79]) DX0_init_741 rfl okX3_init (Or.inr ⟨_, q714⟩) q715 q716 rfl npX3_init (ct_X0_18 (d := d) (by omega)) (Nat.le_of_ble_eq_true rfl) (Nat.le_refl _) (Nat.le_of_ble_eq_true rfl) (RV_ret (fun τ g e => ?_)) RV_thr
  subst e
  refine v_aast (t := 7) (z := 20) (ci := 3) (zb := 17) DX0_init_744 (csh wcX678 (by decide +kernel)) (by decide) (by decide) (by decide) (csh wcX678 (by decide +kernel)) rfl rfl (Or.inr (cR wcX678 (k := 3) (by decide +kernel))) ?_
  show VV E mX0_init (d + 1) 745 _ _ (crun cX679 e00) _
  refine v_iinc (L' := [(1, aI (4)), (0, aO 0)]) 0 DX0_init_745 rfl (by decide) rfl ?_
  refine v_goto (pc' := 726) DX0_init_748 rfl ?_
  refine v_iload_n 0 DX0_init_726 rfl rfl ?_
  refine v_bipush DX0_init_727 (by decide) ?_
  refine v_icmp_ge (tg := 751) DX0_init_729 rfl ⟨by decide, by decide⟩ ⟨by decide, by decide⟩ (fun e => absurd e (by decide)) (fun _ => ?_)
  refine v_aload_n 1 DX0_init_732 rfl rfl ?_
  refine w_getR (ci := 0) (kf := 50) (kz := 50) DX0_init_733 (csh wcX679 (q := (100, 104)) (by decide +kernel)) rfl (by decide) rfl (Or.inl q1090) (fun _ _ => rfl) (cR wcX679 (k := 50) (v := some 79) (by decide +kernel)) ?_
  refine v_iload_n 0 DX0_init_736 rfl rfl ?_
  refine v_new (ci := 3) (z := 17) DX0_init_737 rfl q712 q713 q256 (cn_ok wcX679 (by decide)) (cz_ok wcX679 (by decide)) ?_
  rw [cnn wcX679]
  show VV E mX0_init (d + 1) 740 _ _ (crun cX680 e00) _
  refine v_dup DX0_init_740 rfl ?_
  refine v_invI (as := []) (b := 331) (st := [aO 331, aI (4), aO 79]) DX0_init_741 rfl okX3_init (Or.inr ⟨_, q714⟩) q715 q716 rfl npX3_init (ct_X0_19 (d := d) (by omega)) (Nat.le_of_ble_eq_true rfl) (Nat.le_refl _) (Nat.le_of_ble_eq_true rfl) (RV_ret (fun τ g e => ?_)) RV_thr
  subst e
  refine v_aast (t := 7) (z := 20) (ci := 3) (zb := 17) DX0_init_744 (csh wcX706 (by decide +kernel)) (by decide) (by decide) (by decide) (csh wcX706 (by decide +kernel)) rfl rfl (Or.inr (cR wcX706 (k := 4) (by decide +kernel))) ?_
  show VV E mX0_init (d + 1) 745 _ _ (crun cX707 e00) _
  refine v_iinc (L' := [(1, aI (5)), (0, aO 0)]) 0 DX0_init_745 rfl (by decide) rfl ?_
  refine v_goto (pc' := 726) DX0_init_748 rfl ?_
  refine v_iload_n 0 DX0_init_726 rfl rfl ?_
  refine v_bipush DX0_init_727 (by decide) ?_
  refine v_icmp_ge (tg := 751) DX0_init_729 rfl ⟨by decide, by decide⟩ ⟨by decide, by decide⟩ (fun e => absurd e (by decide)) (fun _ => ?_)
  refine v_aload_n 1 DX0_init_732 rfl rfl ?_
  refine w_getR (ci := 0) (kf := 50) (kz := 50) DX0_init_733 (csh wcX707 (q := (100, 104)) (by decide +kernel)) rfl (by decide) rfl (Or.inl q1090) (fun _ _ => rfl) (cR wcX707 (k := 50) (v := some 79) (by decide +kernel)) ?_
  refine v_iload_n 0 DX0_init_736 rfl rfl ?_
  refine v_new (ci := 3) (z := 17) DX0_init_737 rfl q712 q713 q256 (cn_ok wcX707 (by decide)) (cz_ok wcX707 (by decide)) ?_
  rw [cnn wcX707]
  show VV E mX0_init (d + 1) 740 _ _ (crun cX708 e00) _
  refine v_dup DX0_init_740 rfl ?_
  refine v_invI (as := []) (b := 345) (st := [aO 345, aI (5), aO 79]) DX0_init_741 rfl okX3_init (Or.inr ⟨_, q714⟩) q715 q716 rfl npX3_init (ct_X0_20 (d := d) (by omega)) (Nat.le_of_ble_eq_true rfl) (Nat.le_refl _) (Nat.le_of_ble_eq_true rfl) (RV_ret (fun τ g e => ?_)) RV_thr
  subst e
  refine v_aast (t := 7) (z := 20) (ci := 3) (zb := 17) DX0_init_744 (csh wcX734 (by decide +kernel)) (by decide) (by decide) (by decide) (csh wcX734 (by decide +kernel)) rfl rfl (Or.inr (cR wcX734 (k := 5) (by decide +kernel))) ?_
  show VV E mX0_init (d + 1) 745 _ _ (crun cX735 e00) _
  refine v_iinc (L' := [(1, aI (6)), (0, aO 0)]) 0 DX0_init_745 rfl (by decide) rfl ?_
  refine v_goto (pc' := 726) DX0_init_748 rfl ?_
  refine v_iload_n 0 DX0_init_726 rfl rfl ?_
  refine v_bipush DX0_init_727 (by decide) ?_
  refine v_icmp_ge (tg := 751) DX0_init_729 rfl ⟨by decide, by decide⟩ ⟨by decide, by decide⟩ (fun e => absurd e (by decide)) (fun _ => ?_)
  refine v_aload_n 1 DX0_init_732 rfl rfl ?_
  refine w_getR (ci := 0) (kf := 50) (kz := 50) DX0_init_733 (csh wcX735 (q := (100, 104)) (by decide +kernel)) rfl (by decide) rfl (Or.inl q1090) (fun _ _ => rfl) (cR wcX735 (k := 50) (v := some 79) (by decide +kernel)) ?_
  refine v_iload_n 0 DX0_init_736 rfl rfl ?_
  refine v_new (ci := 3) (z := 17) DX0_init_737 rfl q712 q713 q256 (cn_ok wcX735 (by decide)) (cz_ok wcX735 (by decide)) ?_
  rw [cnn wcX735]
  show VV E mX0_init (d + 1) 740 _ _ (crun cX736 e00) _
  refine v_dup DX0_init_740 rfl ?_
  refine v_invI (as := []) (b := 359) (st := [aO 359, aI (6), aO 79]) DX0_init_741 rfl okX3_init (Or.inr ⟨_, q714⟩) q715 q716 rfl npX3_init (ct_X0_21 (d := d) (by omega)) (Nat.le_of_ble_eq_true rfl) (Nat.le_refl _) (Nat.le_of_ble_eq_true rfl) (RV_ret (fun τ g e => ?_)) RV_thr
  subst e
  refine v_aast (t := 7) (z := 20) (ci := 3) (zb := 17) DX0_init_744 (csh wcX762 (by decide +kernel)) (by decide) (by decide) (by decide) (csh wcX762 (by decide +kernel)) rfl rfl (Or.inr (cR wcX762 (k := 6) (by decide +kernel))) ?_
  show VV E mX0_init (d + 1) 745 _ _ (crun cX763 e00) _
  refine v_iinc (L' := [(1, aI (7)), (0, aO 0)]) 0 DX0_init_745 rfl (by decide) rfl ?_
  refine v_goto (pc' := 726) DX0_init_748 rfl ?_
  refine v_iload_n 0 DX0_init_726 rfl rfl ?_
  refine v_bipush DX0_init_727 (by decide) ?_
  refine v_icmp_ge (tg := 751) DX0_init_729 rfl ⟨by decide, by decide⟩ ⟨by decide, by decide⟩ (fun e => absurd e (by decide)) (fun _ => ?_)
  refine v_aload_n 1 DX0_init_732 rfl rfl ?_
  refine w_getR (ci := 0) (kf := 50) (kz := 50) DX0_init_733 (csh wcX763 (q := (100, 104)) (by decide +kernel)) rfl (by decide) rfl (Or.inl q1090) (fun _ _ => rfl) (cR wcX763 (k := 50) (v := some 79) (by decide +kernel)) ?_
  refine v_iload_n 0 DX0_init_736 rfl rfl ?_
  refine v_new (ci := 3) (z := 17) DX0_init_737 rfl q712 q713 q256 (cn_ok wcX763 (by decide)) (cz_ok wcX763 (by decide)) ?_
  rw [cnn wcX763]
  show VV E mX0_init (d + 1) 740 _ _ (crun cX764 e00) _
  refine v_dup DX0_init_740 rfl ?_
  refine v_invI (as := []) (b := 373) (st := [aO 373, aI (7), aO 79]) DX0_init_741 rfl okX3_init (Or.inr ⟨_, q714⟩) q715 q716 rfl npX3_init (ct_X0_22 (d := d) (by omega)) (Nat.le_of_ble_eq_true rfl) (Nat.le_refl _) (Nat.le_of_ble_eq_true rfl) (RV_ret (fun τ g e => ?_)) RV_thr
  subst e
  refine v_aast (t := 7) (z := 20) (ci := 3) (zb := 17) DX0_init_744 (csh wcX790 (by decide +kernel)) (by decide) (by decide) (by decide) (csh wcX790 (by decide +kernel)) rfl rfl (Or.inr (cR wcX790 (k := 7) (by decide +kernel))) ?_
  show VV E mX0_init (d + 1) 745 _ _ (crun cX791 e00) _
  refine v_iinc (L' := [(1, aI (8)), (0, aO 0)]) 0 DX0_init_745 rfl (by decide) rfl ?_
  refine v_goto (pc' := 726) DX0_init_748 rfl ?_
  refine v_iload_n 0 DX0_init_726 rfl rfl ?_
  refine v_bipush DX0_init_727 (by decide) ?_
  refine v_icmp_ge (tg := 751) DX0_init_729 rfl ⟨by decide, by decide⟩ ⟨by decide, by decide⟩ (fun e => absurd e (by decide)) (fun _ => ?_)
  refine v_aload_n 1 DX0_init_732 rfl rfl ?_
  refine w_getR (ci := 0) (kf := 50) (kz := 50) DX0_init_733 (csh wcX791 (q := (100, 104)) (by decide +kernel)) rfl (by decide) rfl (Or.inl q1090) (fun _ _ => rfl) (cR wcX791 (k := 50) (v := some 79) (by decide +kernel)) ?_
  refine v_iload_n 0 DX0_init_736 rfl rfl ?_
  refine v_new (ci := 3) (z := 17) DX0_init_737 rfl q712 q713 q256 (cn_ok wcX791 (by decide)) (cz_ok wcX791 (by decide)) ?_
  rw [cnn wcX791]
  show VV E mX0_init (d + 1) 740 _ _ (crun cX792 e00) _
  refine v_dup DX0_init_740 rfl ?_
  refine v_invI (as := []) (b := 387) (st := [aO 387, aI (8), aO 79]) DX0_init_741 rfl okX3_init (Or.inr ⟨_, q714⟩) q715 q716 rfl npX3_init (ct_X0_23 (d := d) (by omega)) (Nat.le_of_ble_eq_true rfl) (Nat.le_refl _) (Nat.le_of_ble_eq_true rfl) (RV_ret (fun τ g e => ?_)) RV_thr
  subst e
  refine v_aast (t := 7) (z := 20) (ci := 3) (zb := 17) DX0_init_744 (csh wcX818 (by decide +kernel)) (by decide) (by decide) (by decide) (csh wcX818 (by decide +kernel)) rfl rfl (Or.inr (cR wcX818 (k := 8) (by decide +kernel))) ?_
  show VV E mX0_init (d + 1) 745 _ _ (crun cX819 e00) _
  refine v_iinc (L' := [(1, aI (9)), (0, aO 0)]) 0 DX0_init_745 rfl (by decide) rfl ?_
  refine v_goto (pc' := 726) DX0_init_748 rfl ?_
  refine v_iload_n 0 DX0_init_726 rfl rfl ?_
  refine v_bipush DX0_init_727 (by decide) ?_
  refine v_icmp_ge (tg := 751) DX0_init_729 rfl ⟨by decide, by decide⟩ ⟨by decide, by decide⟩ (fun e => absurd e (by decide)) (fun _ => ?_)
  refine v_aload_n 1 DX0_init_732 rfl rfl ?_
  refine w_getR (ci := 0) (kf := 50) (kz := 50) DX0_init_733 (csh wcX819 (q := (100, 104)) (by decide +kernel)) rfl (by decide) rfl (Or.inl q1090) (fun _ _ => rfl) (cR wcX819 (k := 50) (v := some 79) (by decide +kernel)) ?_
  refine v_iload_n 0 DX0_init_736 rfl rfl ?_
  refine v_new (ci := 3) (z := 17) DX0_init_737 rfl q712 q713 q256 (cn_ok wcX819 (by decide)) (cz_ok wcX819 (by decide)) ?_
  rw [cnn wcX819]
  show VV E mX0_init (d + 1) 740 _ _ (crun cX820 e00) _
  refine v_dup DX0_init_740 rfl ?_
  refine v_invI (as := []) (b := 401) (st := [aO 401, aI (9), aO 79]) DX0_init_741 rfl okX3_init (Or.inr ⟨_, q714⟩) q715 q716 rfl npX3_init (ct_X0_24 (d := d) (by omega)) (Nat.le_of_ble_eq_true rfl) (Nat.le_refl _) (Nat.le_of_ble_eq_true rfl) (RV_ret (fun τ g e => ?_)) RV_thr
  subst e
  refine v_aast (t := 7) (z := 20) (ci := 3) (zb := 17) DX0_init_744 (csh wcX846 (by decide +kernel)) (by decide) (by decide) (by decide) (csh wcX846 (by decide +kernel)) rfl rfl (Or.inr (cR wcX846 (k := 9) (by decide +kernel))) ?_
  show VV E mX0_init (d + 1) 745 _ _ (crun cX847 e00) _
  refine v_iinc (L' := [(1, aI (10)), (0, aO 0)]) 0 DX0_init_745 rfl (by decide) rfl ?_
  refine v_goto (pc' := 726) DX0_init_748 rfl ?_
  refine v_iload_n 0 DX0_init_726 rfl rfl ?_
  refine v_bipush DX0_init_727 (by decide) ?_
  refine v_icmp_ge (tg := 751) DX0_init_729 rfl ⟨by decide, by decide⟩ ⟨by decide, by decide⟩ (fun e => absurd e (by decide)) (fun _ => ?_)
  refine v_aload_n 1 DX0_init_732 rfl rfl ?_
  refine w_getR (ci := 0) (kf := 50) (kz := 50) DX0_init_733 (csh wcX847 (q := (100, 104)) (by decide +kernel)) rfl (by decide) rfl (Or.inl q1090) (fun _ _ => rfl) (cR wcX847 (k := 50) (v := some 79) (by decide +kernel)) ?_
  refine v_iload_n 0 DX0_init_736 rfl rfl ?_
  refine v_new (ci := 3) (z := 17) DX0_init_737 rfl q712 q713 q256 (cn_ok wcX847 (by decide)) (cz_ok wcX847 (by decide)) ?_
  rw [cnn wcX847]
  show VV E mX0_init (d + 1) 740 _ _ (crun cX848 e00) _
  refine v_dup DX0_init_740 rfl ?_
  refine v_invI (as := []) (b := 415) (st := [aO 415, aI (10), aO 79]) DX0_init_741 rfl okX3_init (Or.inr ⟨_, q714⟩) q715 q716 rfl npX3_init (ct_X0_25 (d := d) (by omega)) (Nat.le_of_ble_eq_true rfl) (Nat.le_refl _) (Nat.le_of_ble_eq_true rfl) (RV_ret (fun τ g e => ?_)) RV_thr
  subst e
  refine v_aast (t := 7) (z := 20) (ci := 3) (zb := 17) DX0_init_744 (csh wcX874 (by decide +kernel)) (by decide) (by decide) (by decide) (csh wcX874 (by decide +kernel)) rfl rfl (Or.inr (cR wcX874 (k := 10) (by decide +kernel))) ?_
  show VV E mX0_init (d + 1) 745 _ _ (crun cX875 e00) _
  refine v_iinc (L' := [(1, aI (11)), (0, aO 0)]) 0 DX0_init_745 rfl (by decide) rfl ?_
  refine v_goto (pc' := 726) DX0_init_748 rfl ?_
  refine v_iload_n 0 DX0_init_726 rfl rfl ?_
  refine v_bipush DX0_init_727 (by decide) ?_
  refine v_icmp_ge (tg := 751) DX0_init_729 rfl ⟨by decide, by decide⟩ ⟨by decide, by decide⟩ (fun e => absurd e (by decide)) (fun _ => ?_)
  refine v_aload_n 1 DX0_init_732 rfl rfl ?_
  refine w_getR (ci := 0) (kf := 50) (kz := 50) DX0_init_733 (csh wcX875 (q := (100, 104)) (by decide +kernel)) rfl (by decide) rfl (Or.inl q1090) (fun _ _ => rfl) (cR wcX875 (k := 50) (v := some 79) (by decide +kernel)) ?_
  refine v_iload_n 0 DX0_init_736 rfl rfl ?_
  refine v_new (ci := 3) (z := 17) DX0_init_737 rfl q712 q713 q256 (cn_ok wcX875 (by decide)) (cz_ok wcX875 (by decide)) ?_
  rw [cnn wcX875]
  show VV E mX0_init (d + 1) 740 _ _ (crun cX876 e00) _
  refine v_dup DX0_init_740 rfl ?_
  refine v_invI (as := []) (b := 429) (st := [aO 429, aI (11), aO 79]) DX0_init_741 rfl okX3_init (Or.inr ⟨_, q714⟩) q715 q716 rfl npX3_init (ct_X0_26 (d := d) (by omega)) (Nat.le_of_ble_eq_true rfl) (Nat.le_refl _) (Nat.le_of_ble_eq_true rfl) (RV_ret (fun τ g e => ?_)) RV_thr
  subst e
  refine v_aast (t := 7) (z := 20) (ci := 3) (zb := 17) DX0_init_744 (csh wcX902 (by decide +kernel)) (by decide) (by decide) (by decide) (csh wcX902 (by decide +kernel)) rfl rfl (Or.inr (cR wcX902 (k := 11) (by decide +kernel))) ?_
  show VV E mX0_init (d + 1) 745 _ _ (crun cX903 e00) _
  refine v_iinc (L' := [(1, aI (12)), (0, aO 0)]) 0 DX0_init_745 rfl (by decide) rfl ?_
  refine v_goto (pc' := 726) DX0_init_748 rfl ?_
  refine v_iload_n 0 DX0_init_726 rfl rfl ?_
  refine v_bipush DX0_init_727 (by decide) ?_
  refine v_icmp_ge (tg := 751) DX0_init_729 rfl ⟨by decide, by decide⟩ ⟨by decide, by decide⟩ (fun e => absurd e (by decide)) (fun _ => ?_)
  refine v_aload_n 1 DX0_init_732 rfl rfl ?_
  refine w_getR (ci := 0) (kf := 50) (kz := 50) DX0_init_733 (csh wcX903 (q := (100, 104)) (by decide +kernel)) rfl (by decide) rfl (Or.inl q1090) (fun _ _ => rfl) (cR wcX903 (k := 50) (v := some 79) (by decide +kernel)) ?_
  refine v_iload_n 0 DX0_init_736 rfl rfl ?_
  refine v_new (ci := 3) (z := 17) DX0_init_737 rfl q712 q713 q256 (cn_ok wcX903 (by decide)) (cz_ok wcX903 (by decide)) ?_
  rw [cnn wcX903]
  show VV E mX0_init (d + 1) 740 _ _ (crun cX904 e00) _
  refine v_dup DX0_init_740 rfl ?_
  refine v_invI (as := []) (b := 443) (st := [aO 443, aI (12), aO 79]) DX0_init_741 rfl okX3_init (Or.inr ⟨_, q714⟩) q715 q716 rfl npX3_init (ct_X0_27 (d := d) (by omega)) (Nat.le_of_ble_eq_true rfl) (Nat.le_refl _) (Nat.le_of_ble_eq_true rfl) (RV_ret (fun τ g e => ?_)) RV_thr
  subst e
  refine v_aast (t := 7) (z := 20) (ci := 3) (zb := 17) DX0_init_744 (csh wcX930 (by decide +kernel)) (by decide) (by decide) (by decide) (csh wcX930 (by decide +kernel)) rfl rfl (Or.inr (cR wcX930 (k := 12) (by decide +kernel))) ?_
  show VV E mX0_init (d + 1) 745 _ _ (crun cX931 e00) _
  refine v_iinc (L' := [(1, aI (13)), (0, aO 0)]) 0 DX0_init_745 rfl (by decide) rfl ?_
  refine v_goto (pc' := 726) DX0_init_748 rfl ?_
  refine v_iload_n 0 DX0_init_726 rfl rfl ?_
  refine v_bipush DX0_init_727 (by decide) ?_
  refine v_icmp_ge (tg := 751) DX0_init_729 rfl ⟨by decide, by decide⟩ ⟨by decide, by decide⟩ (fun e => absurd e (by decide)) (fun _ => ?_)
  refine v_aload_n 1 DX0_init_732 rfl rfl ?_
  refine w_getR (ci := 0) (kf := 50) (kz := 50) DX0_init_733 (csh wcX931 (q := (100, 104)) (by decide +kernel)) rfl (by decide) rfl (Or.inl q1090) (fun _ _ => rfl) (cR wcX931 (k := 50) (v := some 79) (by decide +kernel)) ?_
  refine v_iload_n 0 DX0_init_736 rfl rfl ?_
  refine v_new (ci := 3) (z := 17) DX0_init_737 rfl q712 q713 q256 (cn_ok wcX931 (by decide)) (cz_ok wcX931 (by decide)) ?_
  rw [cnn wcX931]
  show VV E mX0_init (d + 1) 740 _ _ (crun cX932 e00) _
  refine v_dup DX0_init_740 rfl ?_
  refine v_invI (as := []) (b := 457) (st := [aO 457, aI (13), aO 79]) DX0_init_741 rfl okX3_init (Or.inr ⟨_, q714⟩) q715 q716 rfl npX3_init (ct_X0_28 (d := d) (by omega)) (Nat.le_of_ble_eq_true rfl) (Nat.le_refl _) (Nat.le_of_ble_eq_true rfl) (RV_ret (fun τ g e => ?_)) RV_thr
  subst e
  refine v_aast (t := 7) (z := 20) (ci := 3) (zb := 17) DX0_init_744 (csh wcX958 (by decide +kernel)) (by decide) (by decide) (by decide) (csh wcX958 (by decide +kernel)) rfl rfl (Or.inr (cR wcX958 (k := 13) (by decide +kernel))) ?_
  show VV E mX0_init (d + 1) 745 _ _ (crun cX959 e00) _
  refine v_iinc (L' := [(1, aI (14)), (0, aO 0)]) 0 DX0_init_745 rfl (by decide) rfl ?_
  refine v_goto (pc' := 726) DX0_init_748 rfl ?_
  refine v_iload_n 0 DX0_init_726 rfl rfl ?_
  refine v_bipush DX0_init_727 (by decide) ?_
  refine v_icmp_ge (tg := 751) DX0_init_729 rfl ⟨by decide, by decide⟩ ⟨by decide, by decide⟩ (fun e => absurd e (by decide)) (fun _ => ?_)
  refine v_aload_n 1 DX0_init_732 rfl rfl ?_
  refine w_getR (ci := 0) (kf := 50) (kz := 50) DX0_init_733 (csh wcX959 (q := (100, 104)) (by decide +kernel)) rfl (by decide) rfl (Or.inl q1090) (fun _ _ => rfl) (cR wcX959 (k := 50) (v := some 79) (by decide +kernel)) ?_
  refine v_iload_n 0 DX0_init_736 rfl rfl ?_
  refine v_new (ci := 3) (z := 17) DX0_init_737 rfl q712 q713 q256 (cn_ok wcX959 (by decide)) (cz_ok wcX959 (by decide)) ?_
  rw [cnn wcX959]
  show VV E mX0_init (d + 1) 740 _ _ (crun cX960 e00) _
  refine v_dup DX0_init_740 rfl ?_
  refine v_invI (as := []) (b := 471) (st := [aO 471, aI (14), aO 79]) DX0_init_741 rfl okX3_init (Or.inr ⟨_, q714⟩) q715 q716 rfl npX3_init (ct_X0_29 (d := d) (by omega)) (Nat.le_of_ble_eq_true rfl) (Nat.le_refl _) (Nat.le_of_ble_eq_true rfl) (RV_ret (fun τ g e => ?_)) RV_thr
  subst e
  refine v_aast (t := 7) (z := 20) (ci := 3) (zb := 17) DX0_init_744 (csh wcX986 (by decide +kernel)) (by decide) (by decide) (by decide) (csh wcX986 (by decide +kernel)) rfl rfl (Or.inr (cR wcX986 (k := 14) (by decide +kernel))) ?_
  show VV E mX0_init (d + 1) 745 _ _ (crun cX987 e00) _
  refine v_iinc (L' := [(1, aI (15)), (0, aO 0)]) 0 DX0_init_745 rfl (by decide) rfl ?_
  refine v_goto (pc' := 726) DX0_init_748 rfl ?_
  refine v_iload_n 0 DX0_init_726 rfl rfl ?_
  refine v_bipush DX0_init_727 (by decide) ?_
  refine v_icmp_ge (tg := 751) DX0_init_729 rfl ⟨by decide, by decide⟩ ⟨by decide, by decide⟩ (fun e => absurd e (by decide)) (fun _ => ?_)
  refine v_aload_n 1 DX0_init_732 rfl rfl ?_
  refine w_getR (ci := 0) (kf := 50) (kz := 50) DX0_init_733 (csh wcX987 (q := (100, 104)) (by decide +kernel)) rfl (by decide) rfl (Or.inl q1090) (fun _ _ => rfl) (cR wcX987 (k := 50) (v := some 79) (by decide +kernel)) ?_
  refine v_iload_n 0 DX0_init_736 rfl rfl ?_
  refine v_new (ci := 3) (z := 17) DX0_init_737 rfl q712 q713 q256 (cn_ok wcX987 (by decide)) (cz_ok wcX987 (by decide)) ?_
  rw [cnn wcX987]
  show VV E mX0_init (d + 1) 740 _ _ (crun cX988 e00) _
  refine v_dup DX0_init_740 rfl ?_
  refine v_invI (as := []) (b := 485) (st := [aO 485, aI (15), aO 79]) DX0_init_741 rfl okX3_init (Or.inr ⟨_, q714⟩) q715 q716 rfl npX3_init (ct_X0_30 (d := d) (by omega)) (Nat.le_of_ble_eq_true rfl) (Nat.le_refl _) (Nat.le_of_ble_eq_true rfl) (RV_ret (fun τ g e => ?_)) RV_thr
  subst e
  refine v_aast (t := 7) (z := 20) (ci := 3) (zb := 17) DX0_init_744 (csh wcX1014 (by decide +kernel)) (by decide) (by decide) (by decide) (csh wcX1014 (by decide +kernel)) rfl rfl (Or.inr (cR wcX1014 (k := 15) (by decide +kernel))) ?_
  show VV E mX0_init (d + 1) 745 _ _ (crun cX1015 e00) _
  refine v_iinc (L' := [(1, aI (16)), (0, aO 0)]) 0 DX0_init_745 rfl (by decide) rfl ?_
  refine v_goto (pc' := 726) DX0_init_748 rfl ?_
  refine v_iload_n 0 DX0_init_726 rfl rfl ?_
  refine v_bipush DX0_init_727 (by decide) ?_
  refine v_icmp_ge (tg := 751) DX0_init_729 rfl ⟨by decide, by decide⟩ ⟨by decide, by decide⟩ (fun e => absurd e (by decide)) (fun _ => ?_)
  refine v_aload_n 1 DX0_init_732 rfl rfl ?_
  refine w_getR (ci := 0) (kf := 50) (kz := 50) DX0_init_733 (csh wcX1015 (q := (100, 104)) (by decide +kernel)) rfl (by decide) rfl (Or.inl q1090) (fun _ _ => rfl) (cR wcX1015 (k := 50) (v := some 79) (by decide +kernel)) ?_
  refine v_iload_n 0 DX0_init_736 rfl rfl ?_
  refine v_new (ci := 3) (z := 17) DX0_init_737 rfl q712 q713 q256 (cn_ok wcX1015 (by decide)) (cz_ok wcX1015 (by decide)) ?_
  rw [cnn wcX1015]
  show VV E mX0_init (d + 1) 740 _ _ (crun cX1016 e00) _
  refine v_dup DX0_init_740 rfl ?_
  refine v_invI (as := []) (b := 499) (st := [aO 499, aI (16), aO 79]) DX0_init_741 rfl okX3_init (Or.inr ⟨_, q714⟩) q715 q716 rfl npX3_init (ct_X0_31 (d := d) (by omega)) (Nat.le_of_ble_eq_true rfl) (Nat.le_refl _) (Nat.le_of_ble_eq_true rfl) (RV_ret (fun τ g e => ?_)) RV_thr
  subst e
  refine v_aast (t := 7) (z := 20) (ci := 3) (zb := 17) DX0_init_744 (csh wcX1042 (by decide +kernel)) (by decide) (by decide) (by decide) (csh wcX1042 (by decide +kernel)) rfl rfl (Or.inr (cR wcX1042 (k := 16) (by decide +kernel))) ?_
  show VV E mX0_init (d + 1) 745 _ _ (crun cX1043 e00) _
  refine v_iinc (L' := [(1, aI (17)), (0, aO 0)]) 0 DX0_init_745 rfl (by decide) rfl ?_
  refine v_goto (pc' := 726) DX0_init_748 rfl ?_
  refine v_iload_n 0 DX0_init_726 rfl rfl ?_
  refine v_bipush DX0_init_727 (by decide) ?_
  refine v_icmp_ge (tg := 751) DX0_init_729 rfl ⟨by decide, by decide⟩ ⟨by decide, by decide⟩ (fun e => absurd e (by decide)) (fun _ => ?_)
  refine v_aload_n 1 DX0_init_732 rfl rfl ?_
  refine w_getR (ci := 0) (kf := 50) (kz := 50) DX0_init_733 (csh wcX1043 (q := (100, 104)) (by decide +kernel)) rfl (by decide) rfl (Or.inl q1090) (fun _ _ => rfl) (cR wcX1043 (k := 50) (v := some 79) (by decide +kernel)) ?_
  refine v_iload_n 0 DX0_init_736 rfl rfl ?_
  refine v_new (ci := 3) (z := 17) DX0_init_737 rfl q712 q713 q256 (cn_ok wcX1043 (by decide)) (cz_ok wcX1043 (by decide)) ?_
  rw [cnn wcX1043]
  show VV E mX0_init (d + 1) 740 _ _ (crun cX1044 e00) _
  refine v_dup DX0_init_740 rfl ?_
  refine v_invI (as := []) (b := 513) (st := [aO 513, aI (17), aO 79]) DX0_init_741 rfl okX3_init (Or.inr ⟨_, q714⟩) q715 q716 rfl npX3_init (ct_X0_32 (d := d) (by omega)) (Nat.le_of_ble_eq_true rfl) (Nat.le_refl _) (Nat.le_of_ble_eq_true rfl) (RV_ret (fun τ g e => ?_)) RV_thr
  subst e
  refine v_aast (t := 7) (z := 20) (ci := 3) (zb := 17) DX0_init_744 (csh wcX1070 (by decide +kernel)) (by decide) (by decide) (by decide) (csh wcX1070 (by decide +kernel)) rfl rfl (Or.inr (cR wcX1070 (k := 17) (by decide +kernel))) ?_
  show VV E mX0_init (d + 1) 745 _ _ (crun cX1071 e00) _
  refine v_iinc (L' := [(1, aI (18)), (0, aO 0)]) 0 DX0_init_745 rfl (by decide) rfl ?_
  refine v_goto (pc' := 726) DX0_init_748 rfl ?_
  refine v_iload_n 0 DX0_init_726 rfl rfl ?_
  refine v_bipush DX0_init_727 (by decide) ?_
  refine v_icmp_ge (tg := 751) DX0_init_729 rfl ⟨by decide, by decide⟩ ⟨by decide, by decide⟩ (fun e => absurd e (by decide)) (fun _ => ?_)
  refine v_aload_n 1 DX0_init_732 rfl rfl ?_
  refine w_getR (ci := 0) (kf := 50) (kz := 50) DX0_init_733 (csh wcX1071 (q := (100, 104)) (by decide +kernel)) rfl (by decide) rfl (Or.inl q1090) (fun _ _ => rfl) (cR wcX1071 (k := 50) (v := some 79) (by decide +kernel)) ?_
  refine v_iload_n 0 DX0_init_736 rfl rfl ?_
  refine v_new (ci := 3) (z := 17) DX0_init_737 rfl q712 q713 q256 (cn_ok wcX1071 (by decide)) (cz_ok wcX1071 (by decide)) ?_
  rw [cnn wcX1071]
  show VV E mX0_init (d + 1) 740 _ _ (crun cX1072 e00) _
  refine v_dup DX0_init_740 rfl ?_
  refine v_invI (as := []) (b := 527) (st := [aO 527, aI (18), aO 79]) DX0_init_741 rfl okX3_init (Or.inr ⟨_, q714⟩) q715 q716 rfl npX3_init (ct_X0_33 (d := d) (by omega)) (Nat.le_of_ble_eq_true rfl) (Nat.le_refl _) (Nat.le_of_ble_eq_true rfl) (RV_ret (fun τ g e => ?_)) RV_thr
  subst e
  refine v_aast (t := 7) (z := 20) (ci := 3) (zb := 17) DX0_init_744 (csh wcX1098 (by decide +kernel)) (by decide) (by decide) (by decide) (csh wcX1098 (by decide +kernel)) rfl rfl (Or.inr (cR wcX1098 (k := 18) (by decide +kernel))) ?_
  show VV E mX0_init (d + 1) 745 _ _ (crun cX1099 e00) _
  refine v_iinc (L' := [(1, aI (19)), (0, aO 0)]) 0 DX0_init_745 rfl (by decide) rfl ?_
  refine v_goto (pc' := 726) DX0_init_748 rfl ?_
  refine v_iload_n 0 DX0_init_726 rfl rfl ?_
  refine v_bipush DX0_init_727 (by decide) ?_
  refine v_icmp_ge (tg := 751) DX0_init_729 rfl ⟨by decide, by decide⟩ ⟨by decide, by decide⟩ (fun e => absurd e (by decide)) (fun _ => ?_)
  refine v_aload_n 1 DX0_init_732 rfl rfl ?_
  refine w_getR (ci := 0) (kf := 50) (kz := 50) DX0_init_733 (csh wcX1099 (q := (100, 104)) (by decide +kernel)) rfl (by decide) rfl (Or.inl q1090) (fun _ _ => rfl) (cR wcX1099 (k := 50) (v := some 79) (by decide +kernel)) ?_
  refine v_iload_n 0 DX0_init_736 rfl rfl ?_
  refine v_new (ci := 3) (z := 17) DX0_init_737 rfl q712 q713 q256 (cn_ok wcX1099 (by decide)) (cz_ok wcX1099 (by decide)) ?_
  rw [cnn wcX1099]
  show VV E mX0_init (d + 1) 740 _ _ (crun cX1100 e00) _
  refine v_dup DX0_init_740 rfl ?_
  refine v_invI (as := []) (b := 541) (st := [aO 541, aI (19), aO 79]) DX0_init_741 rfl okX3_init (Or.inr ⟨_, q714⟩) q715 q716 rfl npX3_init (ct_X0_34 (d := d) (by omega)) (Nat.le_of_ble_eq_true rfl) (Nat.le_refl _) (Nat.le_of_ble_eq_true rfl) (RV_ret (fun τ g e => ?_)) RV_thr
  subst e
  refine v_aast (t := 7) (z := 20) (ci := 3) (zb := 17) DX0_init_744 (csh wcX1126 (by decide +kernel)) (by decide) (by decide) (by decide) (csh wcX1126 (by decide +kernel)) rfl rfl (Or.inr (cR wcX1126 (k := 19) (by decide +kernel))) ?_
  show VV E mX0_init (d + 1) 745 _ _ (crun cX1127 e00) _
  refine v_iinc (L' := [(1, aI (20)), (0, aO 0)]) 0 DX0_init_745 rfl (by decide) rfl ?_
  refine v_goto (pc' := 726) DX0_init_748 rfl ?_
  refine v_iload_n 0 DX0_init_726 rfl rfl ?_
  refine v_bipush DX0_init_727 (by decide) ?_
  refine v_icmp_ge (tg := 751) DX0_init_729 rfl ⟨by decide, by decide⟩ ⟨by decide, by decide⟩ (fun _ => ?_) (fun e => absurd e (by decide))
  exact v_vret DX0_init_751 rfl (RV_mk rfl)

