/-! contracts: printed by tools/mk.py out of s98zzzp_ctX2.py -/
set_option maxRecDepth 100000
set_option maxHeartbeats 800000
/-! the constructor of SearchHouse, piece 2 -/
def cX651 : List (Nat × Nat × Nat × Nat) := (1, 79, 2, 303) :: cX650
theorem wcX651 : WF 317 1887809 cX651 := ⟨by decide, wcX650⟩
def cX652 : List (Nat × Nat × Nat × Nat) := (0, 103, 17, 317) :: cX651
theorem wcX652 : WF 318 1887826 cX652 := ⟨rfl, by decide, wcX651⟩
def cX653 : List (Nat × Nat × Nat × Nat) := (0, 1, 400, 318) :: cX652
theorem wcX653 : WF 319 1888226 cX653 := ⟨rfl, by decide, wcX652⟩
def cX654 : List (Nat × Nat × Nat × Nat) := (1, 317, 0, 318) :: cX653
theorem wcX654 : WF 319 1888226 cX654 := ⟨by decide, wcX653⟩
def cX655 : List (Nat × Nat × Nat × Nat) := (0, 0, 200, 319) :: cX654
theorem wcX655 : WF 320 1888426 cX655 := ⟨rfl, by decide, wcX654⟩
def cX656 : List (Nat × Nat × Nat × Nat) := (1, 317, 5, 319) :: cX655
theorem wcX656 : WF 320 1888426 cX656 := ⟨by decide, wcX655⟩
def cX657 : List (Nat × Nat × Nat × Nat) := (0, 0, 200, 320) :: cX656
theorem wcX657 : WF 321 1888626 cX657 := ⟨rfl, by decide, wcX656⟩
def cX658 : List (Nat × Nat × Nat × Nat) := (1, 317, 6, 320) :: cX657
theorem wcX658 : WF 321 1888626 cX658 := ⟨by decide, wcX657⟩
def cX659 : List (Nat × Nat × Nat × Nat) := (0, 0, 200, 321) :: cX658
theorem wcX659 : WF 322 1888826 cX659 := ⟨rfl, by decide, wcX658⟩
def cX660 : List (Nat × Nat × Nat × Nat) := (1, 317, 7, 321) :: cX659
theorem wcX660 : WF 322 1888826 cX660 := ⟨by decide, wcX659⟩
def cX661 : List (Nat × Nat × Nat × Nat) := (0, 0, 200, 322) :: cX660
theorem wcX661 : WF 323 1889026 cX661 := ⟨rfl, by decide, wcX660⟩
def cX662 : List (Nat × Nat × Nat × Nat) := (1, 317, 8, 322) :: cX661
theorem wcX662 : WF 323 1889026 cX662 := ⟨by decide, wcX661⟩
def cX663 : List (Nat × Nat × Nat × Nat) := (0, 4, 200, 323) :: cX662
theorem wcX663 : WF 324 1889226 cX663 := ⟨rfl, by decide, wcX662⟩
def cX664 : List (Nat × Nat × Nat × Nat) := (1, 317, 9, 323) :: cX663
theorem wcX664 : WF 324 1889226 cX664 := ⟨by decide, wcX663⟩
def cX665 : List (Nat × Nat × Nat × Nat) := (0, 0, 200, 324) :: cX664
theorem wcX665 : WF 325 1889426 cX665 := ⟨rfl, by decide, wcX664⟩
def cX666 : List (Nat × Nat × Nat × Nat) := (1, 317, 10, 324) :: cX665
theorem wcX666 : WF 325 1889426 cX666 := ⟨by decide, wcX665⟩
def cX667 : List (Nat × Nat × Nat × Nat) := (0, 0, 200, 325) :: cX666
theorem wcX667 : WF 326 1889626 cX667 := ⟨rfl, by decide, wcX666⟩
def cX668 : List (Nat × Nat × Nat × Nat) := (1, 317, 11, 325) :: cX667
theorem wcX668 : WF 326 1889626 cX668 := ⟨by decide, wcX667⟩
def cX669 : List (Nat × Nat × Nat × Nat) := (0, 0, 200, 326) :: cX668
theorem wcX669 : WF 327 1889826 cX669 := ⟨rfl, by decide, wcX668⟩
def cX670 : List (Nat × Nat × Nat × Nat) := (1, 317, 12, 326) :: cX669
theorem wcX670 : WF 327 1889826 cX670 := ⟨by decide, wcX669⟩
def cX671 : List (Nat × Nat × Nat × Nat) := (0, 0, 200, 327) :: cX670
theorem wcX671 : WF 328 1890026 cX671 := ⟨rfl, by decide, wcX670⟩
def cX672 : List (Nat × Nat × Nat × Nat) := (1, 317, 13, 327) :: cX671
theorem wcX672 : WF 328 1890026 cX672 := ⟨by decide, wcX671⟩
def cX673 : List (Nat × Nat × Nat × Nat) := (0, 4, 200, 328) :: cX672
theorem wcX673 : WF 329 1890226 cX673 := ⟨rfl, by decide, wcX672⟩
def cX674 : List (Nat × Nat × Nat × Nat) := (1, 317, 14, 328) :: cX673
theorem wcX674 : WF 329 1890226 cX674 := ⟨by decide, wcX673⟩
def cX675 : List (Nat × Nat × Nat × Nat) := (0, 4, 200, 329) :: cX674
theorem wcX675 : WF 330 1890426 cX675 := ⟨rfl, by decide, wcX674⟩
def cX676 : List (Nat × Nat × Nat × Nat) := (1, 317, 15, 329) :: cX675
theorem wcX676 : WF 330 1890426 cX676 := ⟨by decide, wcX675⟩
def cX677 : List (Nat × Nat × Nat × Nat) := (0, 4, 200, 330) :: cX676
theorem wcX677 : WF 331 1890626 cX677 := ⟨rfl, by decide, wcX676⟩
def cX678 : List (Nat × Nat × Nat × Nat) := (1, 317, 16, 330) :: cX677
theorem wcX678 : WF 331 1890626 cX678 := ⟨by decide, wcX677⟩
theorem ct_X0_18 {E : XE} {d : Nat} (hd : 2 ≤ d) : CC E mX3_init d [aO 317] (crun cX652 e00) (RV (fun τ => τ = crun cX678 e00)) := by
  refine v_aload_n 0 DX3_init_0 rfl rfl ?_
  refine v_objInit DX3_init_1 q717 q309 q310 (by omega) (by decide) ?_
  refine v_aload_n 0 DX3_init_4 rfl rfl ?_
  refine v_sipush DX3_init_5 (by decide) ?_
  refine v_newa (t := 1) (z := 400) DX3_init_8 rfl (by decide) q336 rfl (by decide) (cn_ok wcX652 (by decide)) (cz_ok wcX652 (by decide)) ?_
  rw [cnn wcX652]
  show VV E mX3_init d 10 _ _ (crun cX653 e00) _
  refine v_putR (ci := 3) (kf := 0) (z := 17) DX3_init_10 (csh wcX653 (by decide +kernel)) rfl (by decide) (Or.inr (Or.inr ⟨rfl, rfl, rfl, q718⟩)) (fun _ _ => rfl) rfl rfl (Or.inr (cR wcX653 (by decide +kernel))) ?_
  show VV E mX3_init d 13 _ _ (crun cX654 e00) _
  refine v_aload_n 0 DX3_init_13 rfl rfl ?_
  refine v_sipush DX3_init_14 (by decide) ?_
  refine v_newa (t := 0) (z := 200) DX3_init_17 rfl (by decide) q337 rfl (by decide) (cn_ok wcX654 (by decide)) (cz_ok wcX654 (by decide)) ?_
  rw [cnn wcX654]
  show VV E mX3_init d 19 _ _ (crun cX655 e00) _
  refine v_putR (ci := 3) (kf := 5) (z := 17) DX3_init_19 (csh wcX655 (by decide +kernel)) rfl (by decide) (Or.inr (Or.inr ⟨rfl, rfl, rfl, q734⟩)) (fun _ _ => rfl) rfl rfl (Or.inr (cR wcX655 (by decide +kernel))) ?_
  show VV E mX3_init d 22 _ _ (crun cX656 e00) _
  refine v_aload_n 0 DX3_init_22 rfl rfl ?_
  refine v_sipush DX3_init_23 (by decide) ?_
  refine v_newa (t := 0) (z := 200) DX3_init_26 rfl (by decide) q337 rfl (by decide) (cn_ok wcX656 (by decide)) (cz_ok wcX656 (by decide)) ?_
  rw [cnn wcX656]
  show VV E mX3_init d 28 _ _ (crun cX657 e00) _
  refine v_putR (ci := 3) (kf := 6) (z := 17) DX3_init_28 (csh wcX657 (by decide +kernel)) rfl (by decide) (Or.inr (Or.inr ⟨rfl, rfl, rfl, q737⟩)) (fun _ _ => rfl) rfl rfl (Or.inr (cR wcX657 (by decide +kernel))) ?_
  show VV E mX3_init d 31 _ _ (crun cX658 e00) _
  refine v_aload_n 0 DX3_init_31 rfl rfl ?_
  refine v_sipush DX3_init_32 (by decide) ?_
  refine v_newa (t := 0) (z := 200) DX3_init_35 rfl (by decide) q337 rfl (by decide) (cn_ok wcX658 (by decide)) (cz_ok wcX658 (by decide)) ?_
  rw [cnn wcX658]
  show VV E mX3_init d 37 _ _ (crun cX659 e00) _
  refine v_putR (ci := 3) (kf := 7) (z := 17) DX3_init_37 (csh wcX659 (by decide +kernel)) rfl (by decide) (Or.inr (Or.inr ⟨rfl, rfl, rfl, q740⟩)) (fun _ _ => rfl) rfl rfl (Or.inr (cR wcX659 (by decide +kernel))) ?_
  show VV E mX3_init d 40 _ _ (crun cX660 e00) _
  refine v_aload_n 0 DX3_init_40 rfl rfl ?_
  refine v_sipush DX3_init_41 (by decide) ?_
  refine v_newa (t := 0) (z := 200) DX3_init_44 rfl (by decide) q337 rfl (by decide) (cn_ok wcX660 (by decide)) (cz_ok wcX660 (by decide)) ?_
  rw [cnn wcX660]
  show VV E mX3_init d 46 _ _ (crun cX661 e00) _
  refine v_putR (ci := 3) (kf := 8) (z := 17) DX3_init_46 (csh wcX661 (by decide +kernel)) rfl (by decide) (Or.inr (Or.inr ⟨rfl, rfl, rfl, q743⟩)) (fun _ _ => rfl) rfl rfl (Or.inr (cR wcX661 (by decide +kernel))) ?_
  show VV E mX3_init d 49 _ _ (crun cX662 e00) _
  refine v_aload_n 0 DX3_init_49 rfl rfl ?_
  refine v_sipush DX3_init_50 (by decide) ?_
  refine v_newa (t := 4) (z := 200) DX3_init_53 rfl (by decide) q806 rfl (by decide) (cn_ok wcX662 (by decide)) (cz_ok wcX662 (by decide)) ?_
  rw [cnn wcX662]
  show VV E mX3_init d 55 _ _ (crun cX663 e00) _
  refine v_putR (ci := 3) (kf := 9) (z := 17) DX3_init_55 (csh wcX663 (by decide +kernel)) rfl (by decide) (Or.inr (Or.inr ⟨rfl, rfl, rfl, q746⟩)) (fun _ _ => rfl) rfl rfl (Or.inr (cR wcX663 (by decide +kernel))) ?_
  show VV E mX3_init d 58 _ _ (crun cX664 e00) _
  refine v_aload_n 0 DX3_init_58 rfl rfl ?_
  refine v_sipush DX3_init_59 (by decide) ?_
  refine v_newa (t := 0) (z := 200) DX3_init_62 rfl (by decide) q337 rfl (by decide) (cn_ok wcX664 (by decide)) (cz_ok wcX664 (by decide)) ?_
  rw [cnn wcX664]
  show VV E mX3_init d 64 _ _ (crun cX665 e00) _
  refine v_putR (ci := 3) (kf := 10) (z := 17) DX3_init_64 (csh wcX665 (by decide +kernel)) rfl (by decide) (Or.inr (Or.inr ⟨rfl, rfl, rfl, q749⟩)) (fun _ _ => rfl) rfl rfl (Or.inr (cR wcX665 (by decide +kernel))) ?_
  show VV E mX3_init d 67 _ _ (crun cX666 e00) _
  refine v_aload_n 0 DX3_init_67 rfl rfl ?_
  refine v_sipush DX3_init_68 (by decide) ?_
  refine v_newa (t := 0) (z := 200) DX3_init_71 rfl (by decide) q337 rfl (by decide) (cn_ok wcX666 (by decide)) (cz_ok wcX666 (by decide)) ?_
  rw [cnn wcX666]
  show VV E mX3_init d 73 _ _ (crun cX667 e00) _
  refine v_putR (ci := 3) (kf := 11) (z := 17) DX3_init_73 (csh wcX667 (by decide +kernel)) rfl (by decide) (Or.inr (Or.inr ⟨rfl, rfl, rfl, q752⟩)) (fun _ _ => rfl) rfl rfl (Or.inr (cR wcX667 (by decide +kernel))) ?_
  show VV E mX3_init d 76 _ _ (crun cX668 e00) _
  refine v_aload_n 0 DX3_init_76 rfl rfl ?_
  refine v_sipush DX3_init_77 (by decide) ?_
  refine v_newa (t := 0) (z := 200) DX3_init_80 rfl (by decide) q337 rfl (by decide) (cn_ok wcX668 (by decide)) (cz_ok wcX668 (by decide)) ?_
  rw [cnn wcX668]
  show VV E mX3_init d 82 _ _ (crun cX669 e00) _
  refine v_putR (ci := 3) (kf := 12) (z := 17) DX3_init_82 (csh wcX669 (by decide +kernel)) rfl (by decide) (Or.inr (Or.inr ⟨rfl, rfl, rfl, q755⟩)) (fun _ _ => rfl) rfl rfl (Or.inr (cR wcX669 (by decide +kernel))) ?_
  show VV E mX3_init d 85 _ _ (crun cX670 e00) _
  refine v_aload_n 0 DX3_init_85 rfl rfl ?_
  refine v_sipush DX3_init_86 (by decide) ?_
  refine v_newa (t := 0) (z := 200) DX3_init_89 rfl (by decide) q337 rfl (by decide) (cn_ok wcX670 (by decide)) (cz_ok wcX670 (by decide)) ?_
  rw [cnn wcX670]
  show VV E mX3_init d 91 _ _ (crun cX671 e00) _
  refine v_putR (ci := 3) (kf := 13) (z := 17) DX3_init_91 (csh wcX671 (by decide +kernel)) rfl (by decide) (Or.inr (Or.inr ⟨rfl, rfl, rfl, q758⟩)) (fun _ _ => rfl) rfl rfl (Or.inr (cR wcX671 (by decide +kernel))) ?_
  show VV E mX3_init d 94 _ _ (crun cX672 e00) _
  refine v_aload_n 0 DX3_init_94 rfl rfl ?_
  refine v_sipush DX3_init_95 (by decide) ?_
  refine v_newa (t := 4) (z := 200) DX3_init_98 rfl (by decide) q806 rfl (by decide) (cn_ok wcX672 (by decide)) (cz_ok wcX672 (by decide)) ?_
  rw [cnn wcX672]
  show VV E mX3_init d 100 _ _ (crun cX673 e00) _
  refine v_putR (ci := 3) (kf := 14) (z := 17) DX3_init_100 (csh wcX673 (by decide +kernel)) rfl (by decide) (Or.inr (Or.inr ⟨rfl, rfl, rfl, q761⟩)) (fun _ _ => rfl) rfl rfl (Or.inr (cR wcX673 (by decide +kernel))) ?_
  show VV E mX3_init d 103 _ _ (crun cX674 e00) _
  refine v_aload_n 0 DX3_init_103 rfl rfl ?_
  refine v_sipush DX3_init_104 (by decide) ?_
  refine v_newa (t := 4) (z := 200) DX3_init_107 rfl (by decide) q806 rfl (by decide) (cn_ok wcX674 (by decide)) (cz_ok wcX674 (by decide)) ?_
  rw [cnn wcX674]
  show VV E mX3_init d 109 _ _ (crun cX675 e00) _
  refine v_putR (ci := 3) (kf := 15) (z := 17) DX3_init_109 (csh wcX675 (by decide +kernel)) rfl (by decide) (Or.inr (Or.inr ⟨rfl, rfl, rfl, q764⟩)) (fun _ _ => rfl) rfl rfl (Or.inr (cR wcX675 (by decide +kernel))) ?_
  show VV E mX3_init d 112 _ _ (crun cX676 e00) _
  refine v_aload_n 0 DX3_init_112 rfl rfl ?_
  refine v_sipush DX3_init_113 (by decide) ?_
  refine v_newa (t := 4) (z := 200) DX3_init_116 rfl (by decide) q806 rfl (by decide) (cn_ok wcX676 (by decide)) (cz_ok wcX676 (by decide)) ?_
  rw [cnn wcX676]
  show VV E mX3_init d 118 _ _ (crun cX677 e00) _
  refine v_putR (ci := 3) (kf := 16) (z := 17) DX3_init_118 (csh wcX677 (by decide +kernel)) rfl (by decide) (Or.inr (Or.inr ⟨rfl, rfl, rfl, q767⟩)) (fun _ _ => rfl) rfl rfl (Or.inr (cR wcX677 (by decide +kernel))) ?_
  show VV E mX3_init d 121 _ _ (crun cX678 e00) _
  exact v_vret DX3_init_121 rfl (RV_mk rfl)
def cX679 : List (Nat × Nat × Nat × Nat) := (1, 79, 3, 317) :: cX678
theorem wcX679 : WF 331 1890626 cX679 := ⟨by decide, wcX678⟩
def cX680 : List (Nat × Nat × Nat × Nat) := (0, 103, 17, 331) :: cX679
theorem wcX680 : WF 332 1890643 cX680 := ⟨rfl, by decide, wcX679⟩
def cX681 : List (Nat × Nat × Nat × Nat) := (0, 1, 400, 332) :: cX680
theorem wcX681 : WF 333 1891043 cX681 := ⟨rfl, by decide, wcX680⟩
def cX682 : List (Nat × Nat × Nat × Nat) := (1, 331, 0, 332) :: cX681
theorem wcX682 : WF 333 1891043 cX682 := ⟨by decide, wcX681⟩
def cX683 : List (Nat × Nat × Nat × Nat) := (0, 0, 200, 333) :: cX682
theorem wcX683 : WF 334 1891243 cX683 := ⟨rfl, by decide, wcX682⟩
def cX684 : List (Nat × Nat × Nat × Nat) := (1, 331, 5, 333) :: cX683
theorem wcX684 : WF 334 1891243 cX684 := ⟨by decide, wcX683⟩
def cX685 : List (Nat × Nat × Nat × Nat) := (0, 0, 200, 334) :: cX684
theorem wcX685 : WF 335 1891443 cX685 := ⟨rfl, by decide, wcX684⟩
def cX686 : List (Nat × Nat × Nat × Nat) := (1, 331, 6, 334) :: cX685
theorem wcX686 : WF 335 1891443 cX686 := ⟨by decide, wcX685⟩
def cX687 : List (Nat × Nat × Nat × Nat) := (0, 0, 200, 335) :: cX686
theorem wcX687 : WF 336 1891643 cX687 := ⟨rfl, by decide, wcX686⟩
def cX688 : List (Nat × Nat × Nat × Nat) := (1, 331, 7, 335) :: cX687
theorem wcX688 : WF 336 1891643 cX688 := ⟨by decide, wcX687⟩
def cX689 : List (Nat × Nat × Nat × Nat) := (0, 0, 200, 336) :: cX688
theorem wcX689 : WF 337 1891843 cX689 := ⟨rfl, by decide, wcX688⟩
def cX690 : List (Nat × Nat × Nat × Nat) := (1, 331, 8, 336) :: cX689
theorem wcX690 : WF 337 1891843 cX690 := ⟨by decide, wcX689⟩
def cX691 : List (Nat × Nat × Nat × Nat) := (0, 4, 200, 337) :: cX690
theorem wcX691 : WF 338 1892043 cX691 := ⟨rfl, by decide, wcX690⟩
def cX692 : List (Nat × Nat × Nat × Nat) := (1, 331, 9, 337) :: cX691
theorem wcX692 : WF 338 1892043 cX692 := ⟨by decide, wcX691⟩
def cX693 : List (Nat × Nat × Nat × Nat) := (0, 0, 200, 338) :: cX692
theorem wcX693 : WF 339 1892243 cX693 := ⟨rfl, by decide, wcX692⟩
def cX694 : List (Nat × Nat × Nat × Nat) := (1, 331, 10, 338) :: cX693
theorem wcX694 : WF 339 1892243 cX694 := ⟨by decide, wcX693⟩
def cX695 : List (Nat × Nat × Nat × Nat) := (0, 0, 200, 339) :: cX694
theorem wcX695 : WF 340 1892443 cX695 := ⟨rfl, by decide, wcX694⟩
def cX696 : List (Nat × Nat × Nat × Nat) := (1, 331, 11, 339) :: cX695
theorem wcX696 : WF 340 1892443 cX696 := ⟨by decide, wcX695⟩
def cX697 : List (Nat × Nat × Nat × Nat) := (0, 0, 200, 340) :: cX696
theorem wcX697 : WF 341 1892643 cX697 := ⟨rfl, by decide, wcX696⟩
def cX698 : List (Nat × Nat × Nat × Nat) := (1, 331, 12, 340) :: cX697
theorem wcX698 : WF 341 1892643 cX698 := ⟨by decide, wcX697⟩
def cX699 : List (Nat × Nat × Nat × Nat) := (0, 0, 200, 341) :: cX698
theorem wcX699 : WF 342 1892843 cX699 := ⟨rfl, by decide, wcX698⟩
def cX700 : List (Nat × Nat × Nat × Nat) := (1, 331, 13, 341) :: cX699
theorem wcX700 : WF 342 1892843 cX700 := ⟨by decide, wcX699⟩
def cX701 : List (Nat × Nat × Nat × Nat) := (0, 4, 200, 342) :: cX700
theorem wcX701 : WF 343 1893043 cX701 := ⟨rfl, by decide, wcX700⟩
def cX702 : List (Nat × Nat × Nat × Nat) := (1, 331, 14, 342) :: cX701
theorem wcX702 : WF 343 1893043 cX702 := ⟨by decide, wcX701⟩
def cX703 : List (Nat × Nat × Nat × Nat) := (0, 4, 200, 343) :: cX702
theorem wcX703 : WF 344 1893243 cX703 := ⟨rfl, by decide, wcX702⟩
def cX704 : List (Nat × Nat × Nat × Nat) := (1, 331, 15, 343) :: cX703
theorem wcX704 : WF 344 1893243 cX704 := ⟨by decide, wcX703⟩
def cX705 : List (Nat × Nat × Nat × Nat) := (0, 4, 200, 344) :: cX704
theorem wcX705 : WF 345 1893443 cX705 := ⟨rfl, by decide, wcX704⟩
def cX706 : List (Nat × Nat × Nat × Nat) := (1, 331, 16, 344) :: cX705
theorem wcX706 : WF 345 1893443 cX706 := ⟨by decide, wcX705⟩
theorem ct_X0_19 {E : XE} {d : Nat} (hd : 2 ≤ d) : CC E mX3_init d [aO 331] (crun cX680 e00) (RV (fun τ => τ = crun cX706 e00)) := by
  refine v_aload_n 0 DX3_init_0 rfl rfl ?_
  refine v_objInit DX3_init_1 q717 q309 q310 (by omega) (by decide) ?_
  refine v_aload_n 0 DX3_init_4 rfl rfl ?_
  refine v_sipush DX3_init_5 (by decide) ?_
  refine v_newa (t := 1) (z := 400) DX3_init_8 rfl (by decide) q336 rfl (by decide) (cn_ok wcX680 (by decide)) (cz_ok wcX680 (by decide)) ?_
  rw [cnn wcX680]
  show VV E mX3_init d 10 _ _ (crun cX681 e00) _
  refine v_putR (ci := 3) (kf := 0) (z := 17) DX3_init_10 (csh wcX681 (by decide +kernel)) rfl (by decide) (Or.inr (Or.inr ⟨rfl, rfl, rfl, q718⟩)) (fun _ _ => rfl) rfl rfl (Or.inr (cR wcX681 (by decide +kernel))) ?_
  show VV E mX3_init d 13 _ _ (crun cX682 e00) _
  refine v_aload_n 0 DX3_init_13 rfl rfl ?_
  refine v_sipush DX3_init_14 (by decide) ?_
  refine v_newa (t := 0) (z := 200) DX3_init_17 rfl (by decide) q337 rfl (by decide) (cn_ok wcX682 (by decide)) (cz_ok wcX682 (by decide)) ?_
  rw [cnn wcX682]
  show VV E mX3_init d 19 _ _ (crun cX683 e00) _
  refine v_putR (ci := 3) (kf := 5) (z := 17) DX3_init_19 (csh wcX683 (by decide +kernel)) rfl (by decide) (Or.inr (Or.inr ⟨rfl, rfl, rfl, q734⟩)) (fun _ _ => rfl) rfl rfl (Or.inr (cR wcX683 (by decide +kernel))) ?_
  show VV E mX3_init d 22 _ _ (crun cX684 e00) _
  refine v_aload_n 0 DX3_init_22 rfl rfl ?_
  refine v_sipush DX3_init_23 (by decide) ?_
  refine v_newa (t := 0) (z := 200) DX3_init_26 rfl (by decide) q337 rfl (by decide) (cn_ok wcX684 (by decide)) (cz_ok wcX684 (by decide)) ?_
  rw [cnn wcX684]
  show VV E mX3_init d 28 _ _ (crun cX685 e00) _
  refine v_putR (ci := 3) (kf := 6) (z := 17) DX3_init_28 (csh wcX685 (by decide +kernel)) rfl (by decide) (Or.inr (Or.inr ⟨rfl, rfl, rfl, q737⟩)) (fun _ _ => rfl) rfl rfl (Or.inr (cR wcX685 (by decide +kernel))) ?_
  show VV E mX3_init d 31 _ _ (crun cX686 e00) _
  refine v_aload_n 0 DX3_init_31 rfl rfl ?_
  refine v_sipush DX3_init_32 (by decide) ?_
  refine v_newa (t := 0) (z := 200) DX3_init_35 rfl (by decide) q337 rfl (by decide) (cn_ok wcX686 (by decide)) (cz_ok wcX686 (by decide)) ?_
  rw [cnn wcX686]
  show VV E mX3_init d 37 _ _ (crun cX687 e00) _
  refine v_putR (ci := 3) (kf := 7) (z := 17) DX3_init_37 (csh wcX687 (by decide +kernel)) rfl (by decide) (Or.inr (Or.inr ⟨rfl, rfl, rfl, q740⟩)) (fun _ _ => rfl) rfl rfl (Or.inr (cR wcX687 (by decide +kernel))) ?_
  show VV E mX3_init d 40 _ _ (crun cX688 e00) _
  refine v_aload_n 0 DX3_init_40 rfl rfl ?_
  refine v_sipush DX3_init_41 (by decide) ?_
  refine v_newa (t := 0) (z := 200) DX3_init_44 rfl (by decide) q337 rfl (by decide) (cn_ok wcX688 (by decide)) (cz_ok wcX688 (by decide)) ?_
  rw [cnn wcX688]
  show VV E mX3_init d 46 _ _ (crun cX689 e00) _
  refine v_putR (ci := 3) (kf := 8) (z := 17) DX3_init_46 (csh wcX689 (by decide +kernel)) rfl (by decide) (Or.inr (Or.inr ⟨rfl, rfl, rfl, q743⟩)) (fun _ _ => rfl) rfl rfl (Or.inr (cR wcX689 (by decide +kernel))) ?_
  show VV E mX3_init d 49 _ _ (crun cX690 e00) _
  refine v_aload_n 0 DX3_init_49 rfl rfl ?_
  refine v_sipush DX3_init_50 (by decide) ?_
  refine v_newa (t := 4) (z := 200) DX3_init_53 rfl (by decide) q806 rfl (by decide) (cn_ok wcX690 (by decide)) (cz_ok wcX690 (by decide)) ?_
  rw [cnn wcX690]
  show VV E mX3_init d 55 _ _ (crun cX691 e00) _
  refine v_putR (ci := 3) (kf := 9) (z := 17) DX3_init_55 (csh wcX691 (by decide +kernel)) rfl (by decide) (Or.inr (Or.inr ⟨rfl, rfl, rfl, q746⟩)) (fun _ _ => rfl) rfl rfl (Or.inr (cR wcX691 (by decide +kernel))) ?_
  show VV E mX3_init d 58 _ _ (crun cX692 e00) _
  refine v_aload_n 0 DX3_init_58 rfl rfl ?_
  refine v_sipush DX3_init_59 (by decide) ?_
  refine v_newa (t := 0) (z := 200) DX3_init_62 rfl (by decide) q337 rfl (by decide) (cn_ok wcX692 (by decide)) (cz_ok wcX692 (by decide)) ?_
  rw [cnn wcX692]
  show VV E mX3_init d 64 _ _ (crun cX693 e00) _
  refine v_putR (ci := 3) (kf := 10) (z := 17) DX3_init_64 (csh wcX693 (by decide +kernel)) rfl (by decide) (Or.inr (Or.inr ⟨rfl, rfl, rfl, q749⟩)) (fun _ _ => rfl) rfl rfl (Or.inr (cR wcX693 (by decide +kernel))) ?_
  show VV E mX3_init d 67 _ _ (crun cX694 e00) _
  refine v_aload_n 0 DX3_init_67 rfl rfl ?_
  refine v_sipush DX3_init_68 (by decide) ?_
  refine v_newa (t := 0) (z := 200) DX3_init_71 rfl (by decide) q337 rfl (by decide) (cn_ok wcX694 (by decide)) (cz_ok wcX694 (by decide)) ?_
  rw [cnn wcX694]
  show VV E mX3_init d 73 _ _ (crun cX695 e00) _
  refine v_putR (ci := 3) (kf := 11) (z := 17) DX3_init_73 (csh wcX695 (by decide +kernel)) rfl (by decide) (Or.inr (Or.inr ⟨rfl, rfl, rfl, q752⟩)) (fun _ _ => rfl) rfl rfl (Or.inr (cR wcX695 (by decide +kernel))) ?_
  show VV E mX3_init d 76 _ _ (crun cX696 e00) _
  refine v_aload_n 0 DX3_init_76 rfl rfl ?_
  refine v_sipush DX3_init_77 (by decide) ?_
  refine v_newa (t := 0) (z := 200) DX3_init_80 rfl (by decide) q337 rfl (by decide) (cn_ok wcX696 (by decide)) (cz_ok wcX696 (by decide)) ?_
  rw [cnn wcX696]
  show VV E mX3_init d 82 _ _ (crun cX697 e00) _
  refine v_putR (ci := 3) (kf := 12) (z := 17) DX3_init_82 (csh wcX697 (by decide +kernel)) rfl (by decide) (Or.inr (Or.inr ⟨rfl, rfl, rfl, q755⟩)) (fun _ _ => rfl) rfl rfl (Or.inr (cR wcX697 (by decide +kernel))) ?_
  show VV E mX3_init d 85 _ _ (crun cX698 e00) _
  refine v_aload_n 0 DX3_init_85 rfl rfl ?_
  refine v_sipush DX3_init_86 (by decide) ?_
  refine v_newa (t := 0) (z := 200) DX3_init_89 rfl (by decide) q337 rfl (by decide) (cn_ok wcX698 (by decide)) (cz_ok wcX698 (by decide)) ?_
  rw [cnn wcX698]
  show VV E mX3_init d 91 _ _ (crun cX699 e00) _
  refine v_putR (ci := 3) (kf := 13) (z := 17) DX3_init_91 (csh wcX699 (by decide +kernel)) rfl (by decide) (Or.inr (Or.inr ⟨rfl, rfl, rfl, q758⟩)) (fun _ _ => rfl) rfl rfl (Or.inr (cR wcX699 (by decide +kernel))) ?_
  show VV E mX3_init d 94 _ _ (crun cX700 e00) _
  refine v_aload_n 0 DX3_init_94 rfl rfl ?_
  refine v_sipush DX3_init_95 (by decide) ?_
  refine v_newa (t := 4) (z := 200) DX3_init_98 rfl (by decide) q806 rfl (by decide) (cn_ok wcX700 (by decide)) (cz_ok wcX700 (by decide)) ?_
  rw [cnn wcX700]
  show VV E mX3_init d 100 _ _ (crun cX701 e00) _
  refine v_putR (ci := 3) (kf := 14) (z := 17) DX3_init_100 (csh wcX701 (by decide +kernel)) rfl (by decide) (Or.inr (Or.inr ⟨rfl, rfl, rfl, q761⟩)) (fun _ _ => rfl) rfl rfl (Or.inr (cR wcX701 (by decide +kernel))) ?_
  show VV E mX3_init d 103 _ _ (crun cX702 e00) _
  refine v_aload_n 0 DX3_init_103 rfl rfl ?_
  refine v_sipush DX3_init_104 (by decide) ?_
  refine v_newa (t := 4) (z := 200) DX3_init_107 rfl (by decide) q806 rfl (by decide) (cn_ok wcX702 (by decide)) (cz_ok wcX702 (by decide)) ?_
  rw [cnn wcX702]
  show VV E mX3_init d 109 _ _ (crun cX703 e00) _
  refine v_putR (ci := 3) (kf := 15) (z := 17) DX3_init_109 (csh wcX703 (by decide +kernel)) rfl (by decide) (Or.inr (Or.inr ⟨rfl, rfl, rfl, q764⟩)) (fun _ _ => rfl) rfl rfl (Or.inr (cR wcX703 (by decide +kernel))) ?_
  show VV E mX3_init d 112 _ _ (crun cX704 e00) _
  refine v_aload_n 0 DX3_init_112 rfl rfl ?_
  refine v_sipush DX3_init_113 (by decide) ?_
  refine v_newa (t := 4) (z := 200) DX3_init_116 rfl (by decide) q806 rfl (by decide) (cn_ok wcX704 (by decide)) (cz_ok wcX704 (by decide)) ?_
  rw [cnn wcX704]
  show VV E mX3_init d 118 _ _ (crun cX705 e00) _
  refine v_putR (ci := 3) (kf := 16) (z := 17) DX3_init_118 (csh wcX705 (by decide +kernel)) rfl (by decide) (Or.inr (Or.inr ⟨rfl, rfl, rfl, q767⟩)) (fun _ _ => rfl) rfl rfl (Or.inr (cR wcX705 (by decide +kernel))) ?_
  show VV E mX3_init d 121 _ _ (crun cX706 e00) _
  exact v_vret DX3_init_121 rfl (RV_mk rfl)
def cX707 : List (Nat × Nat × Nat × Nat) := (1, 79, 4, 331) :: cX706
theorem wcX707 : WF 345 1893443 cX707 := ⟨by decide, wcX706⟩
def cX708 : List (Nat × Nat × Nat × Nat) := (0, 103, 17, 345) :: cX707
theorem wcX708 : WF 346 1893460 cX708 := ⟨rfl, by decide, wcX707⟩
def cX709 : List (Nat × Nat × Nat × Nat) := (0, 1, 400, 346) :: cX708
theorem wcX709 : WF 347 1893860 cX709 := ⟨rfl, by decide, wcX708⟩
def cX710 : List (Nat × Nat × Nat × Nat) := (1, 345, 0, 346) :: cX709
theorem wcX710 : WF 347 1893860 cX710 := ⟨by decide, wcX709⟩
def cX711 : List (Nat × Nat × Nat × Nat) := (0, 0, 200, 347) :: cX710
theorem wcX711 : WF 348 1894060 cX711 := ⟨rfl, by decide, wcX710⟩
def cX712 : List (Nat × Nat × Nat × Nat) := (1, 345, 5, 347) :: cX711
theorem wcX712 : WF 348 1894060 cX712 := ⟨by decide, wcX711⟩
def cX713 : List (Nat × Nat × Nat × Nat) := (0, 0, 200, 348) :: cX712
theorem wcX713 : WF 349 1894260 cX713 := ⟨rfl, by decide, wcX712⟩
def cX714 : List (Nat × Nat × Nat × Nat) := (1, 345, 6, 348) :: cX713
theorem wcX714 : WF 349 1894260 cX714 := ⟨by decide, wcX713⟩
def cX715 : List (Nat × Nat × Nat × Nat) := (0, 0, 200, 349) :: cX714
theorem wcX715 : WF 350 1894460 cX715 := ⟨rfl, by decide, wcX714⟩
def cX716 : List (Nat × Nat × Nat × Nat) := (1, 345, 7, 349) :: cX715
theorem wcX716 : WF 350 1894460 cX716 := ⟨by decide, wcX715⟩
def cX717 : List (Nat × Nat × Nat × Nat) := (0, 0, 200, 350) :: cX716
theorem wcX717 : WF 351 1894660 cX717 := ⟨rfl, by decide, wcX716⟩
def cX718 : List (Nat × Nat × Nat × Nat) := (1, 345, 8, 350) :: cX717
theorem wcX718 : WF 351 1894660 cX718 := ⟨by decide, wcX717⟩
def cX719 : List (Nat × Nat × Nat × Nat) := (0, 4, 200, 351) :: cX718
theorem wcX719 : WF 352 1894860 cX719 := ⟨rfl, by decide, wcX718⟩
def cX720 : List (Nat × Nat × Nat × Nat) := (1, 345, 9, 351) :: cX719
theorem wcX720 : WF 352 1894860 cX720 := ⟨by decide, wcX719⟩
def cX721 : List (Nat × Nat × Nat × Nat) := (0, 0, 200, 352) :: cX720
theorem wcX721 : WF 353 1895060 cX721 := ⟨rfl, by decide, wcX720⟩
def cX722 : List (Nat × Nat × Nat × Nat) := (1, 345, 10, 352) :: cX721
theorem wcX722 : WF 353 1895060 cX722 := ⟨by decide, wcX721⟩
def cX723 : List (Nat × Nat × Nat × Nat) := (0, 0, 200, 353) :: cX722
theorem wcX723 : WF 354 1895260 cX723 := ⟨rfl, by decide, wcX722⟩
def cX724 : List (Nat × Nat × Nat × Nat) := (1, 345, 11, 353) :: cX723
theorem wcX724 : WF 354 1895260 cX724 := ⟨by decide, wcX723⟩
def cX725 : List (Nat × Nat × Nat × Nat) := (0, 0, 200, 354) :: cX724
theorem wcX725 : WF 355 1895460 cX725 := ⟨rfl, by decide, wcX724⟩
def cX726 : List (Nat × Nat × Nat × Nat) := (1, 345, 12, 354) :: cX725
theorem wcX726 : WF 355 1895460 cX726 := ⟨by decide, wcX725⟩
def cX727 : List (Nat × Nat × Nat × Nat) := (0, 0, 200, 355) :: cX726
theorem wcX727 : WF 356 1895660 cX727 := ⟨rfl, by decide, wcX726⟩
def cX728 : List (Nat × Nat × Nat × Nat) := (1, 345, 13, 355) :: cX727
theorem wcX728 : WF 356 1895660 cX728 := ⟨by decide, wcX727⟩
def cX729 : List (Nat × Nat × Nat × Nat) := (0, 4, 200, 356) :: cX728
theorem wcX729 : WF 357 1895860 cX729 := ⟨rfl, by decide, wcX728⟩
def cX730 : List (Nat × Nat × Nat × Nat) := (1, 345, 14, 356) :: cX729
theorem wcX730 : WF 357 1895860 cX730 := ⟨by decide, wcX729⟩
def cX731 : List (Nat × Nat × Nat × Nat) := (0, 4, 200, 357) :: cX730
theorem wcX731 : WF 358 1896060 cX731 := ⟨rfl, by decide, wcX730⟩
def cX732 : List (Nat × Nat × Nat × Nat) := (1, 345, 15, 357) :: cX731
theorem wcX732 : WF 358 1896060 cX732 := ⟨by decide, wcX731⟩
def cX733 : List (Nat × Nat × Nat × Nat) := (0, 4, 200, 358) :: cX732
theorem wcX733 : WF 359 1896260 cX733 := ⟨rfl, by decide, wcX732⟩
def cX734 : List (Nat × Nat × Nat × Nat) := (1, 345, 16, 358) :: cX733
theorem wcX734 : WF 359 1896260 cX734 := ⟨by decide, wcX733⟩
theorem ct_X0_20 {E : XE} {d : Nat} (hd : 2 ≤ d) : CC E mX3_init d [aO 345] (crun cX708 e00) (RV (fun τ => τ = crun cX734 e00)) := by
  refine v_aload_n 0 DX3_init_0 rfl rfl ?_
  refine v_objInit DX3_init_1 q717 q309 q310 (by omega) (by decide) ?_
  refine v_aload_n 0 DX3_init_4 rfl rfl ?_
  refine v_sipush DX3_init_5 (by decide) ?_
  refine v_newa (t := 1) (z := 400) DX3_init_8 rfl (by decide) q336 rfl (by decide) (cn_ok wcX708 (by decide)) (cz_ok wcX708 (by decide)) ?_
  rw [cnn wcX708]
  show VV E mX3_init d 10 _ _ (crun cX709 e00) _
  refine v_putR (ci := 3) (kf := 0) (z := 17) DX3_init_10 (csh wcX709 (by decide +kernel)) rfl (by decide) (Or.inr (Or.inr ⟨rfl, rfl, rfl, q718⟩)) (fun _ _ => rfl) rfl rfl (Or.inr (cR wcX709 (by decide +kernel))) ?_
  show VV E mX3_init d 13 _ _ (crun cX710 e00) _
  refine v_aload_n 0 DX3_init_13 rfl rfl ?_
  refine v_sipush DX3_init_14 (by decide) ?_
  refine v_newa (t := 0) (z := 200) DX3_init_17 rfl (by decide) q337 rfl (by decide) (cn_ok wcX710 (by decide)) (cz_ok wcX710 (by decide)) ?_
  rw [cnn wcX710]
  show VV E mX3_init d 19 _ _ (crun cX711 e00) _
  refine v_putR (ci := 3) (kf := 5) (z := 17) DX3_init_19 (csh wcX711 (by decide +kernel)) rfl (by decide) (Or.inr (Or.inr ⟨rfl, rfl, rfl, q734⟩)) (fun _ _ => rfl) rfl rfl (Or.inr (cR wcX711 (by decide +kernel))) ?_
  show VV E mX3_init d 22 _ _ (crun cX712 e00) _
  refine v_aload_n 0 DX3_init_22 rfl rfl ?_
  refine v_sipush DX3_init_23 (by decide) ?_
  refine v_newa (t := 0) (z := 200) DX3_init_26 rfl (by decide) q337 rfl (by decide) (cn_ok wcX712 (by decide)) (cz_ok wcX712 (by decide)) ?_
  rw [cnn wcX712]
  show VV E mX3_init d 28 _ _ (crun cX713 e00) _
  refine v_putR (ci := 3) (kf := 6) (z := 17) DX3_init_28 (csh wcX713 (by decide +kernel)) rfl (by decide) (Or.inr (Or.inr ⟨rfl, rfl, rfl, q737⟩)) (fun _ _ => rfl) rfl rfl (Or.inr (cR wcX713 (by decide +kernel))) ?_
  show VV E mX3_init d 31 _ _ (crun cX714 e00) _
  refine v_aload_n 0 DX3_init_31 rfl rfl ?_
  refine v_sipush DX3_init_32 (by decide) ?_
  refine v_newa (t := 0) (z := 200) DX3_init_35 rfl (by decide) q337 rfl (by decide) (cn_ok wcX714 (by decide)) (cz_ok wcX714 (by decide)) ?_
  rw [cnn wcX714]
  show VV E mX3_init d 37 _ _ (crun cX715 e00) _
  refine v_putR (ci := 3) (kf := 7) (z := 17) DX3_init_37 (csh wcX715 (by decide +kernel)) rfl (by decide) (Or.inr (Or.inr ⟨rfl, rfl, rfl, q740⟩)) (fun _ _ => rfl) rfl rfl (Or.inr (cR wcX715 (by decide +kernel))) ?_
  show VV E mX3_init d 40 _ _ (crun cX716 e00) _
  refine v_aload_n 0 DX3_init_40 rfl rfl ?_
  refine v_sipush DX3_init_41 (by decide) ?_
  refine v_newa (t := 0) (z := 200) DX3_init_44 rfl (by decide) q337 rfl (by decide) (cn_ok wcX716 (by decide)) (cz_ok wcX716 (by decide)) ?_
  rw [cnn wcX716]
  show VV E mX3_init d 46 _ _ (crun cX717 e00) _
  refine v_putR (ci := 3) (kf := 8) (z := 17) DX3_init_46 (csh wcX717 (by decide +kernel)) rfl (by decide) (Or.inr (Or.inr ⟨rfl, rfl, rfl, q743⟩)) (fun _ _ => rfl) rfl rfl (Or.inr (cR wcX717 (by decide +kernel))) ?_
  show VV E mX3_init d 49 _ _ (crun cX718 e00) _
  refine v_aload_n 0 DX3_init_49 rfl rfl ?_
  refine v_sipush DX3_init_50 (by decide) ?_
  refine v_newa (t := 4) (z := 200) DX3_init_53 rfl (by decide) q806 rfl (by decide) (cn_ok wcX718 (by decide)) (cz_ok wcX718 (by decide)) ?_
  rw [cnn wcX718]
  show VV E mX3_init d 55 _ _ (crun cX719 e00) _
  refine v_putR (ci := 3) (kf := 9) (z := 17) DX3_init_55 (csh wcX719 (by decide +kernel)) rfl (by decide) (Or.inr (Or.inr ⟨rfl, rfl, rfl, q746⟩)) (fun _ _ => rfl) rfl rfl (Or.inr (cR wcX719 (by decide +kernel))) ?_
  show VV E mX3_init d 58 _ _ (crun cX720 e00) _
  refine v_aload_n 0 DX3_init_58 rfl rfl ?_
  refine v_sipush DX3_init_59 (by decide) ?_
  refine v_newa (t := 0) (z := 200) DX3_init_62 rfl (by decide) q337 rfl (by decide) (cn_ok wcX720 (by decide)) (cz_ok wcX720 (by decide)) ?_
  rw [cnn wcX720]
  show VV E mX3_init d 64 _ _ (crun cX721 e00) _
  refine v_putR (ci := 3) (kf := 10) (z := 17) DX3_init_64 (csh wcX721 (by decide +kernel)) rfl (by decide) (Or.inr (Or.inr ⟨rfl, rfl, rfl, q749⟩)) (fun _ _ => rfl) rfl rfl (Or.inr (cR wcX721 (by decide +kernel))) ?_
  show VV E mX3_init d 67 _ _ (crun cX722 e00) _
  refine v_aload_n 0 DX3_init_67 rfl rfl ?_
  refine v_sipush DX3_init_68 (by decide) ?_
  refine v_newa (t := 0) (z := 200) DX3_init_71 rfl (by decide) q337 rfl (by decide) (cn_ok wcX722 (by decide)) (cz_ok wcX722 (by decide)) ?_
  rw [cnn wcX722]
  show VV E mX3_init d 73 _ _ (crun cX723 e00) _
  refine v_putR (ci := 3) (kf := 11) (z := 17) DX3_init_73 (csh wcX723 (by decide +kernel)) rfl (by decide) (Or.inr (Or.inr ⟨rfl, rfl, rfl, q752⟩)) (fun _ _ => rfl) rfl rfl (Or.inr (cR wcX723 (by decide +kernel))) ?_
  show VV E mX3_init d 76 _ _ (crun cX724 e00) _
  refine v_aload_n 0 DX3_init_76 rfl rfl ?_
  refine v_sipush DX3_init_77 (by decide) ?_
  refine v_newa (t := 0) (z := 200) DX3_init_80 rfl (by decide) q337 rfl (by decide) (cn_ok wcX724 (by decide)) (cz_ok wcX724 (by decide)) ?_
  rw [cnn wcX724]
  show VV E mX3_init d 82 _ _ (crun cX725 e00) _
  refine v_putR (ci := 3) (kf := 12) (z := 17) DX3_init_82 (csh wcX725 (by decide +kernel)) rfl (by decide) (Or.inr (Or.inr ⟨rfl, rfl, rfl, q755⟩)) (fun _ _ => rfl) rfl rfl (Or.inr (cR wcX725 (by decide +kernel))) ?_
  show VV E mX3_init d 85 _ _ (crun cX726 e00) _
  refine v_aload_n 0 DX3_init_85 rfl rfl ?_
  refine v_sipush DX3_init_86 (by decide) ?_
  refine v_newa (t := 0) (z := 200) DX3_init_89 rfl (by decide) q337 rfl (by decide) (cn_ok wcX726 (by decide)) (cz_ok wcX726 (by decide)) ?_
  rw [cnn wcX726]
  show VV E mX3_init d 91 _ _ (crun cX727 e00) _
  refine v_putR (ci := 3) (kf := 13) (z := 17) DX3_init_91 (csh wcX727 (by decide +kernel)) rfl (by decide) (Or.inr (Or.inr ⟨rfl, rfl, rfl, q758⟩)) (fun _ _ => rfl) rfl rfl (Or.inr (cR wcX727 (by decide +kernel))) ?_
  show VV E mX3_init d 94 _ _ (crun cX728 e00) _
  refine v_aload_n 0 DX3_init_94 rfl rfl ?_
  refine v_sipush DX3_init_95 (by decide) ?_
  refine v_newa (t := 4) (z := 200) DX3_init_98 rfl (by decide) q806 rfl (by decide) (cn_ok wcX728 (by decide)) (cz_ok wcX728 (by decide)) ?_
  rw [cnn wcX728]
  show VV E mX3_init d 100 _ _ (crun cX729 e00) _
  refine v_putR (ci := 3) (kf := 14) (z := 17) DX3_init_100 (csh wcX729 (by decide +kernel)) rfl (by decide) (Or.inr (Or.inr ⟨rfl, rfl, rfl, q761⟩)) (fun _ _ => rfl) rfl rfl (Or.inr (cR wcX729 (by decide +kernel))) ?_
  show VV E mX3_init d 103 _ _ (crun cX730 e00) _
  refine v_aload_n 0 DX3_init_103 rfl rfl ?_
  refine v_sipush DX3_init_104 (by decide) ?_
  refine v_newa (t := 4) (z := 200) DX3_init_107 rfl (by decide) q806 rfl (by decide) (cn_ok wcX730 (by decide)) (cz_ok wcX730 (by decide)) ?_
  rw [cnn wcX730]
  show VV E mX3_init d 109 _ _ (crun cX731 e00) _
  refine v_putR (ci := 3) (kf := 15) (z := 17) DX3_init_109 (csh wcX731 (by decide +kernel)) rfl (by decide) (Or.inr (Or.inr ⟨rfl, rfl, rfl, q764⟩)) (fun _ _ => rfl) rfl rfl (Or.inr (cR wcX731 (by decide +kernel))) ?_
  show VV E mX3_init d 112 _ _ (crun cX732 e00) _
  refine v_aload_n 0 DX3_init_112 rfl rfl ?_
  refine v_sipush DX3_init_113 (by decide) ?_
  refine v_newa (t := 4) (z := 200) DX3_init_116 rfl (by decide) q806 rfl (by decide) (cn_ok wcX732 (by decide)) (cz_ok wcX732 (by decide)) ?_
  rw [cnn wcX732]
  show VV E mX3_init d 118 _ _ (crun cX733 e00) _
  refine v_putR (ci := 3) (kf := 16) (z := 17) DX3_init_118 (csh wcX733 (by decide +kernel)) rfl (by decide) (Or.inr (Or.inr ⟨rfl, rfl, rfl, q767⟩)) (fun _ _ => rfl) rfl rfl (Or.inr (cR wcX733 (by decide +kernel))) ?_
  show VV E mX3_init d 121 _ _ (crun cX734 e00) _
  exact v_vret DX3_init_121 rfl (RV_mk rfl)
def cX735 : List (Nat × Nat × Nat × Nat) := (1, 79, 5, 345) :: cX734
theorem wcX735 : WF 359 1896260 cX735 := ⟨by decide, wcX734⟩
def cX736 : List (Nat × Nat × Nat × Nat) := (0, 103, 17, 359) :: cX735
theorem wcX736 : WF 360 1896277 cX736 := ⟨rfl, by decide, wcX735⟩
def cX737 : List (Nat × Nat × Nat × Nat) := (0, 1, 400, 360) :: cX736
theorem wcX737 : WF 361 1896677 cX737 := ⟨rfl, by decide, wcX736⟩
def cX738 : List (Nat × Nat × Nat × Nat) := (1, 359, 0, 360) :: cX737
theorem wcX738 : WF 361 1896677 cX738 := ⟨by decide, wcX737⟩
def cX739 : List (Nat × Nat × Nat × Nat) := (0, 0, 200, 361) :: cX738
theorem wcX739 : WF 362 1896877 cX739 := ⟨rfl, by decide, wcX738⟩
def cX740 : List (Nat × Nat × Nat × Nat) := (1, 359, 5, 361) :: cX739
theorem wcX740 : WF 362 1896877 cX740 := ⟨by decide, wcX739⟩
def cX741 : List (Nat × Nat × Nat × Nat) := (0, 0, 200, 362) :: cX740
theorem wcX741 : WF 363 1897077 cX741 := ⟨rfl, by decide, wcX740⟩
def cX742 : List (Nat × Nat × Nat × Nat) := (1, 359, 6, 362) :: cX741
theorem wcX742 : WF 363 1897077 cX742 := ⟨by decide, wcX741⟩
def cX743 : List (Nat × Nat × Nat × Nat) := (0, 0, 200, 363) :: cX742
theorem wcX743 : WF 364 1897277 cX743 := ⟨rfl, by decide, wcX742⟩
def cX744 : List (Nat × Nat × Nat × Nat) := (1, 359, 7, 363) :: cX743
theorem wcX744 : WF 364 1897277 cX744 := ⟨by decide, wcX743⟩
def cX745 : List (Nat × Nat × Nat × Nat) := (0, 0, 200, 364) :: cX744
theorem wcX745 : WF 365 1897477 cX745 := ⟨rfl, by decide, wcX744⟩
def cX746 : List (Nat × Nat × Nat × Nat) := (1, 359, 8, 364) :: cX745
theorem wcX746 : WF 365 1897477 cX746 := ⟨by decide, wcX745⟩
def cX747 : List (Nat × Nat × Nat × Nat) := (0, 4, 200, 365) :: cX746
theorem wcX747 : WF 366 1897677 cX747 := ⟨rfl, by decide, wcX746⟩
def cX748 : List (Nat × Nat × Nat × Nat) := (1, 359, 9, 365) :: cX747
theorem wcX748 : WF 366 1897677 cX748 := ⟨by decide, wcX747⟩
def cX749 : List (Nat × Nat × Nat × Nat) := (0, 0, 200, 366) :: cX748
theorem wcX749 : WF 367 1897877 cX749 := ⟨rfl, by decide, wcX748⟩
def cX750 : List (Nat × Nat × Nat × Nat) := (1, 359, 10, 366) :: cX749
theorem wcX750 : WF 367 1897877 cX750 := ⟨by decide, wcX749⟩
def cX751 : List (Nat × Nat × Nat × Nat) := (0, 0, 200, 367) :: cX750
theorem wcX751 : WF 368 1898077 cX751 := ⟨rfl, by decide, wcX750⟩
def cX752 : List (Nat × Nat × Nat × Nat) := (1, 359, 11, 367) :: cX751
theorem wcX752 : WF 368 1898077 cX752 := ⟨by decide, wcX751⟩
def cX753 : List (Nat × Nat × Nat × Nat) := (0, 0, 200, 368) :: cX752
theorem wcX753 : WF 369 1898277 cX753 := ⟨rfl, by decide, wcX752⟩
def cX754 : List (Nat × Nat × Nat × Nat) := (1, 359, 12, 368) :: cX753
theorem wcX754 : WF 369 1898277 cX754 := ⟨by decide, wcX753⟩
def cX755 : List (Nat × Nat × Nat × Nat) := (0, 0, 200, 369) :: cX754
theorem wcX755 : WF 370 1898477 cX755 := ⟨rfl, by decide, wcX754⟩
def cX756 : List (Nat × Nat × Nat × Nat) := (1, 359, 13, 369) :: cX755
theorem wcX756 : WF 370 1898477 cX756 := ⟨by decide, wcX755⟩
def cX757 : List (Nat × Nat × Nat × Nat) := (0, 4, 200, 370) :: cX756
theorem wcX757 : WF 371 1898677 cX757 := ⟨rfl, by decide, wcX756⟩
def cX758 : List (Nat × Nat × Nat × Nat) := (1, 359, 14, 370) :: cX757
theorem wcX758 : WF 371 1898677 cX758 := ⟨by decide, wcX757⟩
def cX759 : List (Nat × Nat × Nat × Nat) := (0, 4, 200, 371) :: cX758
theorem wcX759 : WF 372 1898877 cX759 := ⟨rfl, by decide, wcX758⟩
def cX760 : List (Nat × Nat × Nat × Nat) := (1, 359, 15, 371) :: cX759
theorem wcX760 : WF 372 1898877 cX760 := ⟨by decide, wcX759⟩
def cX761 : List (Nat × Nat × Nat × Nat) := (0, 4, 200, 372) :: cX760
theorem wcX761 : WF 373 1899077 cX761 := ⟨rfl, by decide, wcX760⟩
def cX762 : List (Nat × Nat × Nat × Nat) := (1, 359, 16, 372) :: cX761
theorem wcX762 : WF 373 1899077 cX762 := ⟨by decide, wcX761⟩
theorem ct_X0_21 {E : XE} {d : Nat} (hd : 2 ≤ d) : CC E mX3_init d [aO 359] (crun cX736 e00) (RV (fun τ => τ = crun cX762 e00)) := by
  refine v_aload_n 0 DX3_init_0 rfl rfl ?_
  refine v_objInit DX3_init_1 q717 q309 q310 (by omega) (by decide) ?_
  refine v_aload_n 0 DX3_init_4 rfl rfl ?_
  refine v_sipush DX3_init_5 (by decide) ?_
  refine v_newa (t := 1) (z := 400) DX3_init_8 rfl (by decide) q336 rfl (by decide) (cn_ok wcX736 (by decide)) (cz_ok wcX736 (by decide)) ?_
  rw [cnn wcX736]
  show VV E mX3_init d 10 _ _ (crun cX737 e00) _
  refine v_putR (ci := 3) (kf := 0) (z := 17) DX3_init_10 (csh wcX737 (by decide +kernel)) rfl (by decide) (Or.inr (Or.inr ⟨rfl, rfl, rfl, q718⟩)) (fun _ _ => rfl) rfl rfl (Or.inr (cR wcX737 (by decide +kernel))) ?_
  show VV E mX3_init d 13 _ _ (crun cX738 e00) _
  refine v_aload_n 0 DX3_init_13 rfl rfl ?_
  refine v_sipush DX3_init_14 (by decide) ?_
  refine v_newa (t := 0) (z := 200) DX3_init_17 rfl (by decide) q337 rfl (by decide) (cn_ok wcX738 (by decide)) (cz_ok wcX738 (by decide)) ?_
  rw [cnn wcX738]
  show VV E mX3_init d 19 _ _ (crun cX739 e00) _
  refine v_putR (ci := 3) (kf := 5) (z := 17) DX3_init_19 (csh wcX739 (by decide +kernel)) rfl (by decide) (Or.inr (Or.inr ⟨rfl, rfl, rfl, q734⟩)) (fun _ _ => rfl) rfl rfl (Or.inr (cR wcX739 (by decide +kernel))) ?_
  show VV E mX3_init d 22 _ _ (crun cX740 e00) _
  refine v_aload_n 0 DX3_init_22 rfl rfl ?_
  refine v_sipush DX3_init_23 (by decide) ?_
  refine v_newa (t := 0) (z := 200) DX3_init_26 rfl (by decide) q337 rfl (by decide) (cn_ok wcX740 (by decide)) (cz_ok wcX740 (by decide)) ?_
  rw [cnn wcX740]
  show VV E mX3_init d 28 _ _ (crun cX741 e00) _
  refine v_putR (ci := 3) (kf := 6) (z := 17) DX3_init_28 (csh wcX741 (by decide +kernel)) rfl (by decide) (Or.inr (Or.inr ⟨rfl, rfl, rfl, q737⟩)) (fun _ _ => rfl) rfl rfl (Or.inr (cR wcX741 (by decide +kernel))) ?_
  show VV E mX3_init d 31 _ _ (crun cX742 e00) _
  refine v_aload_n 0 DX3_init_31 rfl rfl ?_
  refine v_sipush DX3_init_32 (by decide) ?_
  refine v_newa (t := 0) (z := 200) DX3_init_35 rfl (by decide) q337 rfl (by decide) (cn_ok wcX742 (by decide)) (cz_ok wcX742 (by decide)) ?_
  rw [cnn wcX742]
  show VV E mX3_init d 37 _ _ (crun cX743 e00) _
  refine v_putR (ci := 3) (kf := 7) (z := 17) DX3_init_37 (csh wcX743 (by decide +kernel)) rfl (by decide) (Or.inr (Or.inr ⟨rfl, rfl, rfl, q740⟩)) (fun _ _ => rfl) rfl rfl (Or.inr (cR wcX743 (by decide +kernel))) ?_
  show VV E mX3_init d 40 _ _ (crun cX744 e00) _
  refine v_aload_n 0 DX3_init_40 rfl rfl ?_
  refine v_sipush DX3_init_41 (by decide) ?_
  refine v_newa (t := 0) (z := 200) DX3_init_44 rfl (by decide) q337 rfl (by decide) (cn_ok wcX744 (by decide)) (cz_ok wcX744 (by decide)) ?_
  rw [cnn wcX744]
  show VV E mX3_init d 46 _ _ (crun cX745 e00) _
  refine v_putR (ci := 3) (kf := 8) (z := 17) DX3_init_46 (csh wcX745 (by decide +kernel)) rfl (by decide) (Or.inr (Or.inr ⟨rfl, rfl, rfl, q743⟩)) (fun _ _ => rfl) rfl rfl (Or.inr (cR wcX745 (by decide +kernel))) ?_
  show VV E mX3_init d 49 _ _ (crun cX746 e00) _
  refine v_aload_n 0 DX3_init_49 rfl rfl ?_
  refine v_sipush DX3_init_50 (by decide) ?_
  refine v_newa (t := 4) (z := 200) DX3_init_53 rfl (by decide) q806 rfl (by decide) (cn_ok wcX746 (by decide)) (cz_ok wcX746 (by decide)) ?_
  rw [cnn wcX746]
  show VV E mX3_init d 55 _ _ (crun cX747 e00) _
  refine v_putR (ci := 3) (kf := 9) (z := 17) DX3_init_55 (csh wcX747 (by decide +kernel)) rfl (by decide) (Or.inr (Or.inr ⟨rfl, rfl, rfl, q746⟩)) (fun _ _ => rfl) rfl rfl (Or.inr (cR wcX747 (by decide +kernel))) ?_
  show VV E mX3_init d 58 _ _ (crun cX748 e00) _
  refine v_aload_n 0 DX3_init_58 rfl rfl ?_
  refine v_sipush DX3_init_59 (by decide) ?_
  refine v_newa (t := 0) (z := 200) DX3_init_62 rfl (by decide) q337 rfl (by decide) (cn_ok wcX748 (by decide)) (cz_ok wcX748 (by decide)) ?_
  rw [cnn wcX748]
  show VV E mX3_init d 64 _ _ (crun cX749 e00) _
  refine v_putR (ci := 3) (kf := 10) (z := 17) DX3_init_64 (csh wcX749 (by decide +kernel)) rfl (by decide) (Or.inr (Or.inr ⟨rfl, rfl, rfl, q749⟩)) (fun _ _ => rfl) rfl rfl (Or.inr (cR wcX749 (by decide +kernel))) ?_
  show VV E mX3_init d 67 _ _ (crun cX750 e00) _
  refine v_aload_n 0 DX3_init_67 rfl rfl ?_
  refine v_sipush DX3_init_68 (by decide) ?_
  refine v_newa (t := 0) (z := 200) DX3_init_71 rfl (by decide) q337 rfl (by decide) (cn_ok wcX750 (by decide)) (cz_ok wcX750 (by decide)) ?_
  rw [cnn wcX750]
  show VV E mX3_init d 73 _ _ (crun cX751 e00) _
  refine v_putR (ci := 3) (kf := 11) (z := 17) DX3_init_73 (csh wcX751 (by decide +kernel)) rfl (by decide) (Or.inr (Or.inr ⟨rfl, rfl, rfl, q752⟩)) (fun _ _ => rfl) rfl rfl (Or.inr (cR wcX751 (by decide +kernel))) ?_
  show VV E mX3_init d 76 _ _ (crun cX752 e00) _
  refine v_aload_n 0 DX3_init_76 rfl rfl ?_
  refine v_sipush DX3_init_77 (by decide) ?_
  refine v_newa (t := 0) (z := 200) DX3_init_80 rfl (by decide) q337 rfl (by decide) (cn_ok wcX752 (by decide)) (cz_ok wcX752 (by decide)) ?_
  rw [cnn wcX752]
  show VV E mX3_init d 82 _ _ (crun cX753 e00) _
  refine v_putR (ci := 3) (kf := 12) (z := 17) DX3_init_82 (csh wcX753 (by decide +kernel)) rfl (by decide) (Or.inr (Or.inr ⟨rfl, rfl, rfl, q755⟩)) (fun _ _ => rfl) rfl rfl (Or.inr (cR wcX753 (by decide +kernel))) ?_
  show VV E mX3_init d 85 _ _ (crun cX754 e00) _
  refine v_aload_n 0 DX3_init_85 rfl rfl ?_
  refine v_sipush DX3_init_86 (by decide) ?_
  refine v_newa (t := 0) (z := 200) DX3_init_89 rfl (by decide) q337 rfl (by decide) (cn_ok wcX754 (by decide)) (cz_ok wcX754 (by decide)) ?_
  rw [cnn wcX754]
  show VV E mX3_init d 91 _ _ (crun cX755 e00) _
  refine v_putR (ci := 3) (kf := 13) (z := 17) DX3_init_91 (csh wcX755 (by decide +kernel)) rfl (by decide) (Or.inr (Or.inr ⟨rfl, rfl, rfl, q758⟩)) (fun _ _ => rfl) rfl rfl (Or.inr (cR wcX755 (by decide +kernel))) ?_
  show VV E mX3_init d 94 _ _ (crun cX756 e00) _
  refine v_aload_n 0 DX3_init_94 rfl rfl ?_
  refine v_sipush DX3_init_95 (by decide) ?_
  refine v_newa (t := 4) (z := 200) DX3_init_98 rfl (by decide) q806 rfl (by decide) (cn_ok wcX756 (by decide)) (cz_ok wcX756 (by decide)) ?_
  rw [cnn wcX756]
  show VV E mX3_init d 100 _ _ (crun cX757 e00) _
  refine v_putR (ci := 3) (kf := 14) (z := 17) DX3_init_100 (csh wcX757 (by decide +kernel)) rfl (by decide) (Or.inr (Or.inr ⟨rfl, rfl, rfl, q761⟩)) (fun _ _ => rfl) rfl rfl (Or.inr (cR wcX757 (by decide +kernel))) ?_
  show VV E mX3_init d 103 _ _ (crun cX758 e00) _
  refine v_aload_n 0 DX3_init_103 rfl rfl ?_
  refine v_sipush DX3_init_104 (by decide) ?_
  refine v_newa (t := 4) (z := 200) DX3_init_107 rfl (by decide) q806 rfl (by decide) (cn_ok wcX758 (by decide)) (cz_ok wcX758 (by decide)) ?_
  rw [cnn wcX758]
  show VV E mX3_init d 109 _ _ (crun cX759 e00) _
  refine v_putR (ci := 3) (kf := 15) (z := 17) DX3_init_109 (csh wcX759 (by decide +kernel)) rfl (by decide) (Or.inr (Or.inr ⟨rfl, rfl, rfl, q764⟩)) (fun _ _ => rfl) rfl rfl (Or.inr (cR wcX759 (by decide +kernel))) ?_
  show VV E mX3_init d 112 _ _ (crun cX760 e00) _
  refine v_aload_n 0 DX3_init_112 rfl rfl ?_
  refine v_sipush DX3_init_113 (by decide) ?_
  refine v_newa (t := 4) (z := 200) DX3_init_116 rfl (by decide) q806 rfl (by decide) (cn_ok wcX760 (by decide)) (cz_ok wcX760 (by decide)) ?_
  rw [cnn wcX760]
  show VV E mX3_init d 118 _ _ (crun cX761 e00) _
  refine v_putR (ci := 3) (kf := 16) (z := 17) DX3_init_118 (csh wcX761 (by decide +kernel)) rfl (by decide) (Or.inr (Or.inr ⟨rfl, rfl, rfl, q767⟩)) (fun _ _ => rfl) rfl rfl (Or.inr (cR wcX761 (by decide +kernel))) ?_
  show VV E mX3_init d 121 _ _ (crun cX762 e00) _
  exact v_vret DX3_init_121 rfl (RV_mk rfl)
def cX763 : List (Nat × Nat × Nat × Nat) := (1, 79, 6, 359) :: cX762
theorem wcX763 : WF 373 1899077 cX763 := ⟨by decide, wcX762⟩
def cX764 : List (Nat × Nat × Nat × Nat) := (0, 103, 17, 373) :: cX763
theorem wcX764 : WF 374 1899094 cX764 := ⟨rfl, by decide, wcX763⟩
def cX765 : List (Nat × Nat × Nat × Nat) := (0, 1, 400, 374) :: cX764
theorem wcX765 : WF 375 1899494 cX765 := ⟨rfl, by decide, wcX764⟩
def cX766 : List (Nat × Nat × Nat × Nat) := (1, 373, 0, 374) :: cX765
theorem wcX766 : WF 375 1899494 cX766 := ⟨by decide, wcX765⟩
def cX767 : List (Nat × Nat × Nat × Nat) := (0, 0, 200, 375) :: cX766
theorem wcX767 : WF 376 1899694 cX767 := ⟨rfl, by decide, wcX766⟩
def cX768 : List (Nat × Nat × Nat × Nat) := (1, 373, 5, 375) :: cX767
theorem wcX768 : WF 376 1899694 cX768 := ⟨by decide, wcX767⟩
def cX769 : List (Nat × Nat × Nat × Nat) := (0, 0, 200, 376) :: cX768
theorem wcX769 : WF 377 1899894 cX769 := ⟨rfl, by decide, wcX768⟩
def cX770 : List (Nat × Nat × Nat × Nat) := (1, 373, 6, 376) :: cX769
theorem wcX770 : WF 377 1899894 cX770 := ⟨by decide, wcX769⟩
def cX771 : List (Nat × Nat × Nat × Nat) := (0, 0, 200, 377) :: cX770
theorem wcX771 : WF 378 1900094 cX771 := ⟨rfl, by decide, wcX770⟩
def cX772 : List (Nat × Nat × Nat × Nat) := (1, 373, 7, 377) :: cX771
theorem wcX772 : WF 378 1900094 cX772 := ⟨by decide, wcX771⟩
def cX773 : List (Nat × Nat × Nat × Nat) := (0, 0, 200, 378) :: cX772
theorem wcX773 : WF 379 1900294 cX773 := ⟨rfl, by decide, wcX772⟩
def cX774 : List (Nat × Nat × Nat × Nat) := (1, 373, 8, 378) :: cX773
theorem wcX774 : WF 379 1900294 cX774 := ⟨by decide, wcX773⟩
def cX775 : List (Nat × Nat × Nat × Nat) := (0, 4, 200, 379) :: cX774
theorem wcX775 : WF 380 1900494 cX775 := ⟨rfl, by decide, wcX774⟩
def cX776 : List (Nat × Nat × Nat × Nat) := (1, 373, 9, 379) :: cX775
theorem wcX776 : WF 380 1900494 cX776 := ⟨by decide, wcX775⟩
def cX777 : List (Nat × Nat × Nat × Nat) := (0, 0, 200, 380) :: cX776
theorem wcX777 : WF 381 1900694 cX777 := ⟨rfl, by decide, wcX776⟩
def cX778 : List (Nat × Nat × Nat × Nat) := (1, 373, 10, 380) :: cX777
theorem wcX778 : WF 381 1900694 cX778 := ⟨by decide, wcX777⟩
def cX779 : List (Nat × Nat × Nat × Nat) := (0, 0, 200, 381) :: cX778
theorem wcX779 : WF 382 1900894 cX779 := ⟨rfl, by decide, wcX778⟩
def cX780 : List (Nat × Nat × Nat × Nat) := (1, 373, 11, 381) :: cX779
theorem wcX780 : WF 382 1900894 cX780 := ⟨by decide, wcX779⟩
def cX781 : List (Nat × Nat × Nat × Nat) := (0, 0, 200, 382) :: cX780
theorem wcX781 : WF 383 1901094 cX781 := ⟨rfl, by decide, wcX780⟩
def cX782 : List (Nat × Nat × Nat × Nat) := (1, 373, 12, 382) :: cX781
theorem wcX782 : WF 383 1901094 cX782 := ⟨by decide, wcX781⟩
def cX783 : List (Nat × Nat × Nat × Nat) := (0, 0, 200, 383) :: cX782
theorem wcX783 : WF 384 1901294 cX783 := ⟨rfl, by decide, wcX782⟩
def cX784 : List (Nat × Nat × Nat × Nat) := (1, 373, 13, 383) :: cX783
theorem wcX784 : WF 384 1901294 cX784 := ⟨by decide, wcX783⟩
def cX785 : List (Nat × Nat × Nat × Nat) := (0, 4, 200, 384) :: cX784
theorem wcX785 : WF 385 1901494 cX785 := ⟨rfl, by decide, wcX784⟩
def cX786 : List (Nat × Nat × Nat × Nat) := (1, 373, 14, 384) :: cX785
theorem wcX786 : WF 385 1901494 cX786 := ⟨by decide, wcX785⟩
def cX787 : List (Nat × Nat × Nat × Nat) := (0, 4, 200, 385) :: cX786
theorem wcX787 : WF 386 1901694 cX787 := ⟨rfl, by decide, wcX786⟩
def cX788 : List (Nat × Nat × Nat × Nat) := (1, 373, 15, 385) :: cX787
theorem wcX788 : WF 386 1901694 cX788 := ⟨by decide, wcX787⟩
def cX789 : List (Nat × Nat × Nat × Nat) := (0, 4, 200, 386) :: cX788
theorem wcX789 : WF 387 1901894 cX789 := ⟨rfl, by decide, wcX788⟩
def cX790 : List (Nat × Nat × Nat × Nat) := (1, 373, 16, 386) :: cX789
theorem wcX790 : WF 387 1901894 cX790 := ⟨by decide, wcX789⟩
theorem ct_X0_22 {E : XE} {d : Nat} (hd : 2 ≤ d) : CC E mX3_init d [aO 373] (crun cX764 e00) (RV (fun τ => τ = crun cX790 e00)) := by
  refine v_aload_n 0 DX3_init_0 rfl rfl ?_
  refine v_objInit DX3_init_1 q717 q309 q310 (by omega) (by decide) ?_
  refine v_aload_n 0 DX3_init_4 rfl rfl ?_
  refine v_sipush DX3_init_5 (by decide) ?_
  refine v_newa (t := 1) (z := 400) DX3_init_8 rfl (by decide) q336 rfl (by decide) (cn_ok wcX764 (by decide)) (cz_ok wcX764 (by decide)) ?_
  rw [cnn wcX764]
  show VV E mX3_init d 10 _ _ (crun cX765 e00) _
  refine v_putR (ci := 3) (kf := 0) (z := 17) DX3_init_10 (csh wcX765 (by decide +kernel)) rfl (by decide) (Or.inr (Or.inr ⟨rfl, rfl, rfl, q718⟩)) (fun _ _ => rfl) rfl rfl (Or.inr (cR wcX765 (by decide +kernel))) ?_
  show VV E mX3_init d 13 _ _ (crun cX766 e00) _
  refine v_aload_n 0 DX3_init_13 rfl rfl ?_
  refine v_sipush DX3_init_14 (by decide) ?_
  refine v_newa (t := 0) (z := 200) DX3_init_17 rfl (by decide) q337 rfl (by decide) (cn_ok wcX766 (by decide)) (cz_ok wcX766 (by decide)) ?_
  rw [cnn wcX766]
  show VV E mX3_init d 19 _ _ (crun cX767 e00) _
  refine v_putR (ci := 3) (kf := 5) (z := 17) DX3_init_19 (csh wcX767 (by decide +kernel)) rfl (by decide) (Or.inr (Or.inr ⟨rfl, rfl, rfl, q734⟩)) (fun _ _ => rfl) rfl rfl (Or.inr (cR wcX767 (by decide +kernel))) ?_
  show VV E mX3_init d 22 _ _ (crun cX768 e00) _
  refine v_aload_n 0 DX3_init_22 rfl rfl ?_
  refine v_sipush DX3_init_23 (by decide) ?_
  refine v_newa (t := 0) (z := 200) DX3_init_26 rfl (by decide) q337 rfl (by decide) (cn_ok wcX768 (by decide)) (cz_ok wcX768 (by decide)) ?_
  rw [cnn wcX768]
  show VV E mX3_init d 28 _ _ (crun cX769 e00) _
  refine v_putR (ci := 3) (kf := 6) (z := 17) DX3_init_28 (csh wcX769 (by decide +kernel)) rfl (by decide) (Or.inr (Or.inr ⟨rfl, rfl, rfl, q737⟩)) (fun _ _ => rfl) rfl rfl (Or.inr (cR wcX769 (by decide +kernel))) ?_
  show VV E mX3_init d 31 _ _ (crun cX770 e00) _
  refine v_aload_n 0 DX3_init_31 rfl rfl ?_
  refine v_sipush DX3_init_32 (by decide) ?_
  refine v_newa (t := 0) (z := 200) DX3_init_35 rfl (by decide) q337 rfl (by decide) (cn_ok wcX770 (by decide)) (cz_ok wcX770 (by decide)) ?_
  rw [cnn wcX770]
  show VV E mX3_init d 37 _ _ (crun cX771 e00) _
  refine v_putR (ci := 3) (kf := 7) (z := 17) DX3_init_37 (csh wcX771 (by decide +kernel)) rfl (by decide) (Or.inr (Or.inr ⟨rfl, rfl, rfl, q740⟩)) (fun _ _ => rfl) rfl rfl (Or.inr (cR wcX771 (by decide +kernel))) ?_
  show VV E mX3_init d 40 _ _ (crun cX772 e00) _
  refine v_aload_n 0 DX3_init_40 rfl rfl ?_
  refine v_sipush DX3_init_41 (by decide) ?_
  refine v_newa (t := 0) (z := 200) DX3_init_44 rfl (by decide) q337 rfl (by decide) (cn_ok wcX772 (by decide)) (cz_ok wcX772 (by decide)) ?_
  rw [cnn wcX772]
  show VV E mX3_init d 46 _ _ (crun cX773 e00) _
  refine v_putR (ci := 3) (kf := 8) (z := 17) DX3_init_46 (csh wcX773 (by decide +kernel)) rfl (by decide) (Or.inr (Or.inr ⟨rfl, rfl, rfl, q743⟩)) (fun _ _ => rfl) rfl rfl (Or.inr (cR wcX773 (by decide +kernel))) ?_
  show VV E mX3_init d 49 _ _ (crun cX774 e00) _
  refine v_aload_n 0 DX3_init_49 rfl rfl ?_
  refine v_sipush DX3_init_50 (by decide) ?_
  refine v_newa (t := 4) (z := 200) DX3_init_53 rfl (by decide) q806 rfl (by decide) (cn_ok wcX774 (by decide)) (cz_ok wcX774 (by decide)) ?_
  rw [cnn wcX774]
  show VV E mX3_init d 55 _ _ (crun cX775 e00) _
  refine v_putR (ci := 3) (kf := 9) (z := 17) DX3_init_55 (csh wcX775 (by decide +kernel)) rfl (by decide) (Or.inr (Or.inr ⟨rfl, rfl, rfl, q746⟩)) (fun _ _ => rfl) rfl rfl (Or.inr (cR wcX775 (by decide +kernel))) ?_
  show VV E mX3_init d 58 _ _ (crun cX776 e00) _
  refine v_aload_n 0 DX3_init_58 rfl rfl ?_
  refine v_sipush DX3_init_59 (by decide) ?_
  refine v_newa (t := 0) (z := 200) DX3_init_62 rfl (by decide) q337 rfl (by decide) (cn_ok wcX776 (by decide)) (cz_ok wcX776 (by decide)) ?_
  rw [cnn wcX776]
  show VV E mX3_init d 64 _ _ (crun cX777 e00) _
  refine v_putR (ci := 3) (kf := 10) (z := 17) DX3_init_64 (csh wcX777 (by decide +kernel)) rfl (by decide) (Or.inr (Or.inr ⟨rfl, rfl, rfl, q749⟩)) (fun _ _ => rfl) rfl rfl (Or.inr (cR wcX777 (by decide +kernel))) ?_
  show VV E mX3_init d 67 _ _ (crun cX778 e00) _
  refine v_aload_n 0 DX3_init_67 rfl rfl ?_
  refine v_sipush DX3_init_68 (by decide) ?_
  refine v_newa (t := 0) (z := 200) DX3_init_71 rfl (by decide) q337 rfl (by decide) (cn_ok wcX778 (by decide)) (cz_ok wcX778 (by decide)) ?_
  rw [cnn wcX778]
  show VV E mX3_init d 73 _ _ (crun cX779 e00) _
  refine v_putR (ci := 3) (kf := 11) (z := 17) DX3_init_73 (csh wcX779 (by decide +kernel)) rfl (by decide) (Or.inr (Or.inr ⟨rfl, rfl, rfl, q752⟩)) (fun _ _ => rfl) rfl rfl (Or.inr (cR wcX779 (by decide +kernel))) ?_
  show VV E mX3_init d 76 _ _ (crun cX780 e00) _
  refine v_aload_n 0 DX3_init_76 rfl rfl ?_
  refine v_sipush DX3_init_77 (by decide) ?_
  refine v_newa (t := 0) (z := 200) DX3_init_80 rfl (by decide) q337 rfl (by decide) (cn_ok wcX780 (by decide)) (cz_ok wcX780 (by decide)) ?_
  rw [cnn wcX780]
  show VV E mX3_init d 82 _ _ (crun cX781 e00) _
  refine v_putR (ci := 3) (kf := 12) (z := 17) DX3_init_82 (csh wcX781 (by decide +kernel)) rfl (by decide) (Or.inr (Or.inr ⟨rfl, rfl, rfl, q755⟩)) (fun _ _ => rfl) rfl rfl (Or.inr (cR wcX781 (by decide +kernel))) ?_
  show VV E mX3_init d 85 _ _ (crun cX782 e00) _
  refine v_aload_n 0 DX3_init_85 rfl rfl ?_
  refine v_sipush DX3_init_86 (by decide) ?_
  refine v_newa (t := 0) (z := 200) DX3_init_89 rfl (by decide) q337 rfl (by decide) (cn_ok wcX782 (by decide)) (cz_ok wcX782 (by decide)) ?_
  rw [cnn wcX782]
  show VV E mX3_init d 91 _ _ (crun cX783 e00) _
  refine v_putR (ci := 3) (kf := 13) (z := 17) DX3_init_91 (csh wcX783 (by decide +kernel)) rfl (by decide) (Or.inr (Or.inr ⟨rfl, rfl, rfl, q758⟩)) (fun _ _ => rfl) rfl rfl (Or.inr (cR wcX783 (by decide +kernel))) ?_
  show VV E mX3_init d 94 _ _ (crun cX784 e00) _
  refine v_aload_n 0 DX3_init_94 rfl rfl ?_
  refine v_sipush DX3_init_95 (by decide) ?_
  refine v_newa (t := 4) (z := 200) DX3_init_98 rfl (by decide) q806 rfl (by decide) (cn_ok wcX784 (by decide)) (cz_ok wcX784 (by decide)) ?_
  rw [cnn wcX784]
  show VV E mX3_init d 100 _ _ (crun cX785 e00) _
  refine v_putR (ci := 3) (kf := 14) (z := 17) DX3_init_100 (csh wcX785 (by decide +kernel)) rfl (by decide) (Or.inr (Or.inr ⟨rfl, rfl, rfl, q761⟩)) (fun _ _ => rfl) rfl rfl (Or.inr (cR wcX785 (by decide +kernel))) ?_
  show VV E mX3_init d 103 _ _ (crun cX786 e00) _
  refine v_aload_n 0 DX3_init_103 rfl rfl ?_
  refine v_sipush DX3_init_104 (by decide) ?_
  refine v_newa (t := 4) (z := 200) DX3_init_107 rfl (by decide) q806 rfl (by decide) (cn_ok wcX786 (by decide)) (cz_ok wcX786 (by decide)) ?_
  rw [cnn wcX786]
  show VV E mX3_init d 109 _ _ (crun cX787 e00) _
  refine v_putR (ci := 3) (kf := 15) (z := 17) DX3_init_109 (csh wcX787 (by decide +kernel)) rfl (by decide) (Or.inr (Or.inr ⟨rfl, rfl, rfl, q764⟩)) (fun _ _ => rfl) rfl rfl (Or.inr (cR wcX787 (by decide +kernel))) ?_
  show VV E mX3_init d 112 _ _ (crun cX788 e00) _
  refine v_aload_n 0 DX3_init_112 rfl rfl ?_
  refine v_sipush DX3_init_113 (by decide) ?_
  refine v_newa (t := 4) (z := 200) DX3_init_116 rfl (by decide) q806 rfl (by decide) (cn_ok wcX788 (by decide)) (cz_ok wcX788 (by decide)) ?_
  rw [cnn wcX788]
  show VV E mX3_init d 118 _ _ (crun cX789 e00) _
  refine v_putR (ci := 3) (kf := 16) (z := 17) DX3_init_118 (csh wcX789 (by decide +kernel)) rfl (by decide) (Or.inr (Or.inr ⟨rfl, rfl, rfl, q767⟩)) (fun _ _ => rfl) rfl rfl (Or.inr (cR wcX789 (by decide +kernel))) ?_
  show VV E mX3_init d 121 _ _ (crun cX790 e00) _
  exact v_vret DX3_init_121 rfl (RV_mk rfl)
def cX791 : List (Nat × Nat × Nat × Nat) := (1, 79, 7, 373) :: cX790
theorem wcX791 : WF 387 1901894 cX791 := ⟨by decide, wcX790⟩
def cX792 : List (Nat × Nat × Nat × Nat) := (0, 103, 17, 387) :: cX791
theorem wcX792 : WF 388 1901911 cX792 := ⟨rfl, by decide, wcX791⟩
def cX793 : List (Nat × Nat × Nat × Nat) := (0, 1, 400, 388) :: cX792
theorem wcX793 : WF 389 1902311 cX793 := ⟨rfl, by decide, wcX792⟩
def cX794 : List (Nat × Nat × Nat × Nat) := (1, 387, 0, 388) :: cX793
theorem wcX794 : WF 389 1902311 cX794 := ⟨by decide, wcX793⟩
def cX795 : List (Nat × Nat × Nat × Nat) := (0, 0, 200, 389) :: cX794
theorem wcX795 : WF 390 1902511 cX795 := ⟨rfl, by decide, wcX794⟩
def cX796 : List (Nat × Nat × Nat × Nat) := (1, 387, 5, 389) :: cX795
theorem wcX796 : WF 390 1902511 cX796 := ⟨by decide, wcX795⟩
def cX797 : List (Nat × Nat × Nat × Nat) := (0, 0, 200, 390) :: cX796
theorem wcX797 : WF 391 1902711 cX797 := ⟨rfl, by decide, wcX796⟩
def cX798 : List (Nat × Nat × Nat × Nat) := (1, 387, 6, 390) :: cX797
theorem wcX798 : WF 391 1902711 cX798 := ⟨by decide, wcX797⟩
def cX799 : List (Nat × Nat × Nat × Nat) := (0, 0, 200, 391) :: cX798
theorem wcX799 : WF 392 1902911 cX799 := ⟨rfl, by decide, wcX798⟩
def cX800 : List (Nat × Nat × Nat × Nat) := (1, 387, 7, 391) :: cX799
theorem wcX800 : WF 392 1902911 cX800 := ⟨by decide, wcX799⟩
def cX801 : List (Nat × Nat × Nat × Nat) := (0, 0, 200, 392) :: cX800
theorem wcX801 : WF 393 1903111 cX801 := ⟨rfl, by decide, wcX800⟩
def cX802 : List (Nat × Nat × Nat × Nat) := (1, 387, 8, 392) :: cX801
theorem wcX802 : WF 393 1903111 cX802 := ⟨by decide, wcX801⟩
def cX803 : List (Nat × Nat × Nat × Nat) := (0, 4, 200, 393) :: cX802
theorem wcX803 : WF 394 1903311 cX803 := ⟨rfl, by decide, wcX802⟩
def cX804 : List (Nat × Nat × Nat × Nat) := (1, 387, 9, 393) :: cX803
theorem wcX804 : WF 394 1903311 cX804 := ⟨by decide, wcX803⟩
def cX805 : List (Nat × Nat × Nat × Nat) := (0, 0, 200, 394) :: cX804
theorem wcX805 : WF 395 1903511 cX805 := ⟨rfl, by decide, wcX804⟩
def cX806 : List (Nat × Nat × Nat × Nat) := (1, 387, 10, 394) :: cX805
theorem wcX806 : WF 395 1903511 cX806 := ⟨by decide, wcX805⟩
def cX807 : List (Nat × Nat × Nat × Nat) := (0, 0, 200, 395) :: cX806
theorem wcX807 : WF 396 1903711 cX807 := ⟨rfl, by decide, wcX806⟩
def cX808 : List (Nat × Nat × Nat × Nat) := (1, 387, 11, 395) :: cX807
theorem wcX808 : WF 396 1903711 cX808 := ⟨by decide, wcX807⟩
def cX809 : List (Nat × Nat × Nat × Nat) := (0, 0, 200, 396) :: cX808
theorem wcX809 : WF 397 1903911 cX809 := ⟨rfl, by decide, wcX808⟩
def cX810 : List (Nat × Nat × Nat × Nat) := (1, 387, 12, 396) :: cX809
theorem wcX810 : WF 397 1903911 cX810 := ⟨by decide, wcX809⟩
def cX811 : List (Nat × Nat × Nat × Nat) := (0, 0, 200, 397) :: cX810
theorem wcX811 : WF 398 1904111 cX811 := ⟨rfl, by decide, wcX810⟩
def cX812 : List (Nat × Nat × Nat × Nat) := (1, 387, 13, 397) :: cX811
theorem wcX812 : WF 398 1904111 cX812 := ⟨by decide, wcX811⟩
def cX813 : List (Nat × Nat × Nat × Nat) := (0, 4, 200, 398) :: cX812
theorem wcX813 : WF 399 1904311 cX813 := ⟨rfl, by decide, wcX812⟩
def cX814 : List (Nat × Nat × Nat × Nat) := (1, 387, 14, 398) :: cX813
theorem wcX814 : WF 399 1904311 cX814 := ⟨by decide, wcX813⟩
def cX815 : List (Nat × Nat × Nat × Nat) := (0, 4, 200, 399) :: cX814
theorem wcX815 : WF 400 1904511 cX815 := ⟨rfl, by decide, wcX814⟩
def cX816 : List (Nat × Nat × Nat × Nat) := (1, 387, 15, 399) :: cX815
theorem wcX816 : WF 400 1904511 cX816 := ⟨by decide, wcX815⟩
def cX817 : List (Nat × Nat × Nat × Nat) := (0, 4, 200, 400) :: cX816
theorem wcX817 : WF 401 1904711 cX817 := ⟨rfl, by decide, wcX816⟩
def cX818 : List (Nat × Nat × Nat × Nat) := (1, 387, 16, 400) :: cX817
theorem wcX818 : WF 401 1904711 cX818 := ⟨by decide, wcX817⟩
theorem ct_X0_23 {E : XE} {d : Nat} (hd : 2 ≤ d) : CC E mX3_init d [aO 387] (crun cX792 e00) (RV (fun τ => τ = crun cX818 e00)) := by
  refine v_aload_n 0 DX3_init_0 rfl rfl ?_
  refine v_objInit DX3_init_1 q717 q309 q310 (by omega) (by decide) ?_
  refine v_aload_n 0 DX3_init_4 rfl rfl ?_
  refine v_sipush DX3_init_5 (by decide) ?_
  refine v_newa (t := 1) (z := 400) DX3_init_8 rfl (by decide) q336 rfl (by decide) (cn_ok wcX792 (by decide)) (cz_ok wcX792 (by decide)) ?_
  rw [cnn wcX792]
  show VV E mX3_init d 10 _ _ (crun cX793 e00) _
  refine v_putR (ci := 3) (kf := 0) (z := 17) DX3_init_10 (csh wcX793 (by decide +kernel)) rfl (by decide) (Or.inr (Or.inr ⟨rfl, rfl, rfl, q718⟩)) (fun _ _ => rfl) rfl rfl (Or.inr (cR wcX793 (by decide +kernel))) ?_
  show VV E mX3_init d 13 _ _ (crun cX794 e00) _
  refine v_aload_n 0 DX3_init_13 rfl rfl ?_
  refine v_sipush DX3_init_14 (by decide) ?_
  refine v_newa (t := 0) (z := 200) DX3_init_17 rfl (by decide) q337 rfl (by decide) (cn_ok wcX794 (by decide)) (cz_ok wcX794 (by decide)) ?_
  rw [cnn wcX794]
  show VV E mX3_init d 19 _ _ (crun cX795 e00) _
  refine v_putR (ci := 3) (kf := 5) (z := 17) DX3_init_19 (csh wcX795 (by decide +kernel)) rfl (by decide) (Or.inr (Or.inr ⟨rfl, rfl, rfl, q734⟩)) (fun _ _ => rfl) rfl rfl (Or.inr (cR wcX795 (by decide +kernel))) ?_
  show VV E mX3_init d 22 _ _ (crun cX796 e00) _
  refine v_aload_n 0 DX3_init_22 rfl rfl ?_
  refine v_sipush DX3_init_23 (by decide) ?_
  refine v_newa (t := 0) (z := 200) DX3_init_26 rfl (by decide) q337 rfl (by decide) (cn_ok wcX796 (by decide)) (cz_ok wcX796 (by decide)) ?_
  rw [cnn wcX796]
  show VV E mX3_init d 28 _ _ (crun cX797 e00) _
  refine v_putR (ci := 3) (kf := 6) (z := 17) DX3_init_28 (csh wcX797 (by decide +kernel)) rfl (by decide) (Or.inr (Or.inr ⟨rfl, rfl, rfl, q737⟩)) (fun _ _ => rfl) rfl rfl (Or.inr (cR wcX797 (by decide +kernel))) ?_
  show VV E mX3_init d 31 _ _ (crun cX798 e00) _
  refine v_aload_n 0 DX3_init_31 rfl rfl ?_
  refine v_sipush DX3_init_32 (by decide) ?_
  refine v_newa (t := 0) (z := 200) DX3_init_35 rfl (by decide) q337 rfl (by decide) (cn_ok wcX798 (by decide)) (cz_ok wcX798 (by decide)) ?_
  rw [cnn wcX798]
  show VV E mX3_init d 37 _ _ (crun cX799 e00) _
  refine v_putR (ci := 3) (kf := 7) (z := 17) DX3_init_37 (csh wcX799 (by decide +kernel)) rfl (by decide) (Or.inr (Or.inr ⟨rfl, rfl, rfl, q740⟩)) (fun _ _ => rfl) rfl rfl (Or.inr (cR wcX799 (by decide +kernel))) ?_
  show VV E mX3_init d 40 _ _ (crun cX800 e00) _
  refine v_aload_n 0 DX3_init_40 rfl rfl ?_
  refine v_sipush DX3_init_41 (by decide) ?_
  refine v_newa (t := 0) (z := 200) DX3_init_44 rfl (by decide) q337 rfl (by decide) (cn_ok wcX800 (by decide)) (cz_ok wcX800 (by decide)) ?_
  rw [cnn wcX800]
  show VV E mX3_init d 46 _ _ (crun cX801 e00) _
  refine v_putR (ci := 3) (kf := 8) (z := 17) DX3_init_46 (csh wcX801 (by decide +kernel)) rfl (by decide) (Or.inr (Or.inr ⟨rfl, rfl, rfl, q743⟩)) (fun _ _ => rfl) rfl rfl (Or.inr (cR wcX801 (by decide +kernel))) ?_
  show VV E mX3_init d 49 _ _ (crun cX802 e00) _
  refine v_aload_n 0 DX3_init_49 rfl rfl ?_
  refine v_sipush DX3_init_50 (by decide) ?_
  refine v_newa (t := 4) (z := 200) DX3_init_53 rfl (by decide) q806 rfl (by decide) (cn_ok wcX802 (by decide)) (cz_ok wcX802 (by decide)) ?_
  rw [cnn wcX802]
  show VV E mX3_init d 55 _ _ (crun cX803 e00) _
  refine v_putR (ci := 3) (kf := 9) (z := 17) DX3_init_55 (csh wcX803 (by decide +kernel)) rfl (by decide) (Or.inr (Or.inr ⟨rfl, rfl, rfl, q746⟩)) (fun _ _ => rfl) rfl rfl (Or.inr (cR wcX803 (by decide +kernel))) ?_
  show VV E mX3_init d 58 _ _ (crun cX804 e00) _
  refine v_aload_n 0 DX3_init_58 rfl rfl ?_
  refine v_sipush DX3_init_59 (by decide) ?_
  refine v_newa (t := 0) (z := 200) DX3_init_62 rfl (by decide) q337 rfl (by decide) (cn_ok wcX804 (by decide)) (cz_ok wcX804 (by decide)) ?_
  rw [cnn wcX804]
  show VV E mX3_init d 64 _ _ (crun cX805 e00) _
  refine v_putR (ci := 3) (kf := 10) (z := 17) DX3_init_64 (csh wcX805 (by decide +kernel)) rfl (by decide) (Or.inr (Or.inr ⟨rfl, rfl, rfl, q749⟩)) (fun _ _ => rfl) rfl rfl (Or.inr (cR wcX805 (by decide +kernel))) ?_
  show VV E mX3_init d 67 _ _ (crun cX806 e00) _
  refine v_aload_n 0 DX3_init_67 rfl rfl ?_
  refine v_sipush DX3_init_68 (by decide) ?_
  refine v_newa (t := 0) (z := 200) DX3_init_71 rfl (by decide) q337 rfl (by decide) (cn_ok wcX806 (by decide)) (cz_ok wcX806 (by decide)) ?_
  rw [cnn wcX806]
  show VV E mX3_init d 73 _ _ (crun cX807 e00) _
  refine v_putR (ci := 3) (kf := 11) (z := 17) DX3_init_73 (csh wcX807 (by decide +kernel)) rfl (by decide) (Or.inr (Or.inr ⟨rfl, rfl, rfl, q752⟩)) (fun _ _ => rfl) rfl rfl (Or.inr (cR wcX807 (by decide +kernel))) ?_
  show VV E mX3_init d 76 _ _ (crun cX808 e00) _
  refine v_aload_n 0 DX3_init_76 rfl rfl ?_
  refine v_sipush DX3_init_77 (by decide) ?_
  refine v_newa (t := 0) (z := 200) DX3_init_80 rfl (by decide) q337 rfl (by decide) (cn_ok wcX808 (by decide)) (cz_ok wcX808 (by decide)) ?_
  rw [cnn wcX808]
  show VV E mX3_init d 82 _ _ (crun cX809 e00) _
  refine v_putR (ci := 3) (kf := 12) (z := 17) DX3_init_82 (csh wcX809 (by decide +kernel)) rfl (by decide) (Or.inr (Or.inr ⟨rfl, rfl, rfl, q755⟩)) (fun _ _ => rfl) rfl rfl (Or.inr (cR wcX809 (by decide +kernel))) ?_
  show VV E mX3_init d 85 _ _ (crun cX810 e00) _
  refine v_aload_n 0 DX3_init_85 rfl rfl ?_
  refine v_sipush DX3_init_86 (by decide) ?_
  refine v_newa (t := 0) (z := 200) DX3_init_89 rfl (by decide) q337 rfl (by decide) (cn_ok wcX810 (by decide)) (cz_ok wcX810 (by decide)) ?_
  rw [cnn wcX810]
  show VV E mX3_init d 91 _ _ (crun cX811 e00) _
  refine v_putR (ci := 3) (kf := 13) (z := 17) DX3_init_91 (csh wcX811 (by decide +kernel)) rfl (by decide) (Or.inr (Or.inr ⟨rfl, rfl, rfl, q758⟩)) (fun _ _ => rfl) rfl rfl (Or.inr (cR wcX811 (by decide +kernel))) ?_
  show VV E mX3_init d 94 _ _ (crun cX812 e00) _
  refine v_aload_n 0 DX3_init_94 rfl rfl ?_
  refine v_sipush DX3_init_95 (by decide) ?_
  refine v_newa (t := 4) (z := 200) DX3_init_98 rfl (by decide) q806 rfl (by decide) (cn_ok wcX812 (by decide)) (cz_ok wcX812 (by decide)) ?_
  rw [cnn wcX812]
  show VV E mX3_init d 100 _ _ (crun cX813 e00) _
  refine v_putR (ci := 3) (kf := 14) (z := 17) DX3_init_100 (csh wcX813 (by decide +kernel)) rfl (by decide) (Or.inr (Or.inr ⟨rfl, rfl, rfl, q761⟩)) (fun _ _ => rfl) rfl rfl (Or.inr (cR wcX813 (by decide +kernel))) ?_
  show VV E mX3_init d 103 _ _ (crun cX814 e00) _
  refine v_aload_n 0 DX3_init_103 rfl rfl ?_
  refine v_sipush DX3_init_104 (by decide) ?_
  refine v_newa (t := 4) (z := 200) DX3_init_107 rfl (by decide) q806 rfl (by decide) (cn_ok wcX814 (by decide)) (cz_ok wcX814 (by decide)) ?_
  rw [cnn wcX814]
  show VV E mX3_init d 109 _ _ (crun cX815 e00) _
  refine v_putR (ci := 3) (kf := 15) (z := 17) DX3_init_109 (csh wcX815 (by decide +kernel)) rfl (by decide) (Or.inr (Or.inr ⟨rfl, rfl, rfl, q764⟩)) (fun _ _ => rfl) rfl rfl (Or.inr (cR wcX815 (by decide +kernel))) ?_
  show VV E mX3_init d 112 _ _ (crun cX816 e00) _
  refine v_aload_n 0 DX3_init_112 rfl rfl ?_
  refine v_sipush DX3_init_113 (by decide) ?_
  refine v_newa (t := 4) (z := 200) DX3_init_116 rfl (by decide) q806 rfl (by decide) (cn_ok wcX816 (by decide)) (cz_ok wcX816 (by decide)) ?_
  rw [cnn wcX816]
  show VV E mX3_init d 118 _ _ (crun cX817 e00) _
  refine v_putR (ci := 3) (kf := 16) (z := 17) DX3_init_118 (csh wcX817 (by decide +kernel)) rfl (by decide) (Or.inr (Or.inr ⟨rfl, rfl, rfl, q767⟩)) (fun _ _ => rfl) rfl rfl (Or.inr (cR wcX817 (by decide +kernel))) ?_
  show VV E mX3_init d 121 _ _ (crun cX818 e00) _
  exact v_vret DX3_init_121 rfl (RV_mk rfl)
def cX819 : List (Nat × Nat × Nat × Nat) := (1, 79, 8, 387) :: cX818
theorem wcX819 : WF 401 1904711 cX819 := ⟨by decide, wcX818⟩
def cX820 : List (Nat × Nat × Nat × Nat) := (0, 103, 17, 401) :: cX819
theorem wcX820 : WF 402 1904728 cX820 := ⟨rfl, by decide, wcX819⟩
def cX821 : List (Nat × Nat × Nat × Nat) := (0, 1, 400, 402) :: cX820
theorem wcX821 : WF 403 1905128 cX821 := ⟨rfl, by decide, wcX820⟩
def cX822 : List (Nat × Nat × Nat × Nat) := (1, 401, 0, 402) :: cX821
theorem wcX822 : WF 403 1905128 cX822 := ⟨by decide, wcX821⟩
def cX823 : List (Nat × Nat × Nat × Nat) := (0, 0, 200, 403) :: cX822
theorem wcX823 : WF 404 1905328 cX823 := ⟨rfl, by decide, wcX822⟩
def cX824 : List (Nat × Nat × Nat × Nat) := (1, 401, 5, 403) :: cX823
theorem wcX824 : WF 404 1905328 cX824 := ⟨by decide, wcX823⟩
def cX825 : List (Nat × Nat × Nat × Nat) := (0, 0, 200, 404) :: cX824
theorem wcX825 : WF 405 1905528 cX825 := ⟨rfl, by decide, wcX824⟩
def cX826 : List (Nat × Nat × Nat × Nat) := (1, 401, 6, 404) :: cX825
theorem wcX826 : WF 405 1905528 cX826 := ⟨by decide, wcX825⟩
def cX827 : List (Nat × Nat × Nat × Nat) := (0, 0, 200, 405) :: cX826
theorem wcX827 : WF 406 1905728 cX827 := ⟨rfl, by decide, wcX826⟩
def cX828 : List (Nat × Nat × Nat × Nat) := (1, 401, 7, 405) :: cX827
theorem wcX828 : WF 406 1905728 cX828 := ⟨by decide, wcX827⟩
def cX829 : List (Nat × Nat × Nat × Nat) := (0, 0, 200, 406) :: cX828
theorem wcX829 : WF 407 1905928 cX829 := ⟨rfl, by decide, wcX828⟩
def cX830 : List (Nat × Nat × Nat × Nat) := (1, 401, 8, 406) :: cX829
theorem wcX830 : WF 407 1905928 cX830 := ⟨by decide, wcX829⟩
def cX831 : List (Nat × Nat × Nat × Nat) := (0, 4, 200, 407) :: cX830
theorem wcX831 : WF 408 1906128 cX831 := ⟨rfl, by decide, wcX830⟩
def cX832 : List (Nat × Nat × Nat × Nat) := (1, 401, 9, 407) :: cX831
theorem wcX832 : WF 408 1906128 cX832 := ⟨by decide, wcX831⟩
def cX833 : List (Nat × Nat × Nat × Nat) := (0, 0, 200, 408) :: cX832
theorem wcX833 : WF 409 1906328 cX833 := ⟨rfl, by decide, wcX832⟩
def cX834 : List (Nat × Nat × Nat × Nat) := (1, 401, 10, 408) :: cX833
theorem wcX834 : WF 409 1906328 cX834 := ⟨by decide, wcX833⟩
def cX835 : List (Nat × Nat × Nat × Nat) := (0, 0, 200, 409) :: cX834
theorem wcX835 : WF 410 1906528 cX835 := ⟨rfl, by decide, wcX834⟩
def cX836 : List (Nat × Nat × Nat × Nat) := (1, 401, 11, 409) :: cX835
theorem wcX836 : WF 410 1906528 cX836 := ⟨by decide, wcX835⟩
def cX837 : List (Nat × Nat × Nat × Nat) := (0, 0, 200, 410) :: cX836
theorem wcX837 : WF 411 1906728 cX837 := ⟨rfl, by decide, wcX836⟩
def cX838 : List (Nat × Nat × Nat × Nat) := (1, 401, 12, 410) :: cX837
theorem wcX838 : WF 411 1906728 cX838 := ⟨by decide, wcX837⟩
def cX839 : List (Nat × Nat × Nat × Nat) := (0, 0, 200, 411) :: cX838
theorem wcX839 : WF 412 1906928 cX839 := ⟨rfl, by decide, wcX838⟩
def cX840 : List (Nat × Nat × Nat × Nat) := (1, 401, 13, 411) :: cX839
theorem wcX840 : WF 412 1906928 cX840 := ⟨by decide, wcX839⟩
def cX841 : List (Nat × Nat × Nat × Nat) := (0, 4, 200, 412) :: cX840
theorem wcX841 : WF 413 1907128 cX841 := ⟨rfl, by decide, wcX840⟩
def cX842 : List (Nat × Nat × Nat × Nat) := (1, 401, 14, 412) :: cX841
theorem wcX842 : WF 413 1907128 cX842 := ⟨by decide, wcX841⟩
def cX843 : List (Nat × Nat × Nat × Nat) := (0, 4, 200, 413) :: cX842
theorem wcX843 : WF 414 1907328 cX843 := ⟨rfl, by decide, wcX842⟩
def cX844 : List (Nat × Nat × Nat × Nat) := (1, 401, 15, 413) :: cX843
theorem wcX844 : WF 414 1907328 cX844 := ⟨by decide, wcX843⟩
def cX845 : List (Nat × Nat × Nat × Nat) := (0, 4, 200, 414) :: cX844
theorem wcX845 : WF 415 1907528 cX845 := ⟨rfl, by decide, wcX844⟩
def cX846 : List (Nat × Nat × Nat × Nat) := (1, 401, 16, 414) :: cX845
theorem wcX846 : WF 415 1907528 cX846 := ⟨by decide, wcX845⟩
theorem ct_X0_24 {E : XE} {d : Nat} (hd : 2 ≤ d) : CC E mX3_init d [aO 401] (crun cX820 e00) (RV (fun τ => τ = crun cX846 e00)) := by
  refine v_aload_n 0 DX3_init_0 rfl rfl ?_
  refine v_objInit DX3_init_1 q717 q309 q310 (by omega) (by decide) ?_
  refine v_aload_n 0 DX3_init_4 rfl rfl ?_
  refine v_sipush DX3_init_5 (by decide) ?_
  refine v_newa (t := 1) (z := 400) DX3_init_8 rfl (by decide) q336 rfl (by decide) (cn_ok wcX820 (by decide)) (cz_ok wcX820 (by decide)) ?_
  rw [cnn wcX820]
  show VV E mX3_init d 10 _ _ (crun cX821 e00) _
  refine v_putR (ci := 3) (kf := 0) (z := 17) DX3_init_10 (csh wcX821 (by decide +kernel)) rfl (by decide) (Or.inr (Or.inr ⟨rfl, rfl, rfl, q718⟩)) (fun _ _ => rfl) rfl rfl (Or.inr (cR wcX821 (by decide +kernel))) ?_
  show VV E mX3_init d 13 _ _ (crun cX822 e00) _
  refine v_aload_n 0 DX3_init_13 rfl rfl ?_
  refine v_sipush DX3_init_14 (by decide) ?_
  refine v_newa (t := 0) (z := 200) DX3_init_17 rfl (by decide) q337 rfl (by decide) (cn_ok wcX822 (by decide)) (cz_ok wcX822 (by decide)) ?_
  rw [cnn wcX822]
  show VV E mX3_init d 19 _ _ (crun cX823 e00) _
  refine v_putR (ci := 3) (kf := 5) (z := 17) DX3_init_19 (csh wcX823 (by decide +kernel)) rfl (by decide) (Or.inr (Or.inr ⟨rfl, rfl, rfl, q734⟩)) (fun _ _ => rfl) rfl rfl (Or.inr (cR wcX823 (by decide +kernel))) ?_
  show VV E mX3_init d 22 _ _ (crun cX824 e00) _
  refine v_aload_n 0 DX3_init_22 rfl rfl ?_
  refine v_sipush DX3_init_23 (by decide) ?_
  refine v_newa (t := 0) (z := 200) DX3_init_26 rfl (by decide) q337 rfl (by decide) (cn_ok wcX824 (by decide)) (cz_ok wcX824 (by decide)) ?_
  rw [cnn wcX824]
  show VV E mX3_init d 28 _ _ (crun cX825 e00) _
  refine v_putR (ci := 3) (kf := 6) (z := 17) DX3_init_28 (csh wcX825 (by decide +kernel)) rfl (by decide) (Or.inr (Or.inr ⟨rfl, rfl, rfl, q737⟩)) (fun _ _ => rfl) rfl rfl (Or.inr (cR wcX825 (by decide +kernel))) ?_
  show VV E mX3_init d 31 _ _ (crun cX826 e00) _
  refine v_aload_n 0 DX3_init_31 rfl rfl ?_
  refine v_sipush DX3_init_32 (by decide) ?_
  refine v_newa (t := 0) (z := 200) DX3_init_35 rfl (by decide) q337 rfl (by decide) (cn_ok wcX826 (by decide)) (cz_ok wcX826 (by decide)) ?_
  rw [cnn wcX826]
  show VV E mX3_init d 37 _ _ (crun cX827 e00) _
  refine v_putR (ci := 3) (kf := 7) (z := 17) DX3_init_37 (csh wcX827 (by decide +kernel)) rfl (by decide) (Or.inr (Or.inr ⟨rfl, rfl, rfl, q740⟩)) (fun _ _ => rfl) rfl rfl (Or.inr (cR wcX827 (by decide +kernel))) ?_
  show VV E mX3_init d 40 _ _ (crun cX828 e00) _
  refine v_aload_n 0 DX3_init_40 rfl rfl ?_
  refine v_sipush DX3_init_41 (by decide) ?_
  refine v_newa (t := 0) (z := 200) DX3_init_44 rfl (by decide) q337 rfl (by decide) (cn_ok wcX828 (by decide)) (cz_ok wcX828 (by decide)) ?_
  rw [cnn wcX828]
  show VV E mX3_init d 46 _ _ (crun cX829 e00) _
  refine v_putR (ci := 3) (kf := 8) (z := 17) DX3_init_46 (csh wcX829 (by decide +kernel)) rfl (by decide) (Or.inr (Or.inr ⟨rfl, rfl, rfl, q743⟩)) (fun _ _ => rfl) rfl rfl (Or.inr (cR wcX829 (by decide +kernel))) ?_
  show VV E mX3_init d 49 _ _ (crun cX830 e00) _
  refine v_aload_n 0 DX3_init_49 rfl rfl ?_
  refine v_sipush DX3_init_50 (by decide) ?_
  refine v_newa (t := 4) (z := 200) DX3_init_53 rfl (by decide) q806 rfl (by decide) (cn_ok wcX830 (by decide)) (cz_ok wcX830 (by decide)) ?_
  rw [cnn wcX830]
  show VV E mX3_init d 55 _ _ (crun cX831 e00) _
  refine v_putR (ci := 3) (kf := 9) (z := 17) DX3_init_55 (csh wcX831 (by decide +kernel)) rfl (by decide) (Or.inr (Or.inr ⟨rfl, rfl, rfl, q746⟩)) (fun _ _ => rfl) rfl rfl (Or.inr (cR wcX831 (by decide +kernel))) ?_
  show VV E mX3_init d 58 _ _ (crun cX832 e00) _
  refine v_aload_n 0 DX3_init_58 rfl rfl ?_
  refine v_sipush DX3_init_59 (by decide) ?_
  refine v_newa (t := 0) (z := 200) DX3_init_62 rfl (by decide) q337 rfl (by decide) (cn_ok wcX832 (by decide)) (cz_ok wcX832 (by decide)) ?_
  rw [cnn wcX832]
  show VV E mX3_init d 64 _ _ (crun cX833 e00) _
  refine v_putR (ci := 3) (kf := 10) (z := 17) DX3_init_64 (csh wcX833 (by decide +kernel)) rfl (by decide) (Or.inr (Or.inr ⟨rfl, rfl, rfl, q749⟩)) (fun _ _ => rfl) rfl rfl (Or.inr (cR wcX833 (by decide +kernel))) ?_
  show VV E mX3_init d 67 _ _ (crun cX834 e00) _
  refine v_aload_n 0 DX3_init_67 rfl rfl ?_
  refine v_sipush DX3_init_68 (by decide) ?_
  refine v_newa (t := 0) (z := 200) DX3_init_71 rfl (by decide) q337 rfl (by decide) (cn_ok wcX834 (by decide)) (cz_ok wcX834 (by decide)) ?_
  rw [cnn wcX834]
  show VV E mX3_init d 73 _ _ (crun cX835 e00) _
  refine v_putR (ci := 3) (kf := 11) (z := 17) DX3_init_73 (csh wcX835 (by decide +kernel)) rfl (by decide) (Or.inr (Or.inr ⟨rfl, rfl, rfl, q752⟩)) (fun _ _ => rfl) rfl rfl (Or.inr (cR wcX835 (by decide +kernel))) ?_
  show VV E mX3_init d 76 _ _ (crun cX836 e00) _
  refine v_aload_n 0 DX3_init_76 rfl rfl ?_
  refine v_sipush DX3_init_77 (by decide) ?_
  refine v_newa (t := 0) (z := 200) DX3_init_80 rfl (by decide) q337 rfl (by decide) (cn_ok wcX836 (by decide)) (cz_ok wcX836 (by decide)) ?_
  rw [cnn wcX836]
  show VV E mX3_init d 82 _ _ (crun cX837 e00) _
  refine v_putR (ci := 3) (kf := 12) (z := 17) DX3_init_82 (csh wcX837 (by decide +kernel)) rfl (by decide) (Or.inr (Or.inr ⟨rfl, rfl, rfl, q755⟩)) (fun _ _ => rfl) rfl rfl (Or.inr (cR wcX837 (by decide +kernel))) ?_
  show VV E mX3_init d 85 _ _ (crun cX838 e00) _
  refine v_aload_n 0 DX3_init_85 rfl rfl ?_
  refine v_sipush DX3_init_86 (by decide) ?_
  refine v_newa (t := 0) (z := 200) DX3_init_89 rfl (by decide) q337 rfl (by decide) (cn_ok wcX838 (by decide)) (cz_ok wcX838 (by decide)) ?_
  rw [cnn wcX838]
  show VV E mX3_init d 91 _ _ (crun cX839 e00) _
  refine v_putR (ci := 3) (kf := 13) (z := 17) DX3_init_91 (csh wcX839 (by decide +kernel)) rfl (by decide) (Or.inr (Or.inr ⟨rfl, rfl, rfl, q758⟩)) (fun _ _ => rfl) rfl rfl (Or.inr (cR wcX839 (by decide +kernel))) ?_
  show VV E mX3_init d 94 _ _ (crun cX840 e00) _
  refine v_aload_n 0 DX3_init_94 rfl rfl ?_
  refine v_sipush DX3_init_95 (by decide) ?_
  refine v_newa (t := 4) (z := 200) DX3_init_98 rfl (by decide) q806 rfl (by decide) (cn_ok wcX840 (by decide)) (cz_ok wcX840 (by decide)) ?_
  rw [cnn wcX840]
  show VV E mX3_init d 100 _ _ (crun cX841 e00) _
  refine v_putR (ci := 3) (kf := 14) (z := 17) DX3_init_100 (csh wcX841 (by decide +kernel)) rfl (by decide) (Or.inr (Or.inr ⟨rfl, rfl, rfl, q761⟩)) (fun _ _ => rfl) rfl rfl (Or.inr (cR wcX841 (by decide +kernel))) ?_
  show VV E mX3_init d 103 _ _ (crun cX842 e00) _
  refine v_aload_n 0 DX3_init_103 rfl rfl ?_
  refine v_sipush DX3_init_104 (by decide) ?_
  refine v_newa (t := 4) (z := 200) DX3_init_107 rfl (by decide) q806 rfl (by decide) (cn_ok wcX842 (by decide)) (cz_ok wcX842 (by decide)) ?_
  rw [cnn wcX842]
  show VV E mX3_init d 109 _ _ (crun cX843 e00) _
  refine v_putR (ci := 3) (kf := 15) (z := 17) DX3_init_109 (csh wcX843 (by decide +kernel)) rfl (by decide) (Or.inr (Or.inr ⟨rfl, rfl, rfl, q764⟩)) (fun _ _ => rfl) rfl rfl (Or.inr (cR wcX843 (by decide +kernel))) ?_
  show VV E mX3_init d 112 _ _ (crun cX844 e00) _
  refine v_aload_n 0 DX3_init_112 rfl rfl ?_
  refine v_sipush DX3_init_113 (by decide) ?_
  refine v_newa (t := 4) (z := 200) DX3_init_116 rfl (by decide) q806 rfl (by decide) (cn_ok wcX844 (by decide)) (cz_ok wcX844 (by decide)) ?_
  rw [cnn wcX844]
  show VV E mX3_init d 118 _ _ (crun cX845 e00) _
  refine v_putR (ci := 3) (kf := 16) (z := 17) DX3_init_118 (csh wcX845 (by decide +kernel)) rfl (by decide) (Or.inr (Or.inr ⟨rfl, rfl, rfl, q767⟩)) (fun _ _ => rfl) rfl rfl (Or.inr (cR wcX845 (by decide +kernel))) ?_
  show VV E mX3_init d 121 _ _ (crun cX846 e00) _
  exact v_vret DX3_init_121 rfl (RV_mk rfl)
def cX847 : List (Nat × Nat × Nat × Nat) := (1, 79, 9, 401) :: cX846
theorem wcX847 : WF 415 1907528 cX847 := ⟨by decide, wcX846⟩
def cX848 : List (Nat × Nat × Nat × Nat) := (0, 103, 17, 415) :: cX847
theorem wcX848 : WF 416 1907545 cX848 := ⟨rfl, by decide, wcX847⟩
def cX849 : List (Nat × Nat × Nat × Nat) := (0, 1, 400, 416) :: cX848
theorem wcX849 : WF 417 1907945 cX849 := ⟨rfl, by decide, wcX848⟩
def cX850 : List (Nat × Nat × Nat × Nat) := (1, 415, 0, 416) :: cX849
theorem wcX850 : WF 417 1907945 cX850 := ⟨by decide, wcX849⟩
def cX851 : List (Nat × Nat × Nat × Nat) := (0, 0, 200, 417) :: cX850
theorem wcX851 : WF 418 1908145 cX851 := ⟨rfl, by decide, wcX850⟩
def cX852 : List (Nat × Nat × Nat × Nat) := (1, 415, 5, 417) :: cX851
theorem wcX852 : WF 418 1908145 cX852 := ⟨by decide, wcX851⟩
def cX853 : List (Nat × Nat × Nat × Nat) := (0, 0, 200, 418) :: cX852
theorem wcX853 : WF 419 1908345 cX853 := ⟨rfl, by decide, wcX852⟩
def cX854 : List (Nat × Nat × Nat × Nat) := (1, 415, 6, 418) :: cX853
theorem wcX854 : WF 419 1908345 cX854 := ⟨by decide, wcX853⟩
def cX855 : List (Nat × Nat × Nat × Nat) := (0, 0, 200, 419) :: cX854
theorem wcX855 : WF 420 1908545 cX855 := ⟨rfl, by decide, wcX854⟩
def cX856 : List (Nat × Nat × Nat × Nat) := (1, 415, 7, 419) :: cX855
theorem wcX856 : WF 420 1908545 cX856 := ⟨by decide, wcX855⟩
def cX857 : List (Nat × Nat × Nat × Nat) := (0, 0, 200, 420) :: cX856
theorem wcX857 : WF 421 1908745 cX857 := ⟨rfl, by decide, wcX856⟩
def cX858 : List (Nat × Nat × Nat × Nat) := (1, 415, 8, 420) :: cX857
theorem wcX858 : WF 421 1908745 cX858 := ⟨by decide, wcX857⟩
def cX859 : List (Nat × Nat × Nat × Nat) := (0, 4, 200, 421) :: cX858
theorem wcX859 : WF 422 1908945 cX859 := ⟨rfl, by decide, wcX858⟩
def cX860 : List (Nat × Nat × Nat × Nat) := (1, 415, 9, 421) :: cX859
theorem wcX860 : WF 422 1908945 cX860 := ⟨by decide, wcX859⟩
def cX861 : List (Nat × Nat × Nat × Nat) := (0, 0, 200, 422) :: cX860
theorem wcX861 : WF 423 1909145 cX861 := ⟨rfl, by decide, wcX860⟩
def cX862 : List (Nat × Nat × Nat × Nat) := (1, 415, 10, 422) :: cX861
theorem wcX862 : WF 423 1909145 cX862 := ⟨by decide, wcX861⟩
def cX863 : List (Nat × Nat × Nat × Nat) := (0, 0, 200, 423) :: cX862
theorem wcX863 : WF 424 1909345 cX863 := ⟨rfl, by decide, wcX862⟩
def cX864 : List (Nat × Nat × Nat × Nat) := (1, 415, 11, 423) :: cX863
theorem wcX864 : WF 424 1909345 cX864 := ⟨by decide, wcX863⟩
def cX865 : List (Nat × Nat × Nat × Nat) := (0, 0, 200, 424) :: cX864
theorem wcX865 : WF 425 1909545 cX865 := ⟨rfl, by decide, wcX864⟩
def cX866 : List (Nat × Nat × Nat × Nat) := (1, 415, 12, 424) :: cX865
theorem wcX866 : WF 425 1909545 cX866 := ⟨by decide, wcX865⟩
def cX867 : List (Nat × Nat × Nat × Nat) := (0, 0, 200, 425) :: cX866
theorem wcX867 : WF 426 1909745 cX867 := ⟨rfl, by decide, wcX866⟩
def cX868 : List (Nat × Nat × Nat × Nat) := (1, 415, 13, 425) :: cX867
theorem wcX868 : WF 426 1909745 cX868 := ⟨by decide, wcX867⟩
def cX869 : List (Nat × Nat × Nat × Nat) := (0, 4, 200, 426) :: cX868
theorem wcX869 : WF 427 1909945 cX869 := ⟨rfl, by decide, wcX868⟩
def cX870 : List (Nat × Nat × Nat × Nat) := (1, 415, 14, 426) :: cX869
theorem wcX870 : WF 427 1909945 cX870 := ⟨by decide, wcX869⟩
def cX871 : List (Nat × Nat × Nat × Nat) := (0, 4, 200, 427) :: cX870
theorem wcX871 : WF 428 1910145 cX871 := ⟨rfl, by decide, wcX870⟩
def cX872 : List (Nat × Nat × Nat × Nat) := (1, 415, 15, 427) :: cX871
theorem wcX872 : WF 428 1910145 cX872 := ⟨by decide, wcX871⟩
def cX873 : List (Nat × Nat × Nat × Nat) := (0, 4, 200, 428) :: cX872
theorem wcX873 : WF 429 1910345 cX873 := ⟨rfl, by decide, wcX872⟩
def cX874 : List (Nat × Nat × Nat × Nat) := (1, 415, 16, 428) :: cX873
theorem wcX874 : WF 429 1910345 cX874 := ⟨by decide, wcX873⟩
theorem ct_X0_25 {E : XE} {d : Nat} (hd : 2 ≤ d) : CC E mX3_init d [aO 415] (crun cX848 e00) (RV (fun τ => τ = crun cX874 e00)) := by
  refine v_aload_n 0 DX3_init_0 rfl rfl ?_
  refine v_objInit DX3_init_1 q717 q309 q310 (by omega) (by decide) ?_
  refine v_aload_n 0 DX3_init_4 rfl rfl ?_
  refine v_sipush DX3_init_5 (by decide) ?_
  refine v_newa (t := 1) (z := 400) DX3_init_8 rfl (by decide) q336 rfl (by decide) (cn_ok wcX848 (by decide)) (cz_ok wcX848 (by decide)) ?_
  rw [cnn wcX848]
  show VV E mX3_init d 10 _ _ (crun cX849 e00) _
  refine v_putR (ci := 3) (kf := 0) (z := 17) DX3_init_10 (csh wcX849 (by decide +kernel)) rfl (by decide) (Or.inr (Or.inr ⟨rfl, rfl, rfl, q718⟩)) (fun _ _ => rfl) rfl rfl (Or.inr (cR wcX849 (by decide +kernel))) ?_
  show VV E mX3_init d 13 _ _ (crun cX850 e00) _
  refine v_aload_n 0 DX3_init_13 rfl rfl ?_
  refine v_sipush DX3_init_14 (by decide) ?_
  refine v_newa (t := 0) (z := 200) DX3_init_17 rfl (by decide) q337 rfl (by decide) (cn_ok wcX850 (by decide)) (cz_ok wcX850 (by decide)) ?_
  rw [cnn wcX850]
  show VV E mX3_init d 19 _ _ (crun cX851 e00) _
  refine v_putR (ci := 3) (kf := 5) (z := 17) DX3_init_19 (csh wcX851 (by decide +kernel)) rfl (by decide) (Or.inr (Or.inr ⟨rfl, rfl, rfl, q734⟩)) (fun _ _ => rfl) rfl rfl (Or.inr (cR wcX851 (by decide +kernel))) ?_
  show VV E mX3_init d 22 _ _ (crun cX852 e00) _
  refine v_aload_n 0 DX3_init_22 rfl rfl ?_
  refine v_sipush DX3_init_23 (by decide) ?_
  refine v_newa (t := 0) (z := 200) DX3_init_26 rfl (by decide) q337 rfl (by decide) (cn_ok wcX852 (by decide)) (cz_ok wcX852 (by decide)) ?_
  rw [cnn wcX852]
  show VV E mX3_init d 28 _ _ (crun cX853 e00) _
  refine v_putR (ci := 3) (kf := 6) (z := 17) DX3_init_28 (csh wcX853 (by decide +kernel)) rfl (by decide) (Or.inr (Or.inr ⟨rfl, rfl, rfl, q737⟩)) (fun _ _ => rfl) rfl rfl (Or.inr (cR wcX853 (by decide +kernel))) ?_
  show VV E mX3_init d 31 _ _ (crun cX854 e00) _
  refine v_aload_n 0 DX3_init_31 rfl rfl ?_
  refine v_sipush DX3_init_32 (by decide) ?_
  refine v_newa (t := 0) (z := 200) DX3_init_35 rfl (by decide) q337 rfl (by decide) (cn_ok wcX854 (by decide)) (cz_ok wcX854 (by decide)) ?_
  rw [cnn wcX854]
  show VV E mX3_init d 37 _ _ (crun cX855 e00) _
  refine v_putR (ci := 3) (kf := 7) (z := 17) DX3_init_37 (csh wcX855 (by decide +kernel)) rfl (by decide) (Or.inr (Or.inr ⟨rfl, rfl, rfl, q740⟩)) (fun _ _ => rfl) rfl rfl (Or.inr (cR wcX855 (by decide +kernel))) ?_
  show VV E mX3_init d 40 _ _ (crun cX856 e00) _
  refine v_aload_n 0 DX3_init_40 rfl rfl ?_
  refine v_sipush DX3_init_41 (by decide) ?_
  refine v_newa (t := 0) (z := 200) DX3_init_44 rfl (by decide) q337 rfl (by decide) (cn_ok wcX856 (by decide)) (cz_ok wcX856 (by decide)) ?_
  rw [cnn wcX856]
  show VV E mX3_init d 46 _ _ (crun cX857 e00) _
  refine v_putR (ci := 3) (kf := 8) (z := 17) DX3_init_46 (csh wcX857 (by decide +kernel)) rfl (by decide) (Or.inr (Or.inr ⟨rfl, rfl, rfl, q743⟩)) (fun _ _ => rfl) rfl rfl (Or.inr (cR wcX857 (by decide +kernel))) ?_
  show VV E mX3_init d 49 _ _ (crun cX858 e00) _
  refine v_aload_n 0 DX3_init_49 rfl rfl ?_
  refine v_sipush DX3_init_50 (by decide) ?_
  refine v_newa (t := 4) (z := 200) DX3_init_53 rfl (by decide) q806 rfl (by decide) (cn_ok wcX858 (by decide)) (cz_ok wcX858 (by decide)) ?_
  rw [cnn wcX858]
  show VV E mX3_init d 55 _ _ (crun cX859 e00) _
  refine v_putR (ci := 3) (kf := 9) (z := 17) DX3_init_55 (csh wcX859 (by decide +kernel)) rfl (by decide) (Or.inr (Or.inr ⟨rfl, rfl, rfl, q746⟩)) (fun _ _ => rfl) rfl rfl (Or.inr (cR wcX859 (by decide +kernel))) ?_
  show VV E mX3_init d 58 _ _ (crun cX860 e00) _
  refine v_aload_n 0 DX3_init_58 rfl rfl ?_
  refine v_sipush DX3_init_59 (by decide) ?_
  refine v_newa (t := 0) (z := 200) DX3_init_62 rfl (by decide) q337 rfl (by decide) (cn_ok wcX860 (by decide)) (cz_ok wcX860 (by decide)) ?_
  rw [cnn wcX860]
  show VV E mX3_init d 64 _ _ (crun cX861 e00) _
  refine v_putR (ci := 3) (kf := 10) (z := 17) DX3_init_64 (csh wcX861 (by decide +kernel)) rfl (by decide) (Or.inr (Or.inr ⟨rfl, rfl, rfl, q749⟩)) (fun _ _ => rfl) rfl rfl (Or.inr (cR wcX861 (by decide +kernel))) ?_
  show VV E mX3_init d 67 _ _ (crun cX862 e00) _
  refine v_aload_n 0 DX3_init_67 rfl rfl ?_
  refine v_sipush DX3_init_68 (by decide) ?_
  refine v_newa (t := 0) (z := 200) DX3_init_71 rfl (by decide) q337 rfl (by decide) (cn_ok wcX862 (by decide)) (cz_ok wcX862 (by decide)) ?_
  rw [cnn wcX862]
  show VV E mX3_init d 73 _ _ (crun cX863 e00) _
  refine v_putR (ci := 3) (kf := 11) (z := 17) DX3_init_73 (csh wcX863 (by decide +kernel)) rfl (by decide) (Or.inr (Or.inr ⟨rfl, rfl, rfl, q752⟩)) (fun _ _ => rfl) rfl rfl (Or.inr (cR wcX863 (by decide +kernel))) ?_
  show VV E mX3_init d 76 _ _ (crun cX864 e00) _
  refine v_aload_n 0 DX3_init_76 rfl rfl ?_
  refine v_sipush DX3_init_77 (by decide) ?_
  refine v_newa (t := 0) (z := 200) DX3_init_80 rfl (by decide) q337 rfl (by decide) (cn_ok wcX864 (by decide)) (cz_ok wcX864 (by decide)) ?_
  rw [cnn wcX864]
  show VV E mX3_init d 82 _ _ (crun cX865 e00) _
  refine v_putR (ci := 3) (kf := 12) (z := 17) DX3_init_82 (csh wcX865 (by decide +kernel)) rfl (by decide) (Or.inr (Or.inr ⟨rfl, rfl, rfl, q755⟩)) (fun _ _ => rfl) rfl rfl (Or.inr (cR wcX865 (by decide +kernel))) ?_
  show VV E mX3_init d 85 _ _ (crun cX866 e00) _
  refine v_aload_n 0 DX3_init_85 rfl rfl ?_
  refine v_sipush DX3_init_86 (by decide) ?_
  refine v_newa (t := 0) (z := 200) DX3_init_89 rfl (by decide) q337 rfl (by decide) (cn_ok wcX866 (by decide)) (cz_ok wcX866 (by decide)) ?_
  rw [cnn wcX866]
  show VV E mX3_init d 91 _ _ (crun cX867 e00) _
  refine v_putR (ci := 3) (kf := 13) (z := 17) DX3_init_91 (csh wcX867 (by decide +kernel)) rfl (by decide) (Or.inr (Or.inr ⟨rfl, rfl, rfl, q758⟩)) (fun _ _ => rfl) rfl rfl (Or.inr (cR wcX867 (by decide +kernel))) ?_
  show VV E mX3_init d 94 _ _ (crun cX868 e00) _
  refine v_aload_n 0 DX3_init_94 rfl rfl ?_
  refine v_sipush DX3_init_95 (by decide) ?_
  refine v_newa (t := 4) (z := 200) DX3_init_98 rfl (by decide) q806 rfl (by decide) (cn_ok wcX868 (by decide)) (cz_ok wcX868 (by decide)) ?_
  rw [cnn wcX868]
  show VV E mX3_init d 100 _ _ (crun cX869 e00) _
  refine v_putR (ci := 3) (kf := 14) (z := 17) DX3_init_100 (csh wcX869 (by decide +kernel)) rfl (by decide) (Or.inr (Or.inr ⟨rfl, rfl, rfl, q761⟩)) (fun _ _ => rfl) rfl rfl (Or.inr (cR wcX869 (by decide +kernel))) ?_
  show VV E mX3_init d 103 _ _ (crun cX870 e00) _
  refine v_aload_n 0 DX3_init_103 rfl rfl ?_
  refine v_sipush DX3_init_104 (by decide) ?_
  refine v_newa (t := 4) (z := 200) DX3_init_107 rfl (by decide) q806 rfl (by decide) (cn_ok wcX870 (by decide)) (cz_ok wcX870 (by decide)) ?_
  rw [cnn wcX870]
  show VV E mX3_init d 109 _ _ (crun cX871 e00) _
  refine v_putR (ci := 3) (kf := 15) (z := 17) DX3_init_109 (csh wcX871 (by decide +kernel)) rfl (by decide) (Or.inr (Or.inr ⟨rfl, rfl, rfl, q764⟩)) (fun _ _ => rfl) rfl rfl (Or.inr (cR wcX871 (by decide +kernel))) ?_
  show VV E mX3_init d 112 _ _ (crun cX872 e00) _
  refine v_aload_n 0 DX3_init_112 rfl rfl ?_
  refine v_sipush DX3_init_113 (by decide) ?_
  refine v_newa (t := 4) (z := 200) DX3_init_116 rfl (by decide) q806 rfl (by decide) (cn_ok wcX872 (by decide)) (cz_ok wcX872 (by decide)) ?_
  rw [cnn wcX872]
  show VV E mX3_init d 118 _ _ (crun cX873 e00) _
  refine v_putR (ci := 3) (kf := 16) (z := 17) DX3_init_118 (csh wcX873 (by decide +kernel)) rfl (by decide) (Or.inr (Or.inr ⟨rfl, rfl, rfl, q767⟩)) (fun _ _ => rfl) rfl rfl (Or.inr (cR wcX873 (by decide +kernel))) ?_
  show VV E mX3_init d 121 _ _ (crun cX874 e00) _
  exact v_vret DX3_init_121 rfl (RV_mk rfl)
def cX875 : List (Nat × Nat × Nat × Nat) := (1, 79, 10, 415) :: cX874
theorem wcX875 : WF 429 1910345 cX875 := ⟨by decide, wcX874⟩
def cX876 : List (Nat × Nat × Nat × Nat) := (0, 103, 17, 429) :: cX875
theorem wcX876 : WF 430 1910362 cX876 := ⟨rfl, by decide, wcX875⟩
def cX877 : List (Nat × Nat × Nat × Nat) := (0, 1, 400, 430) :: cX876
theorem wcX877 : WF 431 1910762 cX877 := ⟨rfl, by decide, wcX876⟩
def cX878 : List (Nat × Nat × Nat × Nat) := (1, 429, 0, 430) :: cX877
theorem wcX878 : WF 431 1910762 cX878 := ⟨by decide, wcX877⟩
def cX879 : List (Nat × Nat × Nat × Nat) := (0, 0, 200, 431) :: cX878
theorem wcX879 : WF 432 1910962 cX879 := ⟨rfl, by decide, wcX878⟩
def cX880 : List (Nat × Nat × Nat × Nat) := (1, 429, 5, 431) :: cX879
theorem wcX880 : WF 432 1910962 cX880 := ⟨by decide, wcX879⟩
def cX881 : List (Nat × Nat × Nat × Nat) := (0, 0, 200, 432) :: cX880
theorem wcX881 : WF 433 1911162 cX881 := ⟨rfl, by decide, wcX880⟩
def cX882 : List (Nat × Nat × Nat × Nat) := (1, 429, 6, 432) :: cX881
theorem wcX882 : WF 433 1911162 cX882 := ⟨by decide, wcX881⟩
def cX883 : List (Nat × Nat × Nat × Nat) := (0, 0, 200, 433) :: cX882
theorem wcX883 : WF 434 1911362 cX883 := ⟨rfl, by decide, wcX882⟩
def cX884 : List (Nat × Nat × Nat × Nat) := (1, 429, 7, 433) :: cX883
theorem wcX884 : WF 434 1911362 cX884 := ⟨by decide, wcX883⟩
def cX885 : List (Nat × Nat × Nat × Nat) := (0, 0, 200, 434) :: cX884
theorem wcX885 : WF 435 1911562 cX885 := ⟨rfl, by decide, wcX884⟩
def cX886 : List (Nat × Nat × Nat × Nat) := (1, 429, 8, 434) :: cX885
theorem wcX886 : WF 435 1911562 cX886 := ⟨by decide, wcX885⟩
def cX887 : List (Nat × Nat × Nat × Nat) := (0, 4, 200, 435) :: cX886
theorem wcX887 : WF 436 1911762 cX887 := ⟨rfl, by decide, wcX886⟩
def cX888 : List (Nat × Nat × Nat × Nat) := (1, 429, 9, 435) :: cX887
theorem wcX888 : WF 436 1911762 cX888 := ⟨by decide, wcX887⟩
def cX889 : List (Nat × Nat × Nat × Nat) := (0, 0, 200, 436) :: cX888
theorem wcX889 : WF 437 1911962 cX889 := ⟨rfl, by decide, wcX888⟩
def cX890 : List (Nat × Nat × Nat × Nat) := (1, 429, 10, 436) :: cX889
theorem wcX890 : WF 437 1911962 cX890 := ⟨by decide, wcX889⟩
def cX891 : List (Nat × Nat × Nat × Nat) := (0, 0, 200, 437) :: cX890
theorem wcX891 : WF 438 1912162 cX891 := ⟨rfl, by decide, wcX890⟩
def cX892 : List (Nat × Nat × Nat × Nat) := (1, 429, 11, 437) :: cX891
theorem wcX892 : WF 438 1912162 cX892 := ⟨by decide, wcX891⟩
def cX893 : List (Nat × Nat × Nat × Nat) := (0, 0, 200, 438) :: cX892
theorem wcX893 : WF 439 1912362 cX893 := ⟨rfl, by decide, wcX892⟩
def cX894 : List (Nat × Nat × Nat × Nat) := (1, 429, 12, 438) :: cX893
theorem wcX894 : WF 439 1912362 cX894 := ⟨by decide, wcX893⟩
def cX895 : List (Nat × Nat × Nat × Nat) := (0, 0, 200, 439) :: cX894
theorem wcX895 : WF 440 1912562 cX895 := ⟨rfl, by decide, wcX894⟩
def cX896 : List (Nat × Nat × Nat × Nat) := (1, 429, 13, 439) :: cX895
theorem wcX896 : WF 440 1912562 cX896 := ⟨by decide, wcX895⟩
def cX897 : List (Nat × Nat × Nat × Nat) := (0, 4, 200, 440) :: cX896
theorem wcX897 : WF 441 1912762 cX897 := ⟨rfl, by decide, wcX896⟩
def cX898 : List (Nat × Nat × Nat × Nat) := (1, 429, 14, 440) :: cX897
theorem wcX898 : WF 441 1912762 cX898 := ⟨by decide, wcX897⟩
def cX899 : List (Nat × Nat × Nat × Nat) := (0, 4, 200, 441) :: cX898
theorem wcX899 : WF 442 1912962 cX899 := ⟨rfl, by decide, wcX898⟩
def cX900 : List (Nat × Nat × Nat × Nat) := (1, 429, 15, 441) :: cX899
theorem wcX900 : WF 442 1912962 cX900 := ⟨by decide, wcX899⟩
def cX901 : List (Nat × Nat × Nat × Nat) := (0, 4, 200, 442) :: cX900
theorem wcX901 : WF 443 1913162 cX901 := ⟨rfl, by decide, wcX900⟩
def cX902 : List (Nat × Nat × Nat × Nat) := (1, 429, 16, 442) :: cX901
theorem wcX902 : WF 443 1913162 cX902 := ⟨by decide, wcX901⟩
theorem ct_X0_26 {E : XE} {d : Nat} (hd : 2 ≤ d) : CC E mX3_init d [aO 429] (crun cX876 e00) (RV (fun τ => τ = crun cX902 e00)) := by
  refine v_aload_n 0 DX3_init_0 rfl rfl ?_
  refine v_objInit DX3_init_1 q717 q309 q310 (by omega) (by decide) ?_
  refine v_aload_n 0 DX3_init_4 rfl rfl ?_
  refine v_sipush DX3_init_5 (by decide) ?_
  refine v_newa (t := 1) (z := 400) DX3_init_8 rfl (by decide) q336 rfl (by decide) (cn_ok wcX876 (by decide)) (cz_ok wcX876 (by decide)) ?_
  rw [cnn wcX876]
  show VV E mX3_init d 10 _ _ (crun cX877 e00) _
  refine v_putR (ci := 3) (kf := 0) (z := 17) DX3_init_10 (csh wcX877 (by decide +kernel)) rfl (by decide) (Or.inr (Or.inr ⟨rfl, rfl, rfl, q718⟩)) (fun _ _ => rfl) rfl rfl (Or.inr (cR wcX877 (by decide +kernel))) ?_
  show VV E mX3_init d 13 _ _ (crun cX878 e00) _
  refine v_aload_n 0 DX3_init_13 rfl rfl ?_
  refine v_sipush DX3_init_14 (by decide) ?_
  refine v_newa (t := 0) (z := 200) DX3_init_17 rfl (by decide) q337 rfl (by decide) (cn_ok wcX878 (by decide)) (cz_ok wcX878 (by decide)) ?_
  rw [cnn wcX878]
  show VV E mX3_init d 19 _ _ (crun cX879 e00) _
  refine v_putR (ci := 3) (kf := 5) (z := 17) DX3_init_19 (csh wcX879 (by decide +kernel)) rfl (by decide) (Or.inr (Or.inr ⟨rfl, rfl, rfl, q734⟩)) (fun _ _ => rfl) rfl rfl (Or.inr (cR wcX879 (by decide +kernel))) ?_
  show VV E mX3_init d 22 _ _ (crun cX880 e00) _
  refine v_aload_n 0 DX3_init_22 rfl rfl ?_
  refine v_sipush DX3_init_23 (by decide) ?_
  refine v_newa (t := 0) (z := 200) DX3_init_26 rfl (by decide) q337 rfl (by decide) (cn_ok wcX880 (by decide)) (cz_ok wcX880 (by decide)) ?_
  rw [cnn wcX880]
  show VV E mX3_init d 28 _ _ (crun cX881 e00) _
  refine v_putR (ci := 3) (kf := 6) (z := 17) DX3_init_28 (csh wcX881 (by decide +kernel)) rfl (by decide) (Or.inr (Or.inr ⟨rfl, rfl, rfl, q737⟩)) (fun _ _ => rfl) rfl rfl (Or.inr (cR wcX881 (by decide +kernel))) ?_
  show VV E mX3_init d 31 _ _ (crun cX882 e00) _
  refine v_aload_n 0 DX3_init_31 rfl rfl ?_
  refine v_sipush DX3_init_32 (by decide) ?_
  refine v_newa (t := 0) (z := 200) DX3_init_35 rfl (by decide) q337 rfl (by decide) (cn_ok wcX882 (by decide)) (cz_ok wcX882 (by decide)) ?_
  rw [cnn wcX882]
  show VV E mX3_init d 37 _ _ (crun cX883 e00) _
  refine v_putR (ci := 3) (kf := 7) (z := 17) DX3_init_37 (csh wcX883 (by decide +kernel)) rfl (by decide) (Or.inr (Or.inr ⟨rfl, rfl, rfl, q740⟩)) (fun _ _ => rfl) rfl rfl (Or.inr (cR wcX883 (by decide +kernel))) ?_
  show VV E mX3_init d 40 _ _ (crun cX884 e00) _
  refine v_aload_n 0 DX3_init_40 rfl rfl ?_
  refine v_sipush DX3_init_41 (by decide) ?_
  refine v_newa (t := 0) (z := 200) DX3_init_44 rfl (by decide) q337 rfl (by decide) (cn_ok wcX884 (by decide)) (cz_ok wcX884 (by decide)) ?_
  rw [cnn wcX884]
  show VV E mX3_init d 46 _ _ (crun cX885 e00) _
  refine v_putR (ci := 3) (kf := 8) (z := 17) DX3_init_46 (csh wcX885 (by decide +kernel)) rfl (by decide) (Or.inr (Or.inr ⟨rfl, rfl, rfl, q743⟩)) (fun _ _ => rfl) rfl rfl (Or.inr (cR wcX885 (by decide +kernel))) ?_
  show VV E mX3_init d 49 _ _ (crun cX886 e00) _
  refine v_aload_n 0 DX3_init_49 rfl rfl ?_
  refine v_sipush DX3_init_50 (by decide) ?_
  refine v_newa (t := 4) (z := 200) DX3_init_53 rfl (by decide) q806 rfl (by decide) (cn_ok wcX886 (by decide)) (cz_ok wcX886 (by decide)) ?_
  rw [cnn wcX886]
  show VV E mX3_init d 55 _ _ (crun cX887 e00) _
  refine v_putR (ci := 3) (kf := 9) (z := 17) DX3_init_55 (csh wcX887 (by decide +kernel)) rfl (by decide) (Or.inr (Or.inr ⟨rfl, rfl, rfl, q746⟩)) (fun _ _ => rfl) rfl rfl (Or.inr (cR wcX887 (by decide +kernel))) ?_
  show VV E mX3_init d 58 _ _ (crun cX888 e00) _
  refine v_aload_n 0 DX3_init_58 rfl rfl ?_
  refine v_sipush DX3_init_59 (by decide) ?_
  refine v_newa (t := 0) (z := 200) DX3_init_62 rfl (by decide) q337 rfl (by decide) (cn_ok wcX888 (by decide)) (cz_ok wcX888 (by decide)) ?_
  rw [cnn wcX888]
  show VV E mX3_init d 64 _ _ (crun cX889 e00) _
  refine v_putR (ci := 3) (kf := 10) (z := 17) DX3_init_64 (csh wcX889 (by decide +kernel)) rfl (by decide) (Or.inr (Or.inr ⟨rfl, rfl, rfl, q749⟩)) (fun _ _ => rfl) rfl rfl (Or.inr (cR wcX889 (by decide +kernel))) ?_
  show VV E mX3_init d 67 _ _ (crun cX890 e00) _
  refine v_aload_n 0 DX3_init_67 rfl rfl ?_
  refine v_sipush DX3_init_68 (by decide) ?_
  refine v_newa (t := 0) (z := 200) DX3_init_71 rfl (by decide) q337 rfl (by decide) (cn_ok wcX890 (by decide)) (cz_ok wcX890 (by decide)) ?_
  rw [cnn wcX890]
  show VV E mX3_init d 73 _ _ (crun cX891 e00) _
  refine v_putR (ci := 3) (kf := 11) (z := 17) DX3_init_73 (csh wcX891 (by decide +kernel)) rfl (by decide) (Or.inr (Or.inr ⟨rfl, rfl, rfl, q752⟩)) (fun _ _ => rfl) rfl rfl (Or.inr (cR wcX891 (by decide +kernel))) ?_
  show VV E mX3_init d 76 _ _ (crun cX892 e00) _
  refine v_aload_n 0 DX3_init_76 rfl rfl ?_
  refine v_sipush DX3_init_77 (by decide) ?_
  refine v_newa (t := 0) (z := 200) DX3_init_80 rfl (by decide) q337 rfl (by decide) (cn_ok wcX892 (by decide)) (cz_ok wcX892 (by decide)) ?_
  rw [cnn wcX892]
  show VV E mX3_init d 82 _ _ (crun cX893 e00) _
  refine v_putR (ci := 3) (kf := 12) (z := 17) DX3_init_82 (csh wcX893 (by decide +kernel)) rfl (by decide) (Or.inr (Or.inr ⟨rfl, rfl, rfl, q755⟩)) (fun _ _ => rfl) rfl rfl (Or.inr (cR wcX893 (by decide +kernel))) ?_
  show VV E mX3_init d 85 _ _ (crun cX894 e00) _
  refine v_aload_n 0 DX3_init_85 rfl rfl ?_
  refine v_sipush DX3_init_86 (by decide) ?_
  refine v_newa (t := 0) (z := 200) DX3_init_89 rfl (by decide) q337 rfl (by decide) (cn_ok wcX894 (by decide)) (cz_ok wcX894 (by decide)) ?_
  rw [cnn wcX894]
  show VV E mX3_init d 91 _ _ (crun cX895 e00) _
  refine v_putR (ci := 3) (kf := 13) (z := 17) DX3_init_91 (csh wcX895 (by decide +kernel)) rfl (by decide) (Or.inr (Or.inr ⟨rfl, rfl, rfl, q758⟩)) (fun _ _ => rfl) rfl rfl (Or.inr (cR wcX895 (by decide +kernel))) ?_
  show VV E mX3_init d 94 _ _ (crun cX896 e00) _
  refine v_aload_n 0 DX3_init_94 rfl rfl ?_
  refine v_sipush DX3_init_95 (by decide) ?_
  refine v_newa (t := 4) (z := 200) DX3_init_98 rfl (by decide) q806 rfl (by decide) (cn_ok wcX896 (by decide)) (cz_ok wcX896 (by decide)) ?_
  rw [cnn wcX896]
  show VV E mX3_init d 100 _ _ (crun cX897 e00) _
  refine v_putR (ci := 3) (kf := 14) (z := 17) DX3_init_100 (csh wcX897 (by decide +kernel)) rfl (by decide) (Or.inr (Or.inr ⟨rfl, rfl, rfl, q761⟩)) (fun _ _ => rfl) rfl rfl (Or.inr (cR wcX897 (by decide +kernel))) ?_
  show VV E mX3_init d 103 _ _ (crun cX898 e00) _
  refine v_aload_n 0 DX3_init_103 rfl rfl ?_
  refine v_sipush DX3_init_104 (by decide) ?_
  refine v_newa (t := 4) (z := 200) DX3_init_107 rfl (by decide) q806 rfl (by decide) (cn_ok wcX898 (by decide)) (cz_ok wcX898 (by decide)) ?_
  rw [cnn wcX898]
  show VV E mX3_init d 109 _ _ (crun cX899 e00) _
  refine v_putR (ci := 3) (kf := 15) (z := 17) DX3_init_109 (csh wcX899 (by decide +kernel)) rfl (by decide) (Or.inr (Or.inr ⟨rfl, rfl, rfl, q764⟩)) (fun _ _ => rfl) rfl rfl (Or.inr (cR wcX899 (by decide +kernel))) ?_
  show VV E mX3_init d 112 _ _ (crun cX900 e00) _
  refine v_aload_n 0 DX3_init_112 rfl rfl ?_
  refine v_sipush DX3_init_113 (by decide) ?_
  refine v_newa (t := 4) (z := 200) DX3_init_116 rfl (by decide) q806 rfl (by decide) (cn_ok wcX900 (by decide)) (cz_ok wcX900 (by decide)) ?_
  rw [cnn wcX900]
  show VV E mX3_init d 118 _ _ (crun cX901 e00) _
  refine v_putR (ci := 3) (kf := 16) (z := 17) DX3_init_118 (csh wcX901 (by decide +kernel)) rfl (by decide) (Or.inr (Or.inr ⟨rfl, rfl, rfl, q767⟩)) (fun _ _ => rfl) rfl rfl (Or.inr (cR wcX901 (by decide +kernel))) ?_
  show VV E mX3_init d 121 _ _ (crun cX902 e00) _
  exact v_vret DX3_init_121 rfl (RV_mk rfl)
def cX903 : List (Nat × Nat × Nat × Nat) := (1, 79, 11, 429) :: cX902
theorem wcX903 : WF 443 1913162 cX903 := ⟨by decide, wcX902⟩
def cX904 : List (Nat × Nat × Nat × Nat) := (0, 103, 17, 443) :: cX903
theorem wcX904 : WF 444 1913179 cX904 := ⟨rfl, by decide, wcX903⟩
def cX905 : List (Nat × Nat × Nat × Nat) := (0, 1, 400, 444) :: cX904
theorem wcX905 : WF 445 1913579 cX905 := ⟨rfl, by decide, wcX904⟩
def cX906 : List (Nat × Nat × Nat × Nat) := (1, 443, 0, 444) :: cX905
theorem wcX906 : WF 445 1913579 cX906 := ⟨by decide, wcX905⟩
def cX907 : List (Nat × Nat × Nat × Nat) := (0, 0, 200, 445) :: cX906
theorem wcX907 : WF 446 1913779 cX907 := ⟨rfl, by decide, wcX906⟩
def cX908 : List (Nat × Nat × Nat × Nat) := (1, 443, 5, 445) :: cX907
theorem wcX908 : WF 446 1913779 cX908 := ⟨by decide, wcX907⟩
def cX909 : List (Nat × Nat × Nat × Nat) := (0, 0, 200, 446) :: cX908
theorem wcX909 : WF 447 1913979 cX909 := ⟨rfl, by decide, wcX908⟩
def cX910 : List (Nat × Nat × Nat × Nat) := (1, 443, 6, 446) :: cX909
theorem wcX910 : WF 447 1913979 cX910 := ⟨by decide, wcX909⟩
def cX911 : List (Nat × Nat × Nat × Nat) := (0, 0, 200, 447) :: cX910
theorem wcX911 : WF 448 1914179 cX911 := ⟨rfl, by decide, wcX910⟩
def cX912 : List (Nat × Nat × Nat × Nat) := (1, 443, 7, 447) :: cX911
theorem wcX912 : WF 448 1914179 cX912 := ⟨by decide, wcX911⟩
def cX913 : List (Nat × Nat × Nat × Nat) := (0, 0, 200, 448) :: cX912
theorem wcX913 : WF 449 1914379 cX913 := ⟨rfl, by decide, wcX912⟩
def cX914 : List (Nat × Nat × Nat × Nat) := (1, 443, 8, 448) :: cX913
theorem wcX914 : WF 449 1914379 cX914 := ⟨by decide, wcX913⟩
def cX915 : List (Nat × Nat × Nat × Nat) := (0, 4, 200, 449) :: cX914
theorem wcX915 : WF 450 1914579 cX915 := ⟨rfl, by decide, wcX914⟩
def cX916 : List (Nat × Nat × Nat × Nat) := (1, 443, 9, 449) :: cX915
theorem wcX916 : WF 450 1914579 cX916 := ⟨by decide, wcX915⟩
def cX917 : List (Nat × Nat × Nat × Nat) := (0, 0, 200, 450) :: cX916
theorem wcX917 : WF 451 1914779 cX917 := ⟨rfl, by decide, wcX916⟩
def cX918 : List (Nat × Nat × Nat × Nat) := (1, 443, 10, 450) :: cX917
theorem wcX918 : WF 451 1914779 cX918 := ⟨by decide, wcX917⟩
def cX919 : List (Nat × Nat × Nat × Nat) := (0, 0, 200, 451) :: cX918
theorem wcX919 : WF 452 1914979 cX919 := ⟨rfl, by decide, wcX918⟩
def cX920 : List (Nat × Nat × Nat × Nat) := (1, 443, 11, 451) :: cX919
theorem wcX920 : WF 452 1914979 cX920 := ⟨by decide, wcX919⟩
def cX921 : List (Nat × Nat × Nat × Nat) := (0, 0, 200, 452) :: cX920
theorem wcX921 : WF 453 1915179 cX921 := ⟨rfl, by decide, wcX920⟩
def cX922 : List (Nat × Nat × Nat × Nat) := (1, 443, 12, 452) :: cX921
theorem wcX922 : WF 453 1915179 cX922 := ⟨by decide, wcX921⟩
def cX923 : List (Nat × Nat × Nat × Nat) := (0, 0, 200, 453) :: cX922
theorem wcX923 : WF 454 1915379 cX923 := ⟨rfl, by decide, wcX922⟩
def cX924 : List (Nat × Nat × Nat × Nat) := (1, 443, 13, 453) :: cX923
theorem wcX924 : WF 454 1915379 cX924 := ⟨by decide, wcX923⟩
def cX925 : List (Nat × Nat × Nat × Nat) := (0, 4, 200, 454) :: cX924
theorem wcX925 : WF 455 1915579 cX925 := ⟨rfl, by decide, wcX924⟩
def cX926 : List (Nat × Nat × Nat × Nat) := (1, 443, 14, 454) :: cX925
theorem wcX926 : WF 455 1915579 cX926 := ⟨by decide, wcX925⟩
def cX927 : List (Nat × Nat × Nat × Nat) := (0, 4, 200, 455) :: cX926
theorem wcX927 : WF 456 1915779 cX927 := ⟨rfl, by decide, wcX926⟩
def cX928 : List (Nat × Nat × Nat × Nat) := (1, 443, 15, 455) :: cX927
theorem wcX928 : WF 456 1915779 cX928 := ⟨by decide, wcX927⟩
def cX929 : List (Nat × Nat × Nat × Nat) := (0, 4, 200, 456) :: cX928
theorem wcX929 : WF 457 1915979 cX929 := ⟨rfl, by decide, wcX928⟩
def cX930 : List (Nat × Nat × Nat × Nat) := (1, 443, 16, 456) :: cX929
theorem wcX930 : WF 457 1915979 cX930 := ⟨by decide, wcX929⟩
theorem ct_X0_27 {E : XE} {d : Nat} (hd : 2 ≤ d) : CC E mX3_init d [aO 443] (crun cX904 e00) (RV (fun τ => τ = crun cX930 e00)) := by
  refine v_aload_n 0 DX3_init_0 rfl rfl ?_
  refine v_objInit DX3_init_1 q717 q309 q310 (by omega) (by decide) ?_
  refine v_aload_n 0 DX3_init_4 rfl rfl ?_
  refine v_sipush DX3_init_5 (by decide) ?_
  refine v_newa (t := 1) (z := 400) DX3_init_8 rfl (by decide) q336 rfl (by decide) (cn_ok wcX904 (by decide)) (cz_ok wcX904 (by decide)) ?_
  rw [cnn wcX904]
  show VV E mX3_init d 10 _ _ (crun cX905 e00) _
  refine v_putR (ci := 3) (kf := 0) (z := 17) DX3_init_10 (csh wcX905 (by decide +kernel)) rfl (by decide) (Or.inr (Or.inr ⟨rfl, rfl, rfl, q718⟩)) (fun _ _ => rfl) rfl rfl (Or.inr (cR wcX905 (by decide +kernel))) ?_
  show VV E mX3_init d 13 _ _ (crun cX906 e00) _
  refine v_aload_n 0 DX3_init_13 rfl rfl ?_
  refine v_sipush DX3_init_14 (by decide) ?_
  refine v_newa (t := 0) (z := 200) DX3_init_17 rfl (by decide) q337 rfl (by decide) (cn_ok wcX906 (by decide)) (cz_ok wcX906 (by decide)) ?_
  rw [cnn wcX906]
  show VV E mX3_init d 19 _ _ (crun cX907 e00) _
  refine v_putR (ci := 3) (kf := 5) (z := 17) DX3_init_19 (csh wcX907 (by decide +kernel)) rfl (by decide) (Or.inr (Or.inr ⟨rfl, rfl, rfl, q734⟩)) (fun _ _ => rfl) rfl rfl (Or.inr (cR wcX907 (by decide +kernel))) ?_
  show VV E mX3_init d 22 _ _ (crun cX908 e00) _
  refine v_aload_n 0 DX3_init_22 rfl rfl ?_
  refine v_sipush DX3_init_23 (by decide) ?_
  refine v_newa (t := 0) (z := 200) DX3_init_26 rfl (by decide) q337 rfl (by decide) (cn_ok wcX908 (by decide)) (cz_ok wcX908 (by decide)) ?_
  rw [cnn wcX908]
  show VV E mX3_init d 28 _ _ (crun cX909 e00) _
  refine v_putR (ci := 3) (kf := 6) (z := 17) DX3_init_28 (csh wcX909 (by decide +kernel)) rfl (by decide) (Or.inr (Or.inr ⟨rfl, rfl, rfl, q737⟩)) (fun _ _ => rfl) rfl rfl (Or.inr (cR wcX909 (by decide +kernel))) ?_
  show VV E mX3_init d 31 _ _ (crun cX910 e00) _
  refine v_aload_n 0 DX3_init_31 rfl rfl ?_
  refine v_sipush DX3_init_32 (by decide) ?_
  refine v_newa (t := 0) (z := 200) DX3_init_35 rfl (by decide) q337 rfl (by decide) (cn_ok wcX910 (by decide)) (cz_ok wcX910 (by decide)) ?_
  rw [cnn wcX910]
  show VV E mX3_init d 37 _ _ (crun cX911 e00) _
  refine v_putR (ci := 3) (kf := 7) (z := 17) DX3_init_37 (csh wcX911 (by decide +kernel)) rfl (by decide) (Or.inr (Or.inr ⟨rfl, rfl, rfl, q740⟩)) (fun _ _ => rfl) rfl rfl (Or.inr (cR wcX911 (by decide +kernel))) ?_
  show VV E mX3_init d 40 _ _ (crun cX912 e00) _
  refine v_aload_n 0 DX3_init_40 rfl rfl ?_
  refine v_sipush DX3_init_41 (by decide) ?_
  refine v_newa (t := 0) (z := 200) DX3_init_44 rfl (by decide) q337 rfl (by decide) (cn_ok wcX912 (by decide)) (cz_ok wcX912 (by decide)) ?_
  rw [cnn wcX912]
  show VV E mX3_init d 46 _ _ (crun cX913 e00) _
  refine v_putR (ci := 3) (kf := 8) (z := 17) DX3_init_46 (csh wcX913 (by decide +kernel)) rfl (by decide) (Or.inr (Or.inr ⟨rfl, rfl, rfl, q743⟩)) (fun _ _ => rfl) rfl rfl (Or.inr (cR wcX913 (by decide +kernel))) ?_
  show VV E mX3_init d 49 _ _ (crun cX914 e00) _
  refine v_aload_n 0 DX3_init_49 rfl rfl ?_
  refine v_sipush DX3_init_50 (by decide) ?_
  refine v_newa (t := 4) (z := 200) DX3_init_53 rfl (by decide) q806 rfl (by decide) (cn_ok wcX914 (by decide)) (cz_ok wcX914 (by decide)) ?_
  rw [cnn wcX914]
  show VV E mX3_init d 55 _ _ (crun cX915 e00) _
  refine v_putR (ci := 3) (kf := 9) (z := 17) DX3_init_55 (csh wcX915 (by decide +kernel)) rfl (by decide) (Or.inr (Or.inr ⟨rfl, rfl, rfl, q746⟩)) (fun _ _ => rfl) rfl rfl (Or.inr (cR wcX915 (by decide +kernel))) ?_
  show VV E mX3_init d 58 _ _ (crun cX916 e00) _
  refine v_aload_n 0 DX3_init_58 rfl rfl ?_
  refine v_sipush DX3_init_59 (by decide) ?_
  refine v_newa (t := 0) (z := 200) DX3_init_62 rfl (by decide) q337 rfl (by decide) (cn_ok wcX916 (by decide)) (cz_ok wcX916 (by decide)) ?_
  rw [cnn wcX916]
  show VV E mX3_init d 64 _ _ (crun cX917 e00) _
  refine v_putR (ci := 3) (kf := 10) (z := 17) DX3_init_64 (csh wcX917 (by decide +kernel)) rfl (by decide) (Or.inr (Or.inr ⟨rfl, rfl, rfl, q749⟩)) (fun _ _ => rfl) rfl rfl (Or.inr (cR wcX917 (by decide +kernel))) ?_
  show VV E mX3_init d 67 _ _ (crun cX918 e00) _
  refine v_aload_n 0 DX3_init_67 rfl rfl ?_
  refine v_sipush DX3_init_68 (by decide) ?_
  refine v_newa (t := 0) (z := 200) DX3_init_71 rfl (by decide) q337 rfl (by decide) (cn_ok wcX918 (by decide)) (cz_ok wcX918 (by decide)) ?_
  rw [cnn wcX918]
  show VV E mX3_init d 73 _ _ (crun cX919 e00) _
  refine v_putR (ci := 3) (kf := 11) (z := 17) DX3_init_73 (csh wcX919 (by decide +kernel)) rfl (by decide) (Or.inr (Or.inr ⟨rfl, rfl, rfl, q752⟩)) (fun _ _ => rfl) rfl rfl (Or.inr (cR wcX919 (by decide +kernel))) ?_
  show VV E mX3_init d 76 _ _ (crun cX920 e00) _
  refine v_aload_n 0 DX3_init_76 rfl rfl ?_
  refine v_sipush DX3_init_77 (by decide) ?_
  refine v_newa (t := 0) (z := 200) DX3_init_80 rfl (by decide) q337 rfl (by decide) (cn_ok wcX920 (by decide)) (cz_ok wcX920 (by decide)) ?_
  rw [cnn wcX920]
  show VV E mX3_init d 82 _ _ (crun cX921 e00) _
  refine v_putR (ci := 3) (kf := 12) (z := 17) DX3_init_82 (csh wcX921 (by decide +kernel)) rfl (by decide) (Or.inr (Or.inr ⟨rfl, rfl, rfl, q755⟩)) (fun _ _ => rfl) rfl rfl (Or.inr (cR wcX921 (by decide +kernel))) ?_
  show VV E mX3_init d 85 _ _ (crun cX922 e00) _
  refine v_aload_n 0 DX3_init_85 rfl rfl ?_
  refine v_sipush DX3_init_86 (by decide) ?_
  refine v_newa (t := 0) (z := 200) DX3_init_89 rfl (by decide) q337 rfl (by decide) (cn_ok wcX922 (by decide)) (cz_ok wcX922 (by decide)) ?_
  rw [cnn wcX922]
  show VV E mX3_init d 91 _ _ (crun cX923 e00) _
  refine v_putR (ci := 3) (kf := 13) (z := 17) DX3_init_91 (csh wcX923 (by decide +kernel)) rfl (by decide) (Or.inr (Or.inr ⟨rfl, rfl, rfl, q758⟩)) (fun _ _ => rfl) rfl rfl (Or.inr (cR wcX923 (by decide +kernel))) ?_
  show VV E mX3_init d 94 _ _ (crun cX924 e00) _
  refine v_aload_n 0 DX3_init_94 rfl rfl ?_
  refine v_sipush DX3_init_95 (by decide) ?_
  refine v_newa (t := 4) (z := 200) DX3_init_98 rfl (by decide) q806 rfl (by decide) (cn_ok wcX924 (by decide)) (cz_ok wcX924 (by decide)) ?_
  rw [cnn wcX924]
  show VV E mX3_init d 100 _ _ (crun cX925 e00) _
  refine v_putR (ci := 3) (kf := 14) (z := 17) DX3_init_100 (csh wcX925 (by decide +kernel)) rfl (by decide) (Or.inr (Or.inr ⟨rfl, rfl, rfl, q761⟩)) (fun _ _ => rfl) rfl rfl (Or.inr (cR wcX925 (by decide +kernel))) ?_
  show VV E mX3_init d 103 _ _ (crun cX926 e00) _
  refine v_aload_n 0 DX3_init_103 rfl rfl ?_
  refine v_sipush DX3_init_104 (by decide) ?_
  refine v_newa (t := 4) (z := 200) DX3_init_107 rfl (by decide) q806 rfl (by decide) (cn_ok wcX926 (by decide)) (cz_ok wcX926 (by decide)) ?_
  rw [cnn wcX926]
  show VV E mX3_init d 109 _ _ (crun cX927 e00) _
  refine v_putR (ci := 3) (kf := 15) (z := 17) DX3_init_109 (csh wcX927 (by decide +kernel)) rfl (by decide) (Or.inr (Or.inr ⟨rfl, rfl, rfl, q764⟩)) (fun _ _ => rfl) rfl rfl (Or.inr (cR wcX927 (by decide +kernel))) ?_
  show VV E mX3_init d 112 _ _ (crun cX928 e00) _
  refine v_aload_n 0 DX3_init_112 rfl rfl ?_
  refine v_sipush DX3_init_113 (by decide) ?_
  refine v_newa (t := 4) (z := 200) DX3_init_116 rfl (by decide) q806 rfl (by decide) (cn_ok wcX928 (by decide)) (cz_ok wcX928 (by decide)) ?_
  rw [cnn wcX928]
  show VV E mX3_init d 118 _ _ (crun cX929 e00) _
  refine v_putR (ci := 3) (kf := 16) (z := 17) DX3_init_118 (csh wcX929 (by decide +kernel)) rfl (by decide) (Or.inr (Or.inr ⟨rfl, rfl, rfl, q767⟩)) (fun _ _ => rfl) rfl rfl (Or.inr (cR wcX929 (by decide +kernel))) ?_
  show VV E mX3_init d 121 _ _ (crun cX930 e00) _
  exact v_vret DX3_init_121 rfl (RV_mk rfl)
def cX931 : List (Nat × Nat × Nat × Nat) := (1, 79, 12, 443) :: cX930
theorem wcX931 : WF 457 1915979 cX931 := ⟨by decide, wcX930⟩
def cX932 : List (Nat × Nat × Nat × Nat) := (0, 103, 17, 457) :: cX931
theorem wcX932 : WF 458 1915996 cX932 := ⟨rfl, by decide, wcX931⟩
def cX933 : List (Nat × Nat × Nat × Nat) := (0, 1, 400, 458) :: cX932
theorem wcX933 : WF 459 1916396 cX933 := ⟨rfl, by decide, wcX932⟩
def cX934 : List (Nat × Nat × Nat × Nat) := (1, 457, 0, 458) :: cX933
theorem wcX934 : WF 459 1916396 cX934 := ⟨by decide, wcX933⟩
def cX935 : List (Nat × Nat × Nat × Nat) := (0, 0, 200, 459) :: cX934
theorem wcX935 : WF 460 1916596 cX935 := ⟨rfl, by decide, wcX934⟩
def cX936 : List (Nat × Nat × Nat × Nat) := (1, 457, 5, 459) :: cX935
theorem wcX936 : WF 460 1916596 cX936 := ⟨by decide, wcX935⟩
def cX937 : List (Nat × Nat × Nat × Nat) := (0, 0, 200, 460) :: cX936
theorem wcX937 : WF 461 1916796 cX937 := ⟨rfl, by decide, wcX936⟩
def cX938 : List (Nat × Nat × Nat × Nat) := (1, 457, 6, 460) :: cX937
theorem wcX938 : WF 461 1916796 cX938 := ⟨by decide, wcX937⟩
def cX939 : List (Nat × Nat × Nat × Nat) := (0, 0, 200, 461) :: cX938
theorem wcX939 : WF 462 1916996 cX939 := ⟨rfl, by decide, wcX938⟩
def cX940 : List (Nat × Nat × Nat × Nat) := (1, 457, 7, 461) :: cX939
theorem wcX940 : WF 462 1916996 cX940 := ⟨by decide, wcX939⟩
def cX941 : List (Nat × Nat × Nat × Nat) := (0, 0, 200, 462) :: cX940
theorem wcX941 : WF 463 1917196 cX941 := ⟨rfl, by decide, wcX940⟩
def cX942 : List (Nat × Nat × Nat × Nat) := (1, 457, 8, 462) :: cX941
theorem wcX942 : WF 463 1917196 cX942 := ⟨by decide, wcX941⟩
def cX943 : List (Nat × Nat × Nat × Nat) := (0, 4, 200, 463) :: cX942
theorem wcX943 : WF 464 1917396 cX943 := ⟨rfl, by decide, wcX942⟩
def cX944 : List (Nat × Nat × Nat × Nat) := (1, 457, 9, 463) :: cX943
theorem wcX944 : WF 464 1917396 cX944 := ⟨by decide, wcX943⟩
def cX945 : List (Nat × Nat × Nat × Nat) := (0, 0, 200, 464) :: cX944
theorem wcX945 : WF 465 1917596 cX945 := ⟨rfl, by decide, wcX944⟩
def cX946 : List (Nat × Nat × Nat × Nat) := (1, 457, 10, 464) :: cX945
theorem wcX946 : WF 465 1917596 cX946 := ⟨by decide, wcX945⟩
def cX947 : List (Nat × Nat × Nat × Nat) := (0, 0, 200, 465) :: cX946
theorem wcX947 : WF 466 1917796 cX947 := ⟨rfl, by decide, wcX946⟩
def cX948 : List (Nat × Nat × Nat × Nat) := (1, 457, 11, 465) :: cX947
theorem wcX948 : WF 466 1917796 cX948 := ⟨by decide, wcX947⟩
def cX949 : List (Nat × Nat × Nat × Nat) := (0, 0, 200, 466) :: cX948
theorem wcX949 : WF 467 1917996 cX949 := ⟨rfl, by decide, wcX948⟩
def cX950 : List (Nat × Nat × Nat × Nat) := (1, 457, 12, 466) :: cX949
theorem wcX950 : WF 467 1917996 cX950 := ⟨by decide, wcX949⟩
def cX951 : List (Nat × Nat × Nat × Nat) := (0, 0, 200, 467) :: cX950
theorem wcX951 : WF 468 1918196 cX951 := ⟨rfl, by decide, wcX950⟩
def cX952 : List (Nat × Nat × Nat × Nat) := (1, 457, 13, 467) :: cX951
theorem wcX952 : WF 468 1918196 cX952 := ⟨by decide, wcX951⟩
def cX953 : List (Nat × Nat × Nat × Nat) := (0, 4, 200, 468) :: cX952
theorem wcX953 : WF 469 1918396 cX953 := ⟨rfl, by decide, wcX952⟩
def cX954 : List (Nat × Nat × Nat × Nat) := (1, 457, 14, 468) :: cX953
theorem wcX954 : WF 469 1918396 cX954 := ⟨by decide, wcX953⟩
def cX955 : List (Nat × Nat × Nat × Nat) := (0, 4, 200, 469) :: cX954
theorem wcX955 : WF 470 1918596 cX955 := ⟨rfl, by decide, wcX954⟩
def cX956 : List (Nat × Nat × Nat × Nat) := (1, 457, 15, 469) :: cX955
theorem wcX956 : WF 470 1918596 cX956 := ⟨by decide, wcX955⟩
def cX957 : List (Nat × Nat × Nat × Nat) := (0, 4, 200, 470) :: cX956
theorem wcX957 : WF 471 1918796 cX957 := ⟨rfl, by decide, wcX956⟩
def cX958 : List (Nat × Nat × Nat × Nat) := (1, 457, 16, 470) :: cX957
theorem wcX958 : WF 471 1918796 cX958 := ⟨by decide, wcX957⟩
theorem ct_X0_28 {E : XE} {d : Nat} (hd : 2 ≤ d) : CC E mX3_init d [aO 457] (crun cX932 e00) (RV (fun τ => τ = crun cX958 e00)) := by
  refine v_aload_n 0 DX3_init_0 rfl rfl ?_
  refine v_objInit DX3_init_1 q717 q309 q310 (by omega) (by decide) ?_
  refine v_aload_n 0 DX3_init_4 rfl rfl ?_
  refine v_sipush DX3_init_5 (by decide) ?_
  refine v_newa (t := 1) (z := 400) DX3_init_8 rfl (by decide) q336 rfl (by decide) (cn_ok wcX932 (by decide)) (cz_ok wcX932 (by decide)) ?_
  rw [cnn wcX932]
  show VV E mX3_init d 10 _ _ (crun cX933 e00) _
  refine v_putR (ci := 3) (kf := 0) (z := 17) DX3_init_10 (csh wcX933 (by decide +kernel)) rfl (by decide) (Or.inr (Or.inr ⟨rfl, rfl, rfl, q718⟩)) (fun _ _ => rfl) rfl rfl (Or.inr (cR wcX933 (by decide +kernel))) ?_
  show VV E mX3_init d 13 _ _ (crun cX934 e00) _
  refine v_aload_n 0 DX3_init_13 rfl rfl ?_
  refine v_sipush DX3_init_14 (by decide) ?_
  refine v_newa (t := 0) (z := 200) DX3_init_17 rfl (by decide) q337 rfl (by decide) (cn_ok wcX934 (by decide)) (cz_ok wcX934 (by decide)) ?_
  rw [cnn wcX934]
  show VV E mX3_init d 19 _ _ (crun cX935 e00) _
  refine v_putR (ci := 3) (kf := 5) (z := 17) DX3_init_19 (csh wcX935 (by decide +kernel)) rfl (by decide) (Or.inr (Or.inr ⟨rfl, rfl, rfl, q734⟩)) (fun _ _ => rfl) rfl rfl (Or.inr (cR wcX935 (by decide +kernel))) ?_
  show VV E mX3_init d 22 _ _ (crun cX936 e00) _
  refine v_aload_n 0 DX3_init_22 rfl rfl ?_
  refine v_sipush DX3_init_23 (by decide) ?_
  refine v_newa (t := 0) (z := 200) DX3_init_26 rfl (by decide) q337 rfl (by decide) (cn_ok wcX936 (by decide)) (cz_ok wcX936 (by decide)) ?_
  rw [cnn wcX936]
  show VV E mX3_init d 28 _ _ (crun cX937 e00) _
  refine v_putR (ci := 3) (kf := 6) (z := 17) DX3_init_28 (csh wcX937 (by decide +kernel)) rfl (by decide) (Or.inr (Or.inr ⟨rfl, rfl, rfl, q737⟩)) (fun _ _ => rfl) rfl rfl (Or.inr (cR wcX937 (by decide +kernel))) ?_
  show VV E mX3_init d 31 _ _ (crun cX938 e00) _
  refine v_aload_n 0 DX3_init_31 rfl rfl ?_
  refine v_sipush DX3_init_32 (by decide) ?_
  refine v_newa (t := 0) (z := 200) DX3_init_35 rfl (by decide) q337 rfl (by decide) (cn_ok wcX938 (by decide)) (cz_ok wcX938 (by decide)) ?_
  rw [cnn wcX938]
  show VV E mX3_init d 37 _ _ (crun cX939 e00) _
  refine v_putR (ci := 3) (kf := 7) (z := 17) DX3_init_37 (csh wcX939 (by decide +kernel)) rfl (by decide) (Or.inr (Or.inr ⟨rfl, rfl, rfl, q740⟩)) (fun _ _ => rfl) rfl rfl (Or.inr (cR wcX939 (by decide +kernel))) ?_
  show VV E mX3_init d 40 _ _ (crun cX940 e00) _
  refine v_aload_n 0 DX3_init_40 rfl rfl ?_
  refine v_sipush DX3_init_41 (by decide) ?_
  refine v_newa (t := 0) (z := 200) DX3_init_44 rfl (by decide) q337 rfl (by decide) (cn_ok wcX940 (by decide)) (cz_ok wcX940 (by decide)) ?_
  rw [cnn wcX940]
  show VV E mX3_init d 46 _ _ (crun cX941 e00) _
  refine v_putR (ci := 3) (kf := 8) (z := 17) DX3_init_46 (csh wcX941 (by decide +kernel)) rfl (by decide) (Or.inr (Or.inr ⟨rfl, rfl, rfl, q743⟩)) (fun _ _ => rfl) rfl rfl (Or.inr (cR wcX941 (by decide +kernel))) ?_
  show VV E mX3_init d 49 _ _ (crun cX942 e00) _
  refine v_aload_n 0 DX3_init_49 rfl rfl ?_
  refine v_sipush DX3_init_50 (by decide) ?_
  refine v_newa (t := 4) (z := 200) DX3_init_53 rfl (by decide) q806 rfl (by decide) (cn_ok wcX942 (by decide)) (cz_ok wcX942 (by decide)) ?_
  rw [cnn wcX942]
  show VV E mX3_init d 55 _ _ (crun cX943 e00) _
  refine v_putR (ci := 3) (kf := 9) (z := 17) DX3_init_55 (csh wcX943 (by decide +kernel)) rfl (by decide) (Or.inr (Or.inr ⟨rfl, rfl, rfl, q746⟩)) (fun _ _ => rfl) rfl rfl (Or.inr (cR wcX943 (by decide +kernel))) ?_
  show VV E mX3_init d 58 _ _ (crun cX944 e00) _
  refine v_aload_n 0 DX3_init_58 rfl rfl ?_
  refine v_sipush DX3_init_59 (by decide) ?_
  refine v_newa (t := 0) (z := 200) DX3_init_62 rfl (by decide) q337 rfl (by decide) (cn_ok wcX944 (by decide)) (cz_ok wcX944 (by decide)) ?_
  rw [cnn wcX944]
  show VV E mX3_init d 64 _ _ (crun cX945 e00) _
  refine v_putR (ci := 3) (kf := 10) (z := 17) DX3_init_64 (csh wcX945 (by decide +kernel)) rfl (by decide) (Or.inr (Or.inr ⟨rfl, rfl, rfl, q749⟩)) (fun _ _ => rfl) rfl rfl (Or.inr (cR wcX945 (by decide +kernel))) ?_
  show VV E mX3_init d 67 _ _ (crun cX946 e00) _
  refine v_aload_n 0 DX3_init_67 rfl rfl ?_
  refine v_sipush DX3_init_68 (by decide) ?_
  refine v_newa (t := 0) (z := 200) DX3_init_71 rfl (by decide) q337 rfl (by decide) (cn_ok wcX946 (by decide)) (cz_ok wcX946 (by decide)) ?_
  rw [cnn wcX946]
  show VV E mX3_init d 73 _ _ (crun cX947 e00) _
  refine v_putR (ci := 3) (kf := 11) (z := 17) DX3_init_73 (csh wcX947 (by decide +kernel)) rfl (by decide) (Or.inr (Or.inr ⟨rfl, rfl, rfl, q752⟩)) (fun _ _ => rfl) rfl rfl (Or.inr (cR wcX947 (by decide +kernel))) ?_
  show VV E mX3_init d 76 _ _ (crun cX948 e00) _
  refine v_aload_n 0 DX3_init_76 rfl rfl ?_
  refine v_sipush DX3_init_77 (by decide) ?_
  refine v_newa (t := 0) (z := 200) DX3_init_80 rfl (by decide) q337 rfl (by decide) (cn_ok wcX948 (by decide)) (cz_ok wcX948 (by decide)) ?_
  rw [cnn wcX948]
  show VV E mX3_init d 82 _ _ (crun cX949 e00) _
  refine v_putR (ci := 3) (kf := 12) (z := 17) DX3_init_82 (csh wcX949 (by decide +kernel)) rfl (by decide) (Or.inr (Or.inr ⟨rfl, rfl, rfl, q755⟩)) (fun _ _ => rfl) rfl rfl (Or.inr (cR wcX949 (by decide +kernel))) ?_
  show VV E mX3_init d 85 _ _ (crun cX950 e00) _
  refine v_aload_n 0 DX3_init_85 rfl rfl ?_
  refine v_sipush DX3_init_86 (by decide) ?_
  refine v_newa (t := 0) (z := 200) DX3_init_89 rfl (by decide) q337 rfl (by decide) (cn_ok wcX950 (by decide)) (cz_ok wcX950 (by decide)) ?_
  rw [cnn wcX950]
  show VV E mX3_init d 91 _ _ (crun cX951 e00) _
  refine v_putR (ci := 3) (kf := 13) (z := 17) DX3_init_91 (csh wcX951 (by decide +kernel)) rfl (by decide) (Or.inr (Or.inr ⟨rfl, rfl, rfl, q758⟩)) (fun _ _ => rfl) rfl rfl (Or.inr (cR wcX951 (by decide +kernel))) ?_
  show VV E mX3_init d 94 _ _ (crun cX952 e00) _
  refine v_aload_n 0 DX3_init_94 rfl rfl ?_
  refine v_sipush DX3_init_95 (by decide) ?_
  refine v_newa (t := 4) (z := 200) DX3_init_98 rfl (by decide) q806 rfl (by decide) (cn_ok wcX952 (by decide)) (cz_ok wcX952 (by decide)) ?_
  rw [cnn wcX952]
  show VV E mX3_init d 100 _ _ (crun cX953 e00) _
  refine v_putR (ci := 3) (kf := 14) (z := 17) DX3_init_100 (csh wcX953 (by decide +kernel)) rfl (by decide) (Or.inr (Or.inr ⟨rfl, rfl, rfl, q761⟩)) (fun _ _ => rfl) rfl rfl (Or.inr (cR wcX953 (by decide +kernel))) ?_
  show VV E mX3_init d 103 _ _ (crun cX954 e00) _
  refine v_aload_n 0 DX3_init_103 rfl rfl ?_
  refine v_sipush DX3_init_104 (by decide) ?_
  refine v_newa (t := 4) (z := 200) DX3_init_107 rfl (by decide) q806 rfl (by decide) (cn_ok wcX954 (by decide)) (cz_ok wcX954 (by decide)) ?_
  rw [cnn wcX954]
  show VV E mX3_init d 109 _ _ (crun cX955 e00) _
  refine v_putR (ci := 3) (kf := 15) (z := 17) DX3_init_109 (csh wcX955 (by decide +kernel)) rfl (by decide) (Or.inr (Or.inr ⟨rfl, rfl, rfl, q764⟩)) (fun _ _ => rfl) rfl rfl (Or.inr (cR wcX955 (by decide +kernel))) ?_
  show VV E mX3_init d 112 _ _ (crun cX956 e00) _
  refine v_aload_n 0 DX3_init_112 rfl rfl ?_
  refine v_sipush DX3_init_113 (by decide) ?_
  refine v_newa (t := 4) (z := 200) DX3_init_116 rfl (by decide) q806 rfl (by decide) (cn_ok wcX956 (by decide)) (cz_ok wcX956 (by decide)) ?_
  rw [cnn wcX956]
  show VV E mX3_init d 118 _ _ (crun cX957 e00) _
  refine v_putR (ci := 3) (kf := 16) (z := 17) DX3_init_118 (csh wcX957 (by decide +kernel)) rfl (by decide) (Or.inr (Or.inr ⟨rfl, rfl, rfl, q767⟩)) (fun _ _ => rfl) rfl rfl (Or.inr (cR wcX957 (by decide +kernel))) ?_
  show VV E mX3_init d 121 _ _ (crun cX958 e00) _
  exact v_vret DX3_init_121 rfl (RV_mk rfl)
def cX959 : List (Nat × Nat × Nat × Nat) := (1, 79, 13, 457) :: cX958
theorem wcX959 : WF 471 1918796 cX959 := ⟨by decide, wcX958⟩
def cX960 : List (Nat × Nat × Nat × Nat) := (0, 103, 17, 471) :: cX959
theorem wcX960 : WF 472 1918813 cX960 := ⟨rfl, by decide, wcX959⟩
def cX961 : List (Nat × Nat × Nat × Nat) := (0, 1, 400, 472) :: cX960
theorem wcX961 : WF 473 1919213 cX961 := ⟨rfl, by decide, wcX960⟩
def cX962 : List (Nat × Nat × Nat × Nat) := (1, 471, 0, 472) :: cX961
theorem wcX962 : WF 473 1919213 cX962 := ⟨by decide, wcX961⟩
def cX963 : List (Nat × Nat × Nat × Nat) := (0, 0, 200, 473) :: cX962
theorem wcX963 : WF 474 1919413 cX963 := ⟨rfl, by decide, wcX962⟩
def cX964 : List (Nat × Nat × Nat × Nat) := (1, 471, 5, 473) :: cX963
theorem wcX964 : WF 474 1919413 cX964 := ⟨by decide, wcX963⟩
def cX965 : List (Nat × Nat × Nat × Nat) := (0, 0, 200, 474) :: cX964
theorem wcX965 : WF 475 1919613 cX965 := ⟨rfl, by decide, wcX964⟩
def cX966 : List (Nat × Nat × Nat × Nat) := (1, 471, 6, 474) :: cX965
theorem wcX966 : WF 475 1919613 cX966 := ⟨by decide, wcX965⟩
def cX967 : List (Nat × Nat × Nat × Nat) := (0, 0, 200, 475) :: cX966
theorem wcX967 : WF 476 1919813 cX967 := ⟨rfl, by decide, wcX966⟩
def cX968 : List (Nat × Nat × Nat × Nat) := (1, 471, 7, 475) :: cX967
theorem wcX968 : WF 476 1919813 cX968 := ⟨by decide, wcX967⟩
def cX969 : List (Nat × Nat × Nat × Nat) := (0, 0, 200, 476) :: cX968
theorem wcX969 : WF 477 1920013 cX969 := ⟨rfl, by decide, wcX968⟩
def cX970 : List (Nat × Nat × Nat × Nat) := (1, 471, 8, 476) :: cX969
theorem wcX970 : WF 477 1920013 cX970 := ⟨by decide, wcX969⟩
def cX971 : List (Nat × Nat × Nat × Nat) := (0, 4, 200, 477) :: cX970
theorem wcX971 : WF 478 1920213 cX971 := ⟨rfl, by decide, wcX970⟩
def cX972 : List (Nat × Nat × Nat × Nat) := (1, 471, 9, 477) :: cX971
theorem wcX972 : WF 478 1920213 cX972 := ⟨by decide, wcX971⟩
def cX973 : List (Nat × Nat × Nat × Nat) := (0, 0, 200, 478) :: cX972
theorem wcX973 : WF 479 1920413 cX973 := ⟨rfl, by decide, wcX972⟩
def cX974 : List (Nat × Nat × Nat × Nat) := (1, 471, 10, 478) :: cX973
theorem wcX974 : WF 479 1920413 cX974 := ⟨by decide, wcX973⟩
def cX975 : List (Nat × Nat × Nat × Nat) := (0, 0, 200, 479) :: cX974
theorem wcX975 : WF 480 1920613 cX975 := ⟨rfl, by decide, wcX974⟩
def cX976 : List (Nat × Nat × Nat × Nat) := (1, 471, 11, 479) :: cX975
theorem wcX976 : WF 480 1920613 cX976 := ⟨by decide, wcX975⟩
def cX977 : List (Nat × Nat × Nat × Nat) := (0, 0, 200, 480) :: cX976
theorem wcX977 : WF 481 1920813 cX977 := ⟨rfl, by decide, wcX976⟩
def cX978 : List (Nat × Nat × Nat × Nat) := (1, 471, 12, 480) :: cX977
theorem wcX978 : WF 481 1920813 cX978 := ⟨by decide, wcX977⟩
def cX979 : List (Nat × Nat × Nat × Nat) := (0, 0, 200, 481) :: cX978
theorem wcX979 : WF 482 1921013 cX979 := ⟨rfl, by decide, wcX978⟩
def cX980 : List (Nat × Nat × Nat × Nat) := (1, 471, 13, 481) :: cX979
theorem wcX980 : WF 482 1921013 cX980 := ⟨by decide, wcX979⟩
def cX981 : List (Nat × Nat × Nat × Nat) := (0, 4, 200, 482) :: cX980
theorem wcX981 : WF 483 1921213 cX981 := ⟨rfl, by decide, wcX980⟩
def cX982 : List (Nat × Nat × Nat × Nat) := (1, 471, 14, 482) :: cX981
theorem wcX982 : WF 483 1921213 cX982 := ⟨by decide, wcX981⟩
def cX983 : List (Nat × Nat × Nat × Nat) := (0, 4, 200, 483) :: cX982
theorem wcX983 : WF 484 1921413 cX983 := ⟨rfl, by decide, wcX982⟩
def cX984 : List (Nat × Nat × Nat × Nat) := (1, 471, 15, 483) :: cX983
theorem wcX984 : WF 484 1921413 cX984 := ⟨by decide, wcX983⟩
def cX985 : List (Nat × Nat × Nat × Nat) := (0, 4, 200, 484) :: cX984
theorem wcX985 : WF 485 1921613 cX985 := ⟨rfl, by decide, wcX984⟩
def cX986 : List (Nat × Nat × Nat × Nat) := (1, 471, 16, 484) :: cX985
theorem wcX986 : WF 485 1921613 cX986 := ⟨by decide, wcX985⟩
theorem ct_X0_29 {E : XE} {d : Nat} (hd : 2 ≤ d) : CC E mX3_init d [aO 471] (crun cX960 e00) (RV (fun τ => τ = crun cX986 e00)) := by
  refine v_aload_n 0 DX3_init_0 rfl rfl ?_
  refine v_objInit DX3_init_1 q717 q309 q310 (by omega) (by decide) ?_
  refine v_aload_n 0 DX3_init_4 rfl rfl ?_
  refine v_sipush DX3_init_5 (by decide) ?_
  refine v_newa (t := 1) (z := 400) DX3_init_8 rfl (by decide) q336 rfl (by decide) (cn_ok wcX960 (by decide)) (cz_ok wcX960 (by decide)) ?_
  rw [cnn wcX960]
  show VV E mX3_init d 10 _ _ (crun cX961 e00) _
  refine v_putR (ci := 3) (kf := 0) (z := 17) DX3_init_10 (csh wcX961 (by decide +kernel)) rfl (by decide) (Or.inr (Or.inr ⟨rfl, rfl, rfl, q718⟩)) (fun _ _ => rfl) rfl rfl (Or.inr (cR wcX961 (by decide +kernel))) ?_
  show VV E mX3_init d 13 _ _ (crun cX962 e00) _
  refine v_aload_n 0 DX3_init_13 rfl rfl ?_
  refine v_sipush DX3_init_14 (by decide) ?_
  refine v_newa (t := 0) (z := 200) DX3_init_17 rfl (by decide) q337 rfl (by decide) (cn_ok wcX962 (by decide)) (cz_ok wcX962 (by decide)) ?_
  rw [cnn wcX962]
  show VV E mX3_init d 19 _ _ (crun cX963 e00) _
  refine v_putR (ci := 3) (kf := 5) (z := 17) DX3_init_19 (csh wcX963 (by decide +kernel)) rfl (by decide) (Or.inr (Or.inr ⟨rfl, rfl, rfl, q734⟩)) (fun _ _ => rfl) rfl rfl (Or.inr (cR wcX963 (by decide +kernel))) ?_
  show VV E mX3_init d 22 _ _ (crun cX964 e00) _
  refine v_aload_n 0 DX3_init_22 rfl rfl ?_
  refine v_sipush DX3_init_23 (by decide) ?_
  refine v_newa (t := 0) (z := 200) DX3_init_26 rfl (by decide) q337 rfl (by decide) (cn_ok wcX964 (by decide)) (cz_ok wcX964 (by decide)) ?_
  rw [cnn wcX964]
  show VV E mX3_init d 28 _ _ (crun cX965 e00) _
  refine v_putR (ci := 3) (kf := 6) (z := 17) DX3_init_28 (csh wcX965 (by decide +kernel)) rfl (by decide) (Or.inr (Or.inr ⟨rfl, rfl, rfl, q737⟩)) (fun _ _ => rfl) rfl rfl (Or.inr (cR wcX965 (by decide +kernel))) ?_
  show VV E mX3_init d 31 _ _ (crun cX966 e00) _
  refine v_aload_n 0 DX3_init_31 rfl rfl ?_
  refine v_sipush DX3_init_32 (by decide) ?_
  refine v_newa (t := 0) (z := 200) DX3_init_35 rfl (by decide) q337 rfl (by decide) (cn_ok wcX966 (by decide)) (cz_ok wcX966 (by decide)) ?_
  rw [cnn wcX966]
  show VV E mX3_init d 37 _ _ (crun cX967 e00) _
  refine v_putR (ci := 3) (kf := 7) (z := 17) DX3_init_37 (csh wcX967 (by decide +kernel)) rfl (by decide) (Or.inr (Or.inr ⟨rfl, rfl, rfl, q740⟩)) (fun _ _ => rfl) rfl rfl (Or.inr (cR wcX967 (by decide +kernel))) ?_
  show VV E mX3_init d 40 _ _ (crun cX968 e00) _
  refine v_aload_n 0 DX3_init_40 rfl rfl ?_
  refine v_sipush DX3_init_41 (by decide) ?_
  refine v_newa (t := 0) (z := 200) DX3_init_44 rfl (by decide) q337 rfl (by decide) (cn_ok wcX968 (by decide)) (cz_ok wcX968 (by decide)) ?_
  rw [cnn wcX968]
  show VV E mX3_init d 46 _ _ (crun cX969 e00) _
  refine v_putR (ci := 3) (kf := 8) (z := 17) DX3_init_46 (csh wcX969 (by decide +kernel)) rfl (by decide) (Or.inr (Or.inr ⟨rfl, rfl, rfl, q743⟩)) (fun _ _ => rfl) rfl rfl (Or.inr (cR wcX969 (by decide +kernel))) ?_
  show VV E mX3_init d 49 _ _ (crun cX970 e00) _
  refine v_aload_n 0 DX3_init_49 rfl rfl ?_
  refine v_sipush DX3_init_50 (by decide) ?_
  refine v_newa (t := 4) (z := 200) DX3_init_53 rfl (by decide) q806 rfl (by decide) (cn_ok wcX970 (by decide)) (cz_ok wcX970 (by decide)) ?_
  rw [cnn wcX970]
  show VV E mX3_init d 55 _ _ (crun cX971 e00) _
  refine v_putR (ci := 3) (kf := 9) (z := 17) DX3_init_55 (csh wcX971 (by decide +kernel)) rfl (by decide) (Or.inr (Or.inr ⟨rfl, rfl, rfl, q746⟩)) (fun _ _ => rfl) rfl rfl (Or.inr (cR wcX971 (by decide +kernel))) ?_
  show VV E mX3_init d 58 _ _ (crun cX972 e00) _
  refine v_aload_n 0 DX3_init_58 rfl rfl ?_
  refine v_sipush DX3_init_59 (by decide) ?_
  refine v_newa (t := 0) (z := 200) DX3_init_62 rfl (by decide) q337 rfl (by decide) (cn_ok wcX972 (by decide)) (cz_ok wcX972 (by decide)) ?_
  rw [cnn wcX972]
  show VV E mX3_init d 64 _ _ (crun cX973 e00) _
  refine v_putR (ci := 3) (kf := 10) (z := 17) DX3_init_64 (csh wcX973 (by decide +kernel)) rfl (by decide) (Or.inr (Or.inr ⟨rfl, rfl, rfl, q749⟩)) (fun _ _ => rfl) rfl rfl (Or.inr (cR wcX973 (by decide +kernel))) ?_
  show VV E mX3_init d 67 _ _ (crun cX974 e00) _
  refine v_aload_n 0 DX3_init_67 rfl rfl ?_
  refine v_sipush DX3_init_68 (by decide) ?_
  refine v_newa (t := 0) (z := 200) DX3_init_71 rfl (by decide) q337 rfl (by decide) (cn_ok wcX974 (by decide)) (cz_ok wcX974 (by decide)) ?_
  rw [cnn wcX974]
  show VV E mX3_init d 73 _ _ (crun cX975 e00) _
  refine v_putR (ci := 3) (kf := 11) (z := 17) DX3_init_73 (csh wcX975 (by decide +kernel)) rfl (by decide) (Or.inr (Or.inr ⟨rfl, rfl, rfl, q752⟩)) (fun _ _ => rfl) rfl rfl (Or.inr (cR wcX975 (by decide +kernel))) ?_
  show VV E mX3_init d 76 _ _ (crun cX976 e00) _
  refine v_aload_n 0 DX3_init_76 rfl rfl ?_
  refine v_sipush DX3_init_77 (by decide) ?_
  refine v_newa (t := 0) (z := 200) DX3_init_80 rfl (by decide) q337 rfl (by decide) (cn_ok wcX976 (by decide)) (cz_ok wcX976 (by decide)) ?_
  rw [cnn wcX976]
  show VV E mX3_init d 82 _ _ (crun cX977 e00) _
  refine v_putR (ci := 3) (kf := 12) (z := 17) DX3_init_82 (csh wcX977 (by decide +kernel)) rfl (by decide) (Or.inr (Or.inr ⟨rfl, rfl, rfl, q755⟩)) (fun _ _ => rfl) rfl rfl (Or.inr (cR wcX977 (by decide +kernel))) ?_
  show VV E mX3_init d 85 _ _ (crun cX978 e00) _
  refine v_aload_n 0 DX3_init_85 rfl rfl ?_
  refine v_sipush DX3_init_86 (by decide) ?_
  refine v_newa (t := 0) (z := 200) DX3_init_89 rfl (by decide) q337 rfl (by decide) (cn_ok wcX978 (by decide)) (cz_ok wcX978 (by decide)) ?_
  rw [cnn wcX978]
  show VV E mX3_init d 91 _ _ (crun cX979 e00) _
  refine v_putR (ci := 3) (kf := 13) (z := 17) DX3_init_91 (csh wcX979 (by decide +kernel)) rfl (by decide) (Or.inr (Or.inr ⟨rfl, rfl, rfl, q758⟩)) (fun _ _ => rfl) rfl rfl (Or.inr (cR wcX979 (by decide +kernel))) ?_
  show VV E mX3_init d 94 _ _ (crun cX980 e00) _
  refine v_aload_n 0 DX3_init_94 rfl rfl ?_
  refine v_sipush DX3_init_95 (by decide) ?_
  refine v_newa (t := 4) (z := 200) DX3_init_98 rfl (by decide) q806 rfl (by decide) (cn_ok wcX980 (by decide)) (cz_ok wcX980 (by decide)) ?_
  rw [cnn wcX980]
  show VV E mX3_init d 100 _ _ (crun cX981 e00) _
  refine v_putR (ci := 3) (kf := 14) (z := 17) DX3_init_100 (csh wcX981 (by decide +kernel)) rfl (by decide) (Or.inr (Or.inr ⟨rfl, rfl, rfl, q761⟩)) (fun _ _ => rfl) rfl rfl (Or.inr (cR wcX981 (by decide +kernel))) ?_
  show VV E mX3_init d 103 _ _ (crun cX982 e00) _
  refine v_aload_n 0 DX3_init_103 rfl rfl ?_
  refine v_sipush DX3_init_104 (by decide) ?_
  refine v_newa (t := 4) (z := 200) DX3_init_107 rfl (by decide) q806 rfl (by decide) (cn_ok wcX982 (by decide)) (cz_ok wcX982 (by decide)) ?_
  rw [cnn wcX982]
  show VV E mX3_init d 109 _ _ (crun cX983 e00) _
  refine v_putR (ci := 3) (kf := 15) (z := 17) DX3_init_109 (csh wcX983 (by decide +kernel)) rfl (by decide) (Or.inr (Or.inr ⟨rfl, rfl, rfl, q764⟩)) (fun _ _ => rfl) rfl rfl (Or.inr (cR wcX983 (by decide +kernel))) ?_
  show VV E mX3_init d 112 _ _ (crun cX984 e00) _
  refine v_aload_n 0 DX3_init_112 rfl rfl ?_
  refine v_sipush DX3_init_113 (by decide) ?_
  refine v_newa (t := 4) (z := 200) DX3_init_116 rfl (by decide) q806 rfl (by decide) (cn_ok wcX984 (by decide)) (cz_ok wcX984 (by decide)) ?_
  rw [cnn wcX984]
  show VV E mX3_init d 118 _ _ (crun cX985 e00) _
  refine v_putR (ci := 3) (kf := 16) (z := 17) DX3_init_118 (csh wcX985 (by decide +kernel)) rfl (by decide) (Or.inr (Or.inr ⟨rfl, rfl, rfl, q767⟩)) (fun _ _ => rfl) rfl rfl (Or.inr (cR wcX985 (by decide +kernel))) ?_
  show VV E mX3_init d 121 _ _ (crun cX986 e00) _
  exact v_vret DX3_init_121 rfl (RV_mk rfl)
def cX987 : List (Nat × Nat × Nat × Nat) := (1, 79, 14, 471) :: cX986
theorem wcX987 : WF 485 1921613 cX987 := ⟨by decide, wcX986⟩
def cX988 : List (Nat × Nat × Nat × Nat) := (0, 103, 17, 485) :: cX987
theorem wcX988 : WF 486 1921630 cX988 := ⟨rfl, by decide, wcX987⟩
def cX989 : List (Nat × Nat × Nat × Nat) := (0, 1, 400, 486) :: cX988
theorem wcX989 : WF 487 1922030 cX989 := ⟨rfl, by decide, wcX988⟩
def cX990 : List (Nat × Nat × Nat × Nat) := (1, 485, 0, 486) :: cX989
theorem wcX990 : WF 487 1922030 cX990 := ⟨by decide, wcX989⟩
def cX991 : List (Nat × Nat × Nat × Nat) := (0, 0, 200, 487) :: cX990
theorem wcX991 : WF 488 1922230 cX991 := ⟨rfl, by decide, wcX990⟩
def cX992 : List (Nat × Nat × Nat × Nat) := (1, 485, 5, 487) :: cX991
theorem wcX992 : WF 488 1922230 cX992 := ⟨by decide, wcX991⟩
def cX993 : List (Nat × Nat × Nat × Nat) := (0, 0, 200, 488) :: cX992
theorem wcX993 : WF 489 1922430 cX993 := ⟨rfl, by decide, wcX992⟩
def cX994 : List (Nat × Nat × Nat × Nat) := (1, 485, 6, 488) :: cX993
theorem wcX994 : WF 489 1922430 cX994 := ⟨by decide, wcX993⟩
def cX995 : List (Nat × Nat × Nat × Nat) := (0, 0, 200, 489) :: cX994
theorem wcX995 : WF 490 1922630 cX995 := ⟨rfl, by decide, wcX994⟩
def cX996 : List (Nat × Nat × Nat × Nat) := (1, 485, 7, 489) :: cX995
theorem wcX996 : WF 490 1922630 cX996 := ⟨by decide, wcX995⟩
def cX997 : List (Nat × Nat × Nat × Nat) := (0, 0, 200, 490) :: cX996
theorem wcX997 : WF 491 1922830 cX997 := ⟨rfl, by decide, wcX996⟩
def cX998 : List (Nat × Nat × Nat × Nat) := (1, 485, 8, 490) :: cX997
theorem wcX998 : WF 491 1922830 cX998 := ⟨by decide, wcX997⟩
def cX999 : List (Nat × Nat × Nat × Nat) := (0, 4, 200, 491) :: cX998
theorem wcX999 : WF 492 1923030 cX999 := ⟨rfl, by decide, wcX998⟩
def cX1000 : List (Nat × Nat × Nat × Nat) := (1, 485, 9, 491) :: cX999
theorem wcX1000 : WF 492 1923030 cX1000 := ⟨by decide, wcX999⟩
def cX1001 : List (Nat × Nat × Nat × Nat) := (0, 0, 200, 492) :: cX1000
theorem wcX1001 : WF 493 1923230 cX1001 := ⟨rfl, by decide, wcX1000⟩
def cX1002 : List (Nat × Nat × Nat × Nat) := (1, 485, 10, 492) :: cX1001
theorem wcX1002 : WF 493 1923230 cX1002 := ⟨by decide, wcX1001⟩
def cX1003 : List (Nat × Nat × Nat × Nat) := (0, 0, 200, 493) :: cX1002
theorem wcX1003 : WF 494 1923430 cX1003 := ⟨rfl, by decide, wcX1002⟩
def cX1004 : List (Nat × Nat × Nat × Nat) := (1, 485, 11, 493) :: cX1003
theorem wcX1004 : WF 494 1923430 cX1004 := ⟨by decide, wcX1003⟩
def cX1005 : List (Nat × Nat × Nat × Nat) := (0, 0, 200, 494) :: cX1004
theorem wcX1005 : WF 495 1923630 cX1005 := ⟨rfl, by decide, wcX1004⟩
def cX1006 : List (Nat × Nat × Nat × Nat) := (1, 485, 12, 494) :: cX1005
theorem wcX1006 : WF 495 1923630 cX1006 := ⟨by decide, wcX1005⟩
def cX1007 : List (Nat × Nat × Nat × Nat) := (0, 0, 200, 495) :: cX1006
theorem wcX1007 : WF 496 1923830 cX1007 := ⟨rfl, by decide, wcX1006⟩
def cX1008 : List (Nat × Nat × Nat × Nat) := (1, 485, 13, 495) :: cX1007
theorem wcX1008 : WF 496 1923830 cX1008 := ⟨by decide, wcX1007⟩
def cX1009 : List (Nat × Nat × Nat × Nat) := (0, 4, 200, 496) :: cX1008
theorem wcX1009 : WF 497 1924030 cX1009 := ⟨rfl, by decide, wcX1008⟩
def cX1010 : List (Nat × Nat × Nat × Nat) := (1, 485, 14, 496) :: cX1009
theorem wcX1010 : WF 497 1924030 cX1010 := ⟨by decide, wcX1009⟩
def cX1011 : List (Nat × Nat × Nat × Nat) := (0, 4, 200, 497) :: cX1010
theorem wcX1011 : WF 498 1924230 cX1011 := ⟨rfl, by decide, wcX1010⟩
def cX1012 : List (Nat × Nat × Nat × Nat) := (1, 485, 15, 497) :: cX1011
theorem wcX1012 : WF 498 1924230 cX1012 := ⟨by decide, wcX1011⟩
def cX1013 : List (Nat × Nat × Nat × Nat) := (0, 4, 200, 498) :: cX1012
theorem wcX1013 : WF 499 1924430 cX1013 := ⟨rfl, by decide, wcX1012⟩
def cX1014 : List (Nat × Nat × Nat × Nat) := (1, 485, 16, 498) :: cX1013
theorem wcX1014 : WF 499 1924430 cX1014 := ⟨by decide, wcX1013⟩
theorem ct_X0_30 {E : XE} {d : Nat} (hd : 2 ≤ d) : CC E mX3_init d [aO 485] (crun cX988 e00) (RV (fun τ => τ = crun cX1014 e00)) := by
  refine v_aload_n 0 DX3_init_0 rfl rfl ?_
  refine v_objInit DX3_init_1 q717 q309 q310 (by omega) (by decide) ?_
  refine v_aload_n 0 DX3_init_4 rfl rfl ?_
  refine v_sipush DX3_init_5 (by decide) ?_
  refine v_newa (t := 1) (z := 400) DX3_init_8 rfl (by decide) q336 rfl (by decide) (cn_ok wcX988 (by decide)) (cz_ok wcX988 (by decide)) ?_
  rw [cnn wcX988]
  show VV E mX3_init d 10 _ _ (crun cX989 e00) _
  refine v_putR (ci := 3) (kf := 0) (z := 17) DX3_init_10 (csh wcX989 (by decide +kernel)) rfl (by decide) (Or.inr (Or.inr ⟨rfl, rfl, rfl, q718⟩)) (fun _ _ => rfl) rfl rfl (Or.inr (cR wcX989 (by decide +kernel))) ?_
  show VV E mX3_init d 13 _ _ (crun cX990 e00) _
  refine v_aload_n 0 DX3_init_13 rfl rfl ?_
  refine v_sipush DX3_init_14 (by decide) ?_
  refine v_newa (t := 0) (z := 200) DX3_init_17 rfl (by decide) q337 rfl (by decide) (cn_ok wcX990 (by decide)) (cz_ok wcX990 (by decide)) ?_
  rw [cnn wcX990]
  show VV E mX3_init d 19 _ _ (crun cX991 e00) _
  refine v_putR (ci := 3) (kf := 5) (z := 17) DX3_init_19 (csh wcX991 (by decide +kernel)) rfl (by decide) (Or.inr (Or.inr ⟨rfl, rfl, rfl, q734⟩)) (fun _ _ => rfl) rfl rfl (Or.inr (cR wcX991 (by decide +kernel))) ?_
  show VV E mX3_init d 22 _ _ (crun cX992 e00) _
  refine v_aload_n 0 DX3_init_22 rfl rfl ?_
  refine v_sipush DX3_init_23 (by decide) ?_
  refine v_newa (t := 0) (z := 200) DX3_init_26 rfl (by decide) q337 rfl (by decide) (cn_ok wcX992 (by decide)) (cz_ok wcX992 (by decide)) ?_
  rw [cnn wcX992]
  show VV E mX3_init d 28 _ _ (crun cX993 e00) _
  refine v_putR (ci := 3) (kf := 6) (z := 17) DX3_init_28 (csh wcX993 (by decide +kernel)) rfl (by decide) (Or.inr (Or.inr ⟨rfl, rfl, rfl, q737⟩)) (fun _ _ => rfl) rfl rfl (Or.inr (cR wcX993 (by decide +kernel))) ?_
  show VV E mX3_init d 31 _ _ (crun cX994 e00) _
  refine v_aload_n 0 DX3_init_31 rfl rfl ?_
  refine v_sipush DX3_init_32 (by decide) ?_
  refine v_newa (t := 0) (z := 200) DX3_init_35 rfl (by decide) q337 rfl (by decide) (cn_ok wcX994 (by decide)) (cz_ok wcX994 (by decide)) ?_
  rw [cnn wcX994]
  show VV E mX3_init d 37 _ _ (crun cX995 e00) _
  refine v_putR (ci := 3) (kf := 7) (z := 17) DX3_init_37 (csh wcX995 (by decide +kernel)) rfl (by decide) (Or.inr (Or.inr ⟨rfl, rfl, rfl, q740⟩)) (fun _ _ => rfl) rfl rfl (Or.inr (cR wcX995 (by decide +kernel))) ?_
  show VV E mX3_init d 40 _ _ (crun cX996 e00) _
  refine v_aload_n 0 DX3_init_40 rfl rfl ?_
  refine v_sipush DX3_init_41 (by decide) ?_
  refine v_newa (t := 0) (z := 200) DX3_init_44 rfl (by decide) q337 rfl (by decide) (cn_ok wcX996 (by decide)) (cz_ok wcX996 (by decide)) ?_
  rw [cnn wcX996]
  show VV E mX3_init d 46 _ _ (crun cX997 e00) _
  refine v_putR (ci := 3) (kf := 8) (z := 17) DX3_init_46 (csh wcX997 (by decide +kernel)) rfl (by decide) (Or.inr (Or.inr ⟨rfl, rfl, rfl, q743⟩)) (fun _ _ => rfl) rfl rfl (Or.inr (cR wcX997 (by decide +kernel))) ?_
  show VV E mX3_init d 49 _ _ (crun cX998 e00) _
  refine v_aload_n 0 DX3_init_49 rfl rfl ?_
  refine v_sipush DX3_init_50 (by decide) ?_
  refine v_newa (t := 4) (z := 200) DX3_init_53 rfl (by decide) q806 rfl (by decide) (cn_ok wcX998 (by decide)) (cz_ok wcX998 (by decide)) ?_
  rw [cnn wcX998]
  show VV E mX3_init d 55 _ _ (crun cX999 e00) _
  refine v_putR (ci := 3) (kf := 9) (z := 17) DX3_init_55 (csh wcX999 (by decide +kernel)) rfl (by decide) (Or.inr (Or.inr ⟨rfl, rfl, rfl, q746⟩)) (fun _ _ => rfl) rfl rfl (Or.inr (cR wcX999 (by decide +kernel))) ?_
  show VV E mX3_init d 58 _ _ (crun cX1000 e00) _
  refine v_aload_n 0 DX3_init_58 rfl rfl ?_
  refine v_sipush DX3_init_59 (by decide) ?_
  refine v_newa (t := 0) (z := 200) DX3_init_62 rfl (by decide) q337 rfl (by decide) (cn_ok wcX1000 (by decide)) (cz_ok wcX1000 (by decide)) ?_
  rw [cnn wcX1000]
  show VV E mX3_init d 64 _ _ (crun cX1001 e00) _
  refine v_putR (ci := 3) (kf := 10) (z := 17) DX3_init_64 (csh wcX1001 (by decide +kernel)) rfl (by decide) (Or.inr (Or.inr ⟨rfl, rfl, rfl, q749⟩)) (fun _ _ => rfl) rfl rfl (Or.inr (cR wcX1001 (by decide +kernel))) ?_
  show VV E mX3_init d 67 _ _ (crun cX1002 e00) _
  refine v_aload_n 0 DX3_init_67 rfl rfl ?_
  refine v_sipush DX3_init_68 (by decide) ?_
  refine v_newa (t := 0) (z := 200) DX3_init_71 rfl (by decide) q337 rfl (by decide) (cn_ok wcX1002 (by decide)) (cz_ok wcX1002 (by decide)) ?_
  rw [cnn wcX1002]
  show VV E mX3_init d 73 _ _ (crun cX1003 e00) _
  refine v_putR (ci := 3) (kf := 11) (z := 17) DX3_init_73 (csh wcX1003 (by decide +kernel)) rfl (by decide) (Or.inr (Or.inr ⟨rfl, rfl, rfl, q752⟩)) (fun _ _ => rfl) rfl rfl (Or.inr (cR wcX1003 (by decide +kernel))) ?_
  show VV E mX3_init d 76 _ _ (crun cX1004 e00) _
  refine v_aload_n 0 DX3_init_76 rfl rfl ?_
  refine v_sipush DX3_init_77 (by decide) ?_
  refine v_newa (t := 0) (z := 200) DX3_init_80 rfl (by decide) q337 rfl (by decide) (cn_ok wcX1004 (by decide)) (cz_ok wcX1004 (by decide)) ?_
  rw [cnn wcX1004]
  show VV E mX3_init d 82 _ _ (crun cX1005 e00) _
  refine v_putR (ci := 3) (kf := 12) (z := 17) DX3_init_82 (csh wcX1005 (by decide +kernel)) rfl (by decide) (Or.inr (Or.inr ⟨rfl, rfl, rfl, q755⟩)) (fun _ _ => rfl) rfl rfl (Or.inr (cR wcX1005 (by decide +kernel))) ?_
  show VV E mX3_init d 85 _ _ (crun cX1006 e00) _
  refine v_aload_n 0 DX3_init_85 rfl rfl ?_
  refine v_sipush DX3_init_86 (by decide) ?_
  refine v_newa (t := 0) (z := 200) DX3_init_89 rfl (by decide) q337 rfl (by decide) (cn_ok wcX1006 (by decide)) (cz_ok wcX1006 (by decide)) ?_
  rw [cnn wcX1006]
  show VV E mX3_init d 91 _ _ (crun cX1007 e00) _
  refine v_putR (ci := 3) (kf := 13) (z := 17) DX3_init_91 (csh wcX1007 (by decide +kernel)) rfl (by decide) (Or.inr (Or.inr ⟨rfl, rfl, rfl, q758⟩)) (fun _ _ => rfl) rfl rfl (Or.inr (cR wcX1007 (by decide +kernel))) ?_
  show VV E mX3_init d 94 _ _ (crun cX1008 e00) _
  refine v_aload_n 0 DX3_init_94 rfl rfl ?_
  refine v_sipush DX3_init_95 (by decide) ?_
  refine v_newa (t := 4) (z := 200) DX3_init_98 rfl (by decide) q806 rfl (by decide) (cn_ok wcX1008 (by decide)) (cz_ok wcX1008 (by decide)) ?_
  rw [cnn wcX1008]
  show VV E mX3_init d 100 _ _ (crun cX1009 e00) _
  refine v_putR (ci := 3) (kf := 14) (z := 17) DX3_init_100 (csh wcX1009 (by decide +kernel)) rfl (by decide) (Or.inr (Or.inr ⟨rfl, rfl, rfl, q761⟩)) (fun _ _ => rfl) rfl rfl (Or.inr (cR wcX1009 (by decide +kernel))) ?_
  show VV E mX3_init d 103 _ _ (crun cX1010 e00) _
  refine v_aload_n 0 DX3_init_103 rfl rfl ?_
  refine v_sipush DX3_init_104 (by decide) ?_
  refine v_newa (t := 4) (z := 200) DX3_init_107 rfl (by decide) q806 rfl (by decide) (cn_ok wcX1010 (by decide)) (cz_ok wcX1010 (by decide)) ?_
  rw [cnn wcX1010]
  show VV E mX3_init d 109 _ _ (crun cX1011 e00) _
  refine v_putR (ci := 3) (kf := 15) (z := 17) DX3_init_109 (csh wcX1011 (by decide +kernel)) rfl (by decide) (Or.inr (Or.inr ⟨rfl, rfl, rfl, q764⟩)) (fun _ _ => rfl) rfl rfl (Or.inr (cR wcX1011 (by decide +kernel))) ?_
  show VV E mX3_init d 112 _ _ (crun cX1012 e00) _
  refine v_aload_n 0 DX3_init_112 rfl rfl ?_
  refine v_sipush DX3_init_113 (by decide) ?_
  refine v_newa (t := 4) (z := 200) DX3_init_116 rfl (by decide) q806 rfl (by decide) (cn_ok wcX1012 (by decide)) (cz_ok wcX1012 (by decide)) ?_
  rw [cnn wcX1012]
  show VV E mX3_init d 118 _ _ (crun cX1013 e00) _
  refine v_putR (ci := 3) (kf := 16) (z := 17) DX3_init_118 (csh wcX1013 (by decide +kernel)) rfl (by decide) (Or.inr (Or.inr ⟨rfl, rfl, rfl, q767⟩)) (fun _ _ => rfl) rfl rfl (Or.inr (cR wcX1013 (by decide +kernel))) ?_
  show VV E mX3_init d 121 _ _ (crun cX1014 e00) _
  exact v_vret DX3_init_121 rfl (RV_mk rfl)

