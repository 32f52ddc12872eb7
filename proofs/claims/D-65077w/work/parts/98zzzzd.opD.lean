/-! contracts: printed by tools/mk.py out of s98zzzzd_opD.py -/
set_option maxRecDepth 100000
set_option maxHeartbeats 1200000
theorem CQF_o {σ : Sto} {o0 o1 : Nat} {x : Int} {c : Nat} {i : Int} (h : c < o0 ∨ o0 + 13 < c) : CQF σ o0 o1 2 x c i = σ.I c i := by
  unfold CQF
  rw [if_neg (by omega), if_neg (by omega), if_neg (by omega)]
section OPD
variable {E : XE} {d : Nat}

theorem op_use (hd : 30 ≤ d) : OP_use E d RR := by
  intro k σ hk r x1 h1
  have qu := r.QU
  have qu1 := qu.1
  have kq := r.KQ
  have kq1 := kq.1
  have fl := r.FL
  have fl1 := fl.1
  have KP : 0 ≤ x1 ∧ x1 ≤ σ.I 0 51 - 1 → (0 ≤ σ.I (275 + 14 * x1.toNat) 1 ∧ σ.I (275 + 14 * x1.toNat) 1 ≤ 400) ∧ (0 ≤ σ.I (275 + 14 * x1.toNat) 2 ∧ σ.I (275 + 14 * x1.toNat) 2 ≤ 200) := fun q => (kq.2.2 x1.toNat (by omega)).1.2
  by_cases w : 0 ≤ x1 ∧ x1 ≤ σ.I 0 51 - 1
  · obtain ⟨u, rfl⟩ : ∃ u : Nat, x1 = (u : Int) := ⟨x1.toNat, by omega⟩
    have zk := kq.2.2 u (by omega)
    have z1 := zk.1.1
    have y1 := kq.2.1 u (by omega) (by omega)
    have w2 : 0 ≤ (u : Int) ∧ (u : Int) < σ.I 0 51 := by omega
    refine OPI.mk (sp_X0_use (by omega) r.Lay h1 kq.1.2 KP) (fun y σ1 p s1 => by
        have e555_71 : σ1.I 555 71 = σ.I 555 71 := by
          rw [congrFun (congrFun p.2.2 555) 71]
          ((try simp only [at2, rg, fgX, fgM, CQF, and_false, false_and, and_true, true_and, or_false, false_or, or_true, true_or, if_false, if_true, not_false_eq_true, not_true_eq_false])  <;> (repeat' split)) <;> first | rfl | omega
        exact sp_X9_use (by omega) (r.Lay.sf s1) h1 (by rw [e555_71, ← kq.1.1]; exact kq.1.2) (fun i h0 h1 => by rw [show σ1.I 605 i = σ.I 605 i from (by
              rw [congrFun (congrFun p.2.2 605) i]
              ((try simp only [at2, rg, fgX, fgM, CQF, and_false, false_and, and_true, true_and, or_false, false_or, or_true, true_or, if_false, if_true, not_false_eq_true, not_true_eq_false])  <;> (repeat' split)) <;> first | rfl | omega)]; exact kq.2.1 i h0 h1)) ?_
    intro y σ1 z σ2 p s1 g s2
    have S71 : σ1.I 555 71 = σ.I 0 51 := by
      rw [kq.1.1, congrFun (congrFun p.2.2 555) 71]
      ((try simp only [at2, rg, fgX, fgM, CQF, and_false, false_and, and_true, true_and, or_false, false_or, or_true, true_or, if_false, if_true, not_false_eq_true, not_true_eq_false])  <;> (repeat' split)) <;> first | rfl | omega
    rw [S71] at g
    have F1 : ∀ (c : Nat) (i : Int), ¬ ((51 ≤ c ∧ c ≤ 64) ∨ (c = 0 ∧ i = 48) ∨ (c = 0 ∧ (i = 70 ∨ i = 71 ∨ i = 59 ∨ i = 75 ∨ i = 79))) → σ1.I c i = σ.I c i := by
      intro c i q
      have o : CQF σ 51 (275 + 14 * (u : Int).toNat) 2 (σ.I (275 + 14 * (u : Int).toNat) 2) c i = σ.I c i := CQF_o (by omega)
      rw [congrFun (congrFun p.2.2 c) i]
      ((try simp only [at2, rg, fgX, fgM, and_false, false_and, and_true, true_and, or_false, false_or, or_true, true_or, if_false, if_true, not_false_eq_true, not_true_eq_false]) <;> (repeat' split)) <;> first | rfl | exact o | (exfalso; omega)
    have F2 : ∀ (c : Nat) (i : Int), ¬ (c = 603 ∨ (c = 555 ∧ (i = 66 ∨ i = 67)) ∨ (c = 555 ∧ (i = 114 ∨ i = 115 ∨ i = 133 ∨ i = 134 ∨ i = 135))) → σ2.I c i = σ1.I c i := by
      intro c i q
      rw [congrFun (congrFun g.2.2 c) i]
      ((try simp only [at2, rg, fgX, fgM, CQF, and_false, false_and, and_true, true_and, or_false, false_or, or_true, true_or, if_false, if_true, not_false_eq_true, not_true_eq_false])  <;> (repeat' split)) <;> first | rfl | (exfalso; omega)
    have F : ∀ (c : Nat) (i : Int), ¬ ((51 ≤ c ∧ c ≤ 64) ∨ (c = 0 ∧ i = 48) ∨ (c = 0 ∧ (i = 70 ∨ i = 71 ∨ i = 59 ∨ i = 75 ∨ i = 79))) → ¬ (c = 603 ∨ (c = 555 ∧ (i = 66 ∨ i = 67)) ∨ (c = 555 ∧ (i = 114 ∨ i = 115 ∨ i = 133 ∨ i = 134 ∨ i = 135))) → σ2.I c i = σ.I c i := fun c i a b => (F2 c i b).trans (F1 c i a)
    have hR : σ2.R = σ.R := g.2.1.1.trans p.2.1.1
    have hS : σ2.sh = σ.sh := g.2.1.2.1.trans p.2.1.2.1
    have hN : σ2.n = σ.n := g.2.1.2.2.trans p.2.1.2.2
    have A48 : σ2.I 0 48 = 1 := by
      rw [F2 0 48 (by omega), congrFun (congrFun p.2.2 0) 48]
      ((try simp only [at2, rg, fgX, fgM, CQF, and_false, false_and, and_true, true_and, or_false, false_or, or_true, true_or, if_false, if_true, not_false_eq_true, not_true_eq_false])  <;> (repeat' split)) <;> first | rfl | omega
    have f605 := F1 605 u (by omega)
    have f606 := F1 606 u (by omega)
    have B66 : σ2.I 555 66 = σ.I 605 u := by
      rw [congrFun (congrFun g.2.2 555) 66]
      ((try simp only [at2, rg, fgX, fgM, CQF, and_false, false_and, and_true, true_and, or_false, false_or, or_true, true_or, if_false, if_true, not_false_eq_true, not_true_eq_false])  <;> (repeat' split)) <;> first | rfl | omega
    have B67 : σ2.I 555 67 = σ.I 606 u := by
      rw [congrFun (congrFun g.2.2 555) 67]
      ((try simp only [at2, rg, fgX, fgM, CQF, and_false, false_and, and_true, true_and, or_false, false_or, or_true, true_or, if_false, if_true, not_false_eq_true, not_true_eq_false])  <;> (repeat' split)) <;> first | rfl | omega
    have G70 : σ2.I 0 70 = 0 := by
      rw [F2 0 70 (by omega), congrFun (congrFun p.2.2 0) 70]
      ((try simp only [at2, rg, fgX, fgM, CQF, and_false, false_and, and_true, true_and, or_false, false_or, or_true, true_or, if_false, if_true, not_false_eq_true, not_true_eq_false])  <;> (repeat' split)) <;> first | rfl | omega
    have G71 : σ2.I 0 71 = 0 := by
      rw [F2 0 71 (by omega), congrFun (congrFun p.2.2 0) 71]
      ((try simp only [at2, rg, fgX, fgM, CQF, and_false, false_and, and_true, true_and, or_false, false_or, or_true, true_or, if_false, if_true, not_false_eq_true, not_true_eq_false])  <;> (repeat' split)) <;> first | rfl | omega
    have G59 : σ2.I 0 59 = 0 := by
      rw [F2 0 59 (by omega), congrFun (congrFun p.2.2 0) 59]
      ((try simp only [at2, rg, fgX, fgM, CQF, and_false, false_and, and_true, true_and, or_false, false_or, or_true, true_or, if_false, if_true, not_false_eq_true, not_true_eq_false])  <;> (repeat' split)) <;> first | rfl | omega
    have G75 : σ2.I 0 75 = 0 := by
      rw [F2 0 75 (by omega), congrFun (congrFun p.2.2 0) 75]
      ((try simp only [at2, rg, fgX, fgM, CQF, and_false, false_and, and_true, true_and, or_false, false_or, or_true, true_or, if_false, if_true, not_false_eq_true, not_true_eq_false])  <;> (repeat' split)) <;> first | rfl | omega
    have G79 : σ2.I 0 79 = 0 := by
      rw [F2 0 79 (by omega), congrFun (congrFun p.2.2 0) 79]
      ((try simp only [at2, rg, fgX, fgM, CQF, and_false, false_and, and_true, true_and, or_false, false_or, or_true, true_or, if_false, if_true, not_false_eq_true, not_true_eq_false])  <;> (repeat' split)) <;> first | rfl | omega
    have G114 : σ2.I 555 114 = 0 := by
      rw [congrFun (congrFun g.2.2 555) 114]
      ((try simp only [at2, rg, fgX, fgM, CQF, and_false, false_and, and_true, true_and, or_false, false_or, or_true, true_or, if_false, if_true, not_false_eq_true, not_true_eq_false])  <;> (repeat' split)) <;> first | rfl | omega
    have G115 : σ2.I 555 115 = 0 := by
      rw [congrFun (congrFun g.2.2 555) 115]
      ((try simp only [at2, rg, fgX, fgM, CQF, and_false, false_and, and_true, true_and, or_false, false_or, or_true, true_or, if_false, if_true, not_false_eq_true, not_true_eq_false])  <;> (repeat' split)) <;> first | rfl | omega
    have G133 : σ2.I 555 133 = 0 := by
      rw [congrFun (congrFun g.2.2 555) 133]
      ((try simp only [at2, rg, fgX, fgM, CQF, and_false, false_and, and_true, true_and, or_false, false_or, or_true, true_or, if_false, if_true, not_false_eq_true, not_true_eq_false])  <;> (repeat' split)) <;> first | rfl | omega
    have G134 : σ2.I 555 134 = 0 := by
      rw [congrFun (congrFun g.2.2 555) 134]
      ((try simp only [at2, rg, fgX, fgM, CQF, and_false, false_and, and_true, true_and, or_false, false_or, or_true, true_or, if_false, if_true, not_false_eq_true, not_true_eq_false])  <;> (repeat' split)) <;> first | rfl | omega
    have G135 : σ2.I 555 135 = 0 := by
      rw [congrFun (congrFun g.2.2 555) 135]
      ((try simp only [at2, rg, fgX, fgM, CQF, and_false, false_and, and_true, true_and, or_false, false_or, or_true, true_or, if_false, if_true, not_false_eq_true, not_true_eq_false])  <;> (repeat' split)) <;> first | rfl | omega
    refine ⟨by rw [g.1, p.1, if_pos w, if_pos w2, F1 606 u (by omega), Int.toNat_natCast, zk.2.2], r.Lay.sf (s1.tr s2), RK_cg hS hN (F 0 1 (by omega) (by omega)) (F 0 41 (by omega) (by omega)) (fun i => F 211 i (by omega) (by omega)) r.RK, ?_, ?_, ?_, ?_, ?_, ?_, ?_, ?_, ?_, ?_, ?_, ?_, ?_, ?_, ?_, ?_, ?_, ?_, ?_, ?_, ?_, ?_, ?_, ?_, ?_⟩
    · exact rTP_cg (fun c i h => F c i (by unfold fTP at h; omega) (by unfold fTP at h; omega)) r.TP
    · exact rFL_cg (fun c i h => F c i (by unfold fFL at h; omega) (by unfold fFL at h; omega)) r.FL
    · exact rVS_cg (fun c i h => F c i (by unfold fVS at h; omega) (by unfold fVS at h; omega)) r.VS
    · exact rOB_cg (fun c i h => F c i (by unfold fOB at h; omega) (by unfold fOB at h; omega)) r.OB
    · exact rVA_cg (fun c i h => F c i (by unfold fVA at h; omega) (by unfold fVA at h; omega)) r.VA
    · exact rBD_cg (fun c i h => F c i (by unfold fBD at h; omega) (by unfold fBD at h; omega)) r.BD
    · exact rTE_cg (fun c i h => F c i (by unfold fTE at h; omega) (by unfold fTE at h; omega)) r.TE
    · exact rPK_cg (fun c i h => F c i (by unfold fPK at h; omega) (by unfold fPK at h; omega)) r.PK
    · exact rUS_cg (fun c i h => F c i (by unfold fUS at h; omega) (by unfold fUS at h; omega)) r.US
    · exact rFO_cg (fun c i h => F c i (by unfold fFO at h; omega) (by unfold fFO at h; omega)) r.FO
    · exact rSH_cg (fun c i h => F c i (by unfold fSH at h; omega) (by unfold fSH at h; omega)) r.SH
    · exact rSW_cg (fun c i h => F c i (by unfold fSW at h; omega) (by unfold fSW at h; omega)) r.SW
    · exact HI_0 r G70 G71 G114 G115 (fun i => F 637 i (by omega) (by omega))
    · exact LN_0 G59 G133
    · exact MK_0 G75 G134
    · exact GRz_0 G79 G135
    · exact rTT_cg (fun c i h => F c i (by unfold fTT at h; omega) (by unfold fTT at h; omega)) r.TT
    · exact rMT_cg (fun c i h => F c i (by unfold fMT at h; omega) (by unfold fMT at h; omega)) r.MT
    · exact rSC_cg (fun c i h => F c i (by unfold fSC at h; omega) (by unfold fSC at h; omega)) r.SC
    · have C : ∀ c i, 51 ≤ c → c ≤ 51 + 13 → σ2.I c i = CQF σ 51 (275 + 14 * u) 2 (σ.I (275 + 14 * u) 2) c i := by
        intro c i h1 h2
        rw [F2 c i (by omega), congrFun (congrFun p.2.2 c) i]
        show (if 0 ≤ (u : Int) ∧ (u : Int) ≤ σ.I 0 51 - 1 then (if fgX c i then _ else if at2 c i 0 48 then _ else CQF σ 51 (275 + 14 * (u : Int).toNat) 2 (σ.I (275 + 14 * (u : Int).toNat) 2) c i) else _) = _
        rw [if_pos w, if_neg (show ¬ fgX c i from fun z => by simp only [fgX, at2] at z; omega), if_neg (show ¬ (c = 0 ∧ i = 48) by omega), Int.toNat_natCast]
      have c1 : σ2.I 51 1 = σ.I (275 + 14 * u) 1 := by rw [C 51 1 (by omega) (by omega)]; unfold CQF; rw [if_pos ⟨rfl, by omega, by omega⟩]
      have c2 : σ2.I 51 2 = σ.I (275 + 14 * u) 2 := by rw [C 51 2 (by omega) (by omega)]; unfold CQF; rw [if_pos ⟨rfl, by omega, by omega⟩]
      have c3 : σ2.I 51 3 = σ.I (275 + 14 * u) 3 := by rw [C 51 3 (by omega) (by omega)]; unfold CQF; rw [if_pos ⟨rfl, by omega, by omega⟩]
      refine ⟨⟨Or.inr A48, by rw [B66]; omega, by rw [A48, B66]; omega⟩, by rw [c1, c2]; exact zk.1.2, fun _ => ⟨?_, by rw [c3, B67]; exact zk.2.2⟩⟩
      refine QT_new zk.2.1 C ⟨?_, fun k h0 h1 => ?_, ?_, fun i h0 h1 => ?_⟩ (by show σ.I 555 27 ≤ 12; rw [← fl.1.1]; omega) y1.1
      · show σ2.I 555 66 = σ.I 605 u
        exact B66
      · show σ2.I 577 k = σ.I 577 k
        exact F 577 k (by omega) (by omega)
      · show σ.I 555 27 ≤ σ2.I 555 27
        rw [F 555 27 (by omega) (by omega)]
        omega
      · show σ2.I 603 (0 + i) = σ.I 604 (400 * (u : Int) + i)
        have h1 : i < σ.I 605 u := h1
        have f1 := F1 604 (400 * (u : Int) + i) (by omega)
        have f2 := F1 605 u (by omega)
        rw [Int.zero_add, congrFun (congrFun g.2.2 603) i]
        ((try simp only [at2, rg, fgX, fgM, CQF, and_false, false_and, and_true, true_and, or_false, false_or, or_true, true_or, if_false, if_true, not_false_eq_true, not_true_eq_false])  <;> (repeat' split)) <;> first | rfl | omega
    · exact rKQ_cg (fun c i h => F c i (by unfold fKQ at h; omega) (by unfold fKQ at h; omega)) r.KQ
    · exact rHQ_cg (fun c i h => F c i (by unfold fHQ at h; omega) (by unfold fHQ at h; omega)) r.HQ
    · exact rPP_cg (fun c i h => F c i (by unfold fPP at h; omega) (by unfold fPP at h; omega)) (by rw [hR]) (by rw [hR]) r.PP
    · exact rAN_cg (fun c i h => F c i (by unfold fAN at h; omega) (by unfold fAN at h; omega)) hR hS hN r.AN
    · exact rSE_cg r.SE
  · refine OPI.mk (sp_X0_use (by omega) r.Lay h1 kq.1.2 KP) (fun y σ1 p s1 => by
        have e555_71 : σ1.I 555 71 = σ.I 555 71 := by
          rw [congrFun (congrFun p.2.2 555) 71]
          ((try simp only [at2, rg, fgX, fgM, CQF, and_false, false_and, and_true, true_and, or_false, false_or, or_true, true_or, if_false, if_true, not_false_eq_true, not_true_eq_false])  <;> (repeat' split)) <;> first | rfl | omega
        exact sp_X9_use (by omega) (r.Lay.sf s1) h1 (by rw [e555_71, ← kq.1.1]; exact kq.1.2) (fun i h0 h1 => by rw [show σ1.I 605 i = σ.I 605 i from (by
              rw [congrFun (congrFun p.2.2 605) i]
              ((try simp only [at2, rg, fgX, fgM, CQF, and_false, false_and, and_true, true_and, or_false, false_or, or_true, true_or, if_false, if_true, not_false_eq_true, not_true_eq_false])  <;> (repeat' split)) <;> first | rfl | omega)]; exact kq.2.1 i h0 h1)) ?_
    intro y σ1 z σ2 p s1 g s2
    have S71 : σ1.I 555 71 = σ.I 0 51 := by
      rw [kq.1.1, congrFun (congrFun p.2.2 555) 71]
      ((try simp only [at2, rg, fgX, fgM, CQF, and_false, false_and, and_true, true_and, or_false, false_or, or_true, true_or, if_false, if_true, not_false_eq_true, not_true_eq_false])  <;> (repeat' split)) <;> first | rfl | omega
    rw [S71] at g
    have F1 : ∀ (c : Nat) (i : Int), ¬ (c = 0 ∧ c = 1) → σ1.I c i = σ.I c i := by
      intro c i q
      rw [congrFun (congrFun p.2.2 c) i]
      exact if_neg w
    have F2 : ∀ (c : Nat) (i : Int), ¬ (c = 0 ∧ c = 1) → σ2.I c i = σ1.I c i := by
      intro c i q
      rw [congrFun (congrFun g.2.2 c) i]
      ((try simp only [at2, rg, fgX, fgM, CQF, and_false, false_and, and_true, true_and, or_false, false_or, or_true, true_or, if_false, if_true, not_false_eq_true, not_true_eq_false])  <;> (repeat' split)) <;> first | rfl | (exfalso; omega)
    have F : ∀ (c : Nat) (i : Int), ¬ (c = 0 ∧ c = 1) → ¬ (c = 0 ∧ c = 1) → σ2.I c i = σ.I c i := fun c i a b => (F2 c i b).trans (F1 c i a)
    have hR : σ2.R = σ.R := g.2.1.1.trans p.2.1.1
    have hS : σ2.sh = σ.sh := g.2.1.2.1.trans p.2.1.2.1
    have hN : σ2.n = σ.n := g.2.1.2.2.trans p.2.1.2.2
    refine ⟨by rw [g.1, p.1, if_neg w, if_neg (show ¬ (0 ≤ x1 ∧ x1 < σ.I 0 51) by omega)], r.Lay.sf (s1.tr s2), RK_cg hS hN (F 0 1 (by omega) (by omega)) (F 0 41 (by omega) (by omega)) (fun i => F 211 i (by omega) (by omega)) r.RK, ?_, ?_, ?_, ?_, ?_, ?_, ?_, ?_, ?_, ?_, ?_, ?_, ?_, ?_, ?_, ?_, ?_, ?_, ?_, ?_, ?_, ?_, ?_, ?_, ?_⟩
    · exact rTP_cg (fun c i h => F c i (by unfold fTP at h; omega) (by unfold fTP at h; omega)) r.TP
    · exact rFL_cg (fun c i h => F c i (by unfold fFL at h; omega) (by unfold fFL at h; omega)) r.FL
    · exact rVS_cg (fun c i h => F c i (by unfold fVS at h; omega) (by unfold fVS at h; omega)) r.VS
    · exact rOB_cg (fun c i h => F c i (by unfold fOB at h; omega) (by unfold fOB at h; omega)) r.OB
    · exact rVA_cg (fun c i h => F c i (by unfold fVA at h; omega) (by unfold fVA at h; omega)) r.VA
    · exact rBD_cg (fun c i h => F c i (by unfold fBD at h; omega) (by unfold fBD at h; omega)) r.BD
    · exact rTE_cg (fun c i h => F c i (by unfold fTE at h; omega) (by unfold fTE at h; omega)) r.TE
    · exact rPK_cg (fun c i h => F c i (by unfold fPK at h; omega) (by unfold fPK at h; omega)) r.PK
    · exact rUS_cg (fun c i h => F c i (by unfold fUS at h; omega) (by unfold fUS at h; omega)) r.US
    · exact rFO_cg (fun c i h => F c i (by unfold fFO at h; omega) (by unfold fFO at h; omega)) r.FO
    · exact rSH_cg (fun c i h => F c i (by unfold fSH at h; omega) (by unfold fSH at h; omega)) r.SH
    · exact rSW_cg (fun c i h => F c i (by unfold fSW at h; omega) (by unfold fSW at h; omega)) r.SW
    · exact rHI_cg (fun c i h => F c i (by unfold fHI at h; omega) (by unfold fHI at h; omega)) r.HI
    · exact rLN_cg (fun c i h => F c i (by unfold fLN at h; omega) (by unfold fLN at h; omega)) r.LN
    · exact rMK_cg (fun c i h => F c i (by unfold fMK at h; omega) (by unfold fMK at h; omega)) r.MK
    · exact rGR_cg (fun c i h => F c i (by unfold fGR at h; omega) (by unfold fGR at h; omega)) r.GR
    · exact rTT_cg (fun c i h => F c i (by unfold fTT at h; omega) (by unfold fTT at h; omega)) r.TT
    · exact rMT_cg (fun c i h => F c i (by unfold fMT at h; omega) (by unfold fMT at h; omega)) r.MT
    · exact rSC_cg (fun c i h => F c i (by unfold fSC at h; omega) (by unfold fSC at h; omega)) r.SC
    · exact rQU_cg (fun c i h => F c i (by unfold fQU at h; omega) (by unfold fQU at h; omega)) r.QU
    · exact rKQ_cg (fun c i h => F c i (by unfold fKQ at h; omega) (by unfold fKQ at h; omega)) r.KQ
    · exact rHQ_cg (fun c i h => F c i (by unfold fHQ at h; omega) (by unfold fHQ at h; omega)) r.HQ
    · exact rPP_cg (fun c i h => F c i (by unfold fPP at h; omega) (by unfold fPP at h; omega)) (by rw [hR]) (by rw [hR]) r.PP
    · exact rAN_cg (fun c i h => F c i (by unfold fAN at h; omega) (by unfold fAN at h; omega)) hR hS hN r.AN
    · exact rSE_cg r.SE

theorem op_hide (hd : 30 ≤ d) : OP_hide E d RR := by
  intro k σ hk r x1 h1
  have qu := r.QU
  have qu1 := qu.1
  have qu2 := qu.2.1
  have hq := r.HQ
  have fl := r.FL
  have fl1 := fl.1
  by_cases w : (1 ≤ x1 ∧ x1 ≤ 3) ∧ σ.I 0 48 ≠ 0
  · obtain ⟨u, rfl⟩ : ∃ u : Nat, x1 = (u : Int) := ⟨x1.toNat, by omega⟩
    have w66 : σ.I 555 66 ≠ 0 := fun z => w.2 (qu.1.2.2.mpr z)
    have nn : ¬ ¬ (1 ≤ (u : Int) ∧ (u : Int) ≤ 3) := fun z => z w.1
    refine OPI.mk (sp_X0_hide (by omega) r.Lay h1 qu.2.1) (fun y σ1 p s1 => by
        have e555_66 : σ1.I 555 66 = σ.I 555 66 := by
          rw [congrFun (congrFun p.2.2 555) 66]
          ((try simp only [at2, rg, fgX, fgM, CQF, and_false, false_and, and_true, true_and, or_false, false_or, or_true, true_or, if_false, if_true, not_false_eq_true, not_true_eq_false])  <;> (repeat' split)) <;> first | rfl | omega
        exact sp_X9_hide (by omega) (r.Lay.sf s1) h1 (by rw [e555_66]; exact qu.1.2.1)) ?_
    intro y σ1 z σ2 p s1 g s2
    have S66 : σ1.I 555 66 = σ.I 555 66 := by
      rw [congrFun (congrFun p.2.2 555) 66]
      ((try simp only [at2, rg, fgX, fgM, CQF, and_false, false_and, and_true, true_and, or_false, false_or, or_true, true_or, if_false, if_true, not_false_eq_true, not_true_eq_false])  <;> (repeat' split)) <;> first | rfl | omega
    rw [S66] at g
    have F1 : ∀ (c : Nat) (i : Int), ¬ ((c = 215 + 15 * u ∧ i = 1) ∨ (216 + 15 * u ≤ c ∧ c ≤ 229 + 15 * u) ∨ (c = 0 ∧ (i = 70 ∨ i = 71 ∨ i = 59 ∨ i = 75 ∨ i = 79))) → σ1.I c i = σ.I c i := by
      intro c i q
      have o : CQF σ ((215 + 15 * (u : Int).toNat) + 1) 51 2 (σ.I 51 2) c i = σ.I c i := CQF_o (by omega)
      rw [congrFun (congrFun p.2.2 c) i]
      ((try simp only [at2, rg, fgX, fgM, and_false, false_and, and_true, true_and, or_false, false_or, or_true, true_or, if_false, if_true, not_false_eq_true, not_true_eq_false]) <;> (repeat' split)) <;> first | rfl | exact o | (exfalso; omega)
    have F2 : ∀ (c : Nat) (i : Int), ¬ ((c = 607 ∧ 400 * (u : Int) ≤ i ∧ i < 400 * (u : Int) + σ.I 555 66) ∨ (c = 608 ∧ i = (u : Int)) ∨ (c = 555 ∧ (i = 114 ∨ i = 115 ∨ i = 133 ∨ i = 134 ∨ i = 135))) → σ2.I c i = σ1.I c i := by
      intro c i q
      rw [congrFun (congrFun g.2.2 c) i]
      ((try simp only [at2, rg, fgX, fgM, CQF, and_false, false_and, and_true, true_and, or_false, false_or, or_true, true_or, if_false, if_true, not_false_eq_true, not_true_eq_false])  <;> (repeat' split)) <;> first | rfl | (exfalso; omega)
    have F : ∀ (c : Nat) (i : Int), ¬ ((c = 215 + 15 * u ∧ i = 1) ∨ (216 + 15 * u ≤ c ∧ c ≤ 229 + 15 * u) ∨ (c = 0 ∧ (i = 70 ∨ i = 71 ∨ i = 59 ∨ i = 75 ∨ i = 79))) → ¬ ((c = 607 ∧ 400 * (u : Int) ≤ i ∧ i < 400 * (u : Int) + σ.I 555 66) ∨ (c = 608 ∧ i = (u : Int)) ∨ (c = 555 ∧ (i = 114 ∨ i = 115 ∨ i = 133 ∨ i = 134 ∨ i = 135))) → σ2.I c i = σ.I c i := fun c i a b => (F2 c i b).trans (F1 c i a)
    have hR : σ2.R = σ.R := g.2.1.1.trans p.2.1.1
    have hS : σ2.sh = σ.sh := g.2.1.2.1.trans p.2.1.2.1
    have hN : σ2.n = σ.n := g.2.1.2.2.trans p.2.1.2.2
    have A1 : σ2.I (215 + 15 * u) 1 = 1 := by
      rw [F2 (215 + 15 * u) 1 (by omega), congrFun (congrFun p.2.2 (215 + 15 * u)) 1]
      ((try simp only [at2, rg, fgX, fgM, CQF, and_false, false_and, and_true, true_and, or_false, false_or, or_true, true_or, if_false, if_true, not_false_eq_true, not_true_eq_false])  <;> (repeat' split)) <;> first | rfl | omega
    have B1 : σ2.I 608 u = σ.I 555 66 := by
      rw [congrFun (congrFun g.2.2 608) u]
      ((try simp only [at2, rg, fgX, fgM, CQF, and_false, false_and, and_true, true_and, or_false, false_or, or_true, true_or, if_false, if_true, not_false_eq_true, not_true_eq_false])  <;> (repeat' split)) <;> first | rfl | omega
    have G70 : σ2.I 0 70 = 0 := by
      rw [F2 0 70 (by omega), congrFun (congrFun p.2.2 0) 70]
      ((try simp only [at2, rg, fgX, fgM, CQF, and_false, false_and, and_true, true_and, or_false, false_or, or_true, true_or, if_false, if_true, not_false_eq_true, not_true_eq_false])  <;> (repeat' split)) <;> first | rfl | omega
    have G71 : σ2.I 0 71 = 0 := by
      rw [F2 0 71 (by omega), congrFun (congrFun p.2.2 0) 71]
      ((try simp only [at2, rg, fgX, fgM, CQF, and_false, false_and, and_true, true_and, or_false, false_or, or_true, true_or, if_false, if_true, not_false_eq_true, not_true_eq_false])  <;> (repeat' split)) <;> first | rfl | omega
    have G59 : σ2.I 0 59 = 0 := by
      rw [F2 0 59 (by omega), congrFun (congrFun p.2.2 0) 59]
      ((try simp only [at2, rg, fgX, fgM, CQF, and_false, false_and, and_true, true_and, or_false, false_or, or_true, true_or, if_false, if_true, not_false_eq_true, not_true_eq_false])  <;> (repeat' split)) <;> first | rfl | omega
    have G75 : σ2.I 0 75 = 0 := by
      rw [F2 0 75 (by omega), congrFun (congrFun p.2.2 0) 75]
      ((try simp only [at2, rg, fgX, fgM, CQF, and_false, false_and, and_true, true_and, or_false, false_or, or_true, true_or, if_false, if_true, not_false_eq_true, not_true_eq_false])  <;> (repeat' split)) <;> first | rfl | omega
    have G79 : σ2.I 0 79 = 0 := by
      rw [F2 0 79 (by omega), congrFun (congrFun p.2.2 0) 79]
      ((try simp only [at2, rg, fgX, fgM, CQF, and_false, false_and, and_true, true_and, or_false, false_or, or_true, true_or, if_false, if_true, not_false_eq_true, not_true_eq_false])  <;> (repeat' split)) <;> first | rfl | omega
    have G114 : σ2.I 555 114 = 0 := by
      rw [congrFun (congrFun g.2.2 555) 114]
      ((try simp only [at2, rg, fgX, fgM, CQF, and_false, false_and, and_true, true_and, or_false, false_or, or_true, true_or, if_false, if_true, not_false_eq_true, not_true_eq_false])  <;> (repeat' split)) <;> first | rfl | omega
    have G115 : σ2.I 555 115 = 0 := by
      rw [congrFun (congrFun g.2.2 555) 115]
      ((try simp only [at2, rg, fgX, fgM, CQF, and_false, false_and, and_true, true_and, or_false, false_or, or_true, true_or, if_false, if_true, not_false_eq_true, not_true_eq_false])  <;> (repeat' split)) <;> first | rfl | omega
    have G133 : σ2.I 555 133 = 0 := by
      rw [congrFun (congrFun g.2.2 555) 133]
      ((try simp only [at2, rg, fgX, fgM, CQF, and_false, false_and, and_true, true_and, or_false, false_or, or_true, true_or, if_false, if_true, not_false_eq_true, not_true_eq_false])  <;> (repeat' split)) <;> first | rfl | omega
    have G134 : σ2.I 555 134 = 0 := by
      rw [congrFun (congrFun g.2.2 555) 134]
      ((try simp only [at2, rg, fgX, fgM, CQF, and_false, false_and, and_true, true_and, or_false, false_or, or_true, true_or, if_false, if_true, not_false_eq_true, not_true_eq_false])  <;> (repeat' split)) <;> first | rfl | omega
    have G135 : σ2.I 555 135 = 0 := by
      rw [congrFun (congrFun g.2.2 555) 135]
      ((try simp only [at2, rg, fgX, fgM, CQF, and_false, false_and, and_true, true_and, or_false, false_or, or_true, true_or, if_false, if_true, not_false_eq_true, not_true_eq_false])  <;> (repeat' split)) <;> first | rfl | omega
    refine ⟨by rw [g.1, p.1, if_neg nn, if_neg w.2, if_neg nn, if_neg w66], r.Lay.sf (s1.tr s2), RK_cg hS hN (F 0 1 (by omega) (by omega)) (F 0 41 (by omega) (by omega)) (fun i => F 211 i (by omega) (by omega)) r.RK, ?_, ?_, ?_, ?_, ?_, ?_, ?_, ?_, ?_, ?_, ?_, ?_, ?_, ?_, ?_, ?_, ?_, ?_, ?_, ?_, ?_, ?_, ?_, ?_, ?_⟩
    · exact rTP_cg (fun c i h => F c i (by unfold fTP at h; omega) (by unfold fTP at h; omega)) r.TP
    · exact rFL_cg (fun c i h => F c i (by unfold fFL at h; omega) (by unfold fFL at h; omega)) r.FL
    · exact rVS_cg (fun c i h => F c i (by unfold fVS at h; omega) (by unfold fVS at h; omega)) r.VS
    · exact rOB_cg (fun c i h => F c i (by unfold fOB at h; omega) (by unfold fOB at h; omega)) r.OB
    · exact rVA_cg (fun c i h => F c i (by unfold fVA at h; omega) (by unfold fVA at h; omega)) r.VA
    · exact rBD_cg (fun c i h => F c i (by unfold fBD at h; omega) (by unfold fBD at h; omega)) r.BD
    · exact rTE_cg (fun c i h => F c i (by unfold fTE at h; omega) (by unfold fTE at h; omega)) r.TE
    · exact rPK_cg (fun c i h => F c i (by unfold fPK at h; omega) (by unfold fPK at h; omega)) r.PK
    · exact rUS_cg (fun c i h => F c i (by unfold fUS at h; omega) (by unfold fUS at h; omega)) r.US
    · exact rFO_cg (fun c i h => F c i (by unfold fFO at h; omega) (by unfold fFO at h; omega)) r.FO
    · exact rSH_cg (fun c i h => F c i (by unfold fSH at h; omega) (by unfold fSH at h; omega)) r.SH
    · exact rSW_cg (fun c i h => F c i (by unfold fSW at h; omega) (by unfold fSW at h; omega)) r.SW
    · exact HI_0 r G70 G71 G114 G115 (fun i => F 637 i (by omega) (by omega))
    · exact LN_0 G59 G133
    · exact MK_0 G75 G134
    · exact GRz_0 G79 G135
    · exact rTT_cg (fun c i h => F c i (by unfold fTT at h; omega) (by unfold fTT at h; omega)) r.TT
    · exact rMT_cg (fun c i h => F c i (by unfold fMT at h; omega) (by unfold fMT at h; omega)) r.MT
    · exact rSC_cg (fun c i h => F c i (by unfold fSC at h; omega) (by unfold fSC at h; omega)) r.SC
    · exact rQU_cg (fun c i h => F c i (by unfold fQU at h; omega) (by unfold fQU at h; omega)) r.QU
    · exact rKQ_cg (fun c i h => F c i (by unfold fKQ at h; omega) (by unfold fKQ at h; omega)) r.KQ
    · refine ⟨by rw [F 608 0 (by omega) (by omega)]; exact hq.1, by rw [F 215 1 (by omega) (by omega)]; exact hq.2.1, fun v h1 h2 => ?_⟩
      by_cases q : v = u
      · subst q
        have C : ∀ c i, 216 + 15 * v ≤ c → c ≤ 216 + 15 * v + 13 → σ2.I c i = CQF σ (216 + 15 * v) 51 2 (σ.I 51 2) c i := by
          intro c i h1 h2
          rw [F2 c i (by omega), congrFun (congrFun p.2.2 c) i]
          show (if (1 ≤ (v : Int) ∧ (v : Int) ≤ 3) ∧ σ.I 0 48 ≠ 0 then (if fgX c i then _ else if at2 c i (215 + 15 * (v : Int).toNat) 1 then _ else CQF σ ((215 + 15 * (v : Int).toNat) + 1) 51 2 (σ.I 51 2) c i) else _) = _
          rw [if_pos w, if_neg (show ¬ fgX c i from fun z => by simp only [fgX, at2] at z; omega), if_neg (show ¬ (c = 215 + 15 * (v : Int).toNat ∧ i = 1) by omega), Int.toNat_natCast, show 215 + 15 * v + 1 = 216 + 15 * v by omega]
        have qq := qu.2.2 (by omega)
        unfold hqU
        rw [A1, B1]
        refine ⟨Or.inr rfl, qu.1.2.1, ⟨fun _ => by omega, fun _ => rfl⟩, fun _ => ?_⟩
        refine QT_new qq.1 C ⟨rfl, fun k h0 h1 => ?_, ?_, fun i h0 h1 => ?_⟩ (by show σ.I 555 27 ≤ 12; rw [← fl.1.1]; omega) qu.1.2.1.1
        · show σ2.I 577 k = σ.I 577 k
          exact F 577 k (by omega) (by omega)
        · show σ.I 555 27 ≤ σ2.I 555 27
          rw [F 555 27 (by omega) (by omega)]
          omega
        · show σ2.I 607 (400 * (v : Int) + i) = σ.I 603 (0 + i)
          have h1 : i < σ.I 555 66 := h1
          rw [congrFun (congrFun g.2.2 607) (400 * (v : Int) + i)]
          show (if _ then (if fgM 607 (400 * (v : Int) + i) then _ else if rg 607 (400 * (v : Int) + i) 607 (400 * (v : Int)) (400 * (v : Int) + σ.I 555 66) then _ else _) else _) = _
          rw [if_pos ⟨w.1, w66⟩, if_neg (show ¬ fgM 607 _ from fun z => by simp only [fgM, at2] at z; omega), if_pos (show 607 = 607 ∧ _ from ⟨rfl, by omega, by omega⟩), F1 603 _ (by omega)]
          congr 1
          omega
      · have z := hq.2.2 v h1 h2
        unfold hqU at z ⊢
        rw [F (215 + 15 * v) 1 (by omega) (by omega), F 608 v (by omega) (by omega)]
        refine ⟨z.1, z.2.1, z.2.2.1, fun y => ?_⟩
        refine QT_old (z.2.2.2 y) (fun c i h1 h2 => F c i (by omega) (by omega)) ⟨rfl, fun k h0 h1 => ?_, ?_, fun i h0 h1 => ?_⟩ (by show σ.I 555 27 ≤ 12; rw [← fl.1.1]; omega) z.2.1.1
        · exact F 577 k (by omega) (by omega)
        · show σ.I 555 27 ≤ σ2.I 555 27
          rw [F 555 27 (by omega) (by omega)]
          omega
        · show σ2.I 607 (400 * (v : Int) + i) = σ.I 607 (400 * (v : Int) + i)
          have h1 : i < σ.I 608 v := h1
          have z3 := z.2.1.2
          exact F 607 _ (by omega) (by omega)
    · exact rPP_cg (fun c i h => F c i (by unfold fPP at h; omega) (by unfold fPP at h; omega)) (by rw [hR]) (by rw [hR]) r.PP
    · exact rAN_cg (fun c i h => F c i (by unfold fAN at h; omega) (by unfold fAN at h; omega)) hR hS hN r.AN
    · exact rSE_cg r.SE
  · refine OPI.mk (sp_X0_hide (by omega) r.Lay h1 qu.2.1) (fun y σ1 p s1 => by
        have e555_66 : σ1.I 555 66 = σ.I 555 66 := by
          rw [congrFun (congrFun p.2.2 555) 66]
          ((try simp only [at2, rg, fgX, fgM, CQF, and_false, false_and, and_true, true_and, or_false, false_or, or_true, true_or, if_false, if_true, not_false_eq_true, not_true_eq_false])  <;> (repeat' split)) <;> first | rfl | omega
        exact sp_X9_hide (by omega) (r.Lay.sf s1) h1 (by rw [e555_66]; exact qu.1.2.1)) ?_
    intro y σ1 z σ2 p s1 g s2
    have S66 : σ1.I 555 66 = σ.I 555 66 := by
      rw [congrFun (congrFun p.2.2 555) 66]
      ((try simp only [at2, rg, fgX, fgM, CQF, and_false, false_and, and_true, true_and, or_false, false_or, or_true, true_or, if_false, if_true, not_false_eq_true, not_true_eq_false])  <;> (repeat' split)) <;> first | rfl | omega
    rw [S66] at g
    have w66 : ¬ ((1 ≤ x1 ∧ x1 ≤ 3) ∧ σ.I 555 66 ≠ 0) := fun z => w ⟨z.1, fun y => z.2 (qu.1.2.2.mp y)⟩
    have F1 : ∀ (c : Nat) (i : Int), ¬ (c = 0 ∧ c = 1) → σ1.I c i = σ.I c i := by
      intro c i q
      rw [congrFun (congrFun p.2.2 c) i]
      exact if_neg w
    have F2 : ∀ (c : Nat) (i : Int), ¬ (c = 0 ∧ c = 1) → σ2.I c i = σ1.I c i := by
      intro c i q
      rw [congrFun (congrFun g.2.2 c) i]
      ((try simp only [at2, rg, fgX, fgM, CQF, and_false, false_and, and_true, true_and, or_false, false_or, or_true, true_or, if_false, if_true, not_false_eq_true, not_true_eq_false])  <;> (repeat' split)) <;> first | rfl | (exfalso; omega)
    have F : ∀ (c : Nat) (i : Int), ¬ (c = 0 ∧ c = 1) → ¬ (c = 0 ∧ c = 1) → σ2.I c i = σ.I c i := fun c i a b => (F2 c i b).trans (F1 c i a)
    have hR : σ2.R = σ.R := g.2.1.1.trans p.2.1.1
    have hS : σ2.sh = σ.sh := g.2.1.2.1.trans p.2.1.2.1
    have hN : σ2.n = σ.n := g.2.1.2.2.trans p.2.1.2.2
    refine ⟨by
      rw [g.1, p.1]
      by_cases q : 1 ≤ x1 ∧ x1 ≤ 3
      · have q2 : σ.I 0 48 = 0 := Classical.byContradiction fun z => w ⟨q, z⟩
        have nn : ¬ ¬ (1 ≤ x1 ∧ x1 ≤ 3) := fun z => z q
        rw [if_neg nn, if_pos q2, if_neg nn, if_pos (qu.1.2.2.mp q2)]
      · rw [if_pos q, if_pos q], r.Lay.sf (s1.tr s2), RK_cg hS hN (F 0 1 (by omega) (by omega)) (F 0 41 (by omega) (by omega)) (fun i => F 211 i (by omega) (by omega)) r.RK, ?_, ?_, ?_, ?_, ?_, ?_, ?_, ?_, ?_, ?_, ?_, ?_, ?_, ?_, ?_, ?_, ?_, ?_, ?_, ?_, ?_, ?_, ?_, ?_, ?_⟩
    · exact rTP_cg (fun c i h => F c i (by unfold fTP at h; omega) (by unfold fTP at h; omega)) r.TP
    · exact rFL_cg (fun c i h => F c i (by unfold fFL at h; omega) (by unfold fFL at h; omega)) r.FL
    · exact rVS_cg (fun c i h => F c i (by unfold fVS at h; omega) (by unfold fVS at h; omega)) r.VS
    · exact rOB_cg (fun c i h => F c i (by unfold fOB at h; omega) (by unfold fOB at h; omega)) r.OB
    · exact rVA_cg (fun c i h => F c i (by unfold fVA at h; omega) (by unfold fVA at h; omega)) r.VA
    · exact rBD_cg (fun c i h => F c i (by unfold fBD at h; omega) (by unfold fBD at h; omega)) r.BD
    · exact rTE_cg (fun c i h => F c i (by unfold fTE at h; omega) (by unfold fTE at h; omega)) r.TE
    · exact rPK_cg (fun c i h => F c i (by unfold fPK at h; omega) (by unfold fPK at h; omega)) r.PK
    · exact rUS_cg (fun c i h => F c i (by unfold fUS at h; omega) (by unfold fUS at h; omega)) r.US
    · exact rFO_cg (fun c i h => F c i (by unfold fFO at h; omega) (by unfold fFO at h; omega)) r.FO
    · exact rSH_cg (fun c i h => F c i (by unfold fSH at h; omega) (by unfold fSH at h; omega)) r.SH
    · exact rSW_cg (fun c i h => F c i (by unfold fSW at h; omega) (by unfold fSW at h; omega)) r.SW
    · exact rHI_cg (fun c i h => F c i (by unfold fHI at h; omega) (by unfold fHI at h; omega)) r.HI
    · exact rLN_cg (fun c i h => F c i (by unfold fLN at h; omega) (by unfold fLN at h; omega)) r.LN
    · exact rMK_cg (fun c i h => F c i (by unfold fMK at h; omega) (by unfold fMK at h; omega)) r.MK
    · exact rGR_cg (fun c i h => F c i (by unfold fGR at h; omega) (by unfold fGR at h; omega)) r.GR
    · exact rTT_cg (fun c i h => F c i (by unfold fTT at h; omega) (by unfold fTT at h; omega)) r.TT
    · exact rMT_cg (fun c i h => F c i (by unfold fMT at h; omega) (by unfold fMT at h; omega)) r.MT
    · exact rSC_cg (fun c i h => F c i (by unfold fSC at h; omega) (by unfold fSC at h; omega)) r.SC
    · exact rQU_cg (fun c i h => F c i (by unfold fQU at h; omega) (by unfold fQU at h; omega)) r.QU
    · exact rKQ_cg (fun c i h => F c i (by unfold fKQ at h; omega) (by unfold fKQ at h; omega)) r.KQ
    · exact rHQ_cg (fun c i h => F c i (by unfold fHQ at h; omega) (by unfold fHQ at h; omega)) r.HQ
    · exact rPP_cg (fun c i h => F c i (by unfold fPP at h; omega) (by unfold fPP at h; omega)) (by rw [hR]) (by rw [hR]) r.PP
    · exact rAN_cg (fun c i h => F c i (by unfold fAN at h; omega) (by unfold fAN at h; omega)) hR hS hN r.AN
    · exact rSE_cg r.SE
end OPD

