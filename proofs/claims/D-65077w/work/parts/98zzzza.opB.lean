/-! contracts: printed by tools/mk.py out of s98zzzza_opB.py -/
set_option maxRecDepth 100000
set_option maxHeartbeats 800000
/-! more operations that change little -/
section OPB
variable {E : XE} {d : Nat}

theorem op_user (hd : 30 ≤ d) : OP_user E d RR := by
  intro k σ hk r x1 h1
  have us := r.US
  have us1 := us.1
  by_cases w : 0 ≤ x1 ∧ x1 ≤ 3
  · refine OPI.mk (sp_X0_user (by omega) r.Lay h1) (fun y σ1 p s1 => by
        exact sp_X9_user (by omega) (r.Lay.sf s1) h1) ?_
    intro y σ1 z σ2 p s1 g s2
    have F1 : ∀ (c : Nat) (i : Int), ¬ ((c = 0 ∧ i = 46) ∨ (c = 0 ∧ (i = 70 ∨ i = 71 ∨ i = 59 ∨ i = 75 ∨ i = 79))) → σ1.I c i = σ.I c i := by
      intro c i q
      rw [congrFun (congrFun p.2.2 c) i]
      ((try simp only [at2, rg, fgX, fgM, CQF, and_false, false_and, and_true, true_and, or_false, false_or, or_true, true_or, if_false, if_true, not_false_eq_true, not_true_eq_false])  <;> (repeat' split)) <;> first | rfl | (exfalso; omega)
    have F2 : ∀ (c : Nat) (i : Int), ¬ ((c = 555 ∧ i = 61) ∨ (c = 555 ∧ (i = 114 ∨ i = 115 ∨ i = 133 ∨ i = 134 ∨ i = 135))) → σ2.I c i = σ1.I c i := by
      intro c i q
      rw [congrFun (congrFun g.2.2 c) i]
      ((try simp only [at2, rg, fgX, fgM, CQF, and_false, false_and, and_true, true_and, or_false, false_or, or_true, true_or, if_false, if_true, not_false_eq_true, not_true_eq_false])  <;> (repeat' split)) <;> first | rfl | (exfalso; omega)
    have F : ∀ (c : Nat) (i : Int), ¬ ((c = 0 ∧ i = 46) ∨ (c = 0 ∧ (i = 70 ∨ i = 71 ∨ i = 59 ∨ i = 75 ∨ i = 79))) → ¬ ((c = 555 ∧ i = 61) ∨ (c = 555 ∧ (i = 114 ∨ i = 115 ∨ i = 133 ∨ i = 134 ∨ i = 135))) → σ2.I c i = σ.I c i := fun c i a b => (F2 c i b).trans (F1 c i a)
    have hR : σ2.R = σ.R := g.2.1.1.trans p.2.1.1
    have hS : σ2.sh = σ.sh := g.2.1.2.1.trans p.2.1.2.1
    have hN : σ2.n = σ.n := g.2.1.2.2.trans p.2.1.2.2
    have A46 : σ2.I 0 46 = x1 := by
      rw [F2 0 46 (by omega), congrFun (congrFun p.2.2 0) 46]
      ((try simp only [at2, rg, fgX, fgM, CQF, and_false, false_and, and_true, true_and, or_false, false_or, or_true, true_or, if_false, if_true, not_false_eq_true, not_true_eq_false])  <;> (repeat' split)) <;> first | rfl | omega
    have B61 : σ2.I 555 61 = x1 := by
      rw [congrFun (congrFun g.2.2 555) 61]
      ((try simp only [at2, rg, fgX, fgM, CQF, and_false, false_and, and_true, true_and, or_false, false_or, or_true, true_or, if_false, if_true, not_false_eq_true, not_true_eq_false])  <;> (repeat' split)) <;> first | rfl | omega
    have G70 : σ2.I 0 70 = 0 := by
      rw [F2 0 70 (by omega), congrFun (congrFun p.2.2 0) 70]
      ((try simp only [at2, rg, fgX, fgM, CQF, and_false, false_and, and_true, true_and, or_false, false_or, or_true, true_or, if_false, if_true, not_false_eq_true, not_true_eq_false])  <;> (repeat' split)) <;> first | rfl | omega
    have G71 : σ2.I 0 71 = 0 := by
      rw [F2 0 71 (by omega), congrFun (congrFun p.2.2 0) 71]
      ((try simp only [at2, rg, fgX, fgM, CQF, and_false, false_and, and_true, true_and, or_false, false_or, or_true, true_or, if_false, if_true, not_false_eq_true, not_true_eq_false])  <;> (repeat' split)) <;> first | rfl | omega
    have G59 : σ2.I 0 59 = 0 := by
      rw [F2 0 59 (by omega), congrFun (congrFun p.2.2 0) 59]
      ((try simp only [at2, rg, fgX, fgM, CQF, and_false, false_and, and_true, true_and, or_false, false_or, or_true, true_or, if_false, if_true, not_false_eq_true, not_true_eq_false])  <;> (repeat' split)) <;> first | rfl | omega
    have G75 : σ2.I 0 75 = 0 := by
      rw [F2 0 75 (by omega), congrFun (congrFun p.2.2 0) 75]
      ((try simp only [at2, rg, fgX, fgM, CQF, and_false, false_and, and_true, true_and, or_false, false_or, or_true, true_or, if_false, if_true, not_false_eq_true, not_true_eq_false])  <;> (repeat' split)) <;> first | rfl | omega
    have G79 : σ2.I 0 79 = 0 := by
      rw [F2 0 79 (by omega), congrFun (congrFun p.2.2 0) 79]
      ((try simp only [at2, rg, fgX, fgM, CQF, and_false, false_and, and_true, true_and, or_false, false_or, or_true, true_or, if_false, if_true, not_false_eq_true, not_true_eq_false])  <;> (repeat' split)) <;> first | rfl | omega
    have G114 : σ2.I 555 114 = 0 := by
      rw [congrFun (congrFun g.2.2 555) 114]
      ((try simp only [at2, rg, fgX, fgM, CQF, and_false, false_and, and_true, true_and, or_false, false_or, or_true, true_or, if_false, if_true, not_false_eq_true, not_true_eq_false])  <;> (repeat' split)) <;> first | rfl | omega
    have G115 : σ2.I 555 115 = 0 := by
      rw [congrFun (congrFun g.2.2 555) 115]
      ((try simp only [at2, rg, fgX, fgM, CQF, and_false, false_and, and_true, true_and, or_false, false_or, or_true, true_or, if_false, if_true, not_false_eq_true, not_true_eq_false])  <;> (repeat' split)) <;> first | rfl | omega
    have G133 : σ2.I 555 133 = 0 := by
      rw [congrFun (congrFun g.2.2 555) 133]
      ((try simp only [at2, rg, fgX, fgM, CQF, and_false, false_and, and_true, true_and, or_false, false_or, or_true, true_or, if_false, if_true, not_false_eq_true, not_true_eq_false])  <;> (repeat' split)) <;> first | rfl | omega
    have G134 : σ2.I 555 134 = 0 := by
      rw [congrFun (congrFun g.2.2 555) 134]
      ((try simp only [at2, rg, fgX, fgM, CQF, and_false, false_and, and_true, true_and, or_false, false_or, or_true, true_or, if_false, if_true, not_false_eq_true, not_true_eq_false])  <;> (repeat' split)) <;> first | rfl | omega
    have G135 : σ2.I 555 135 = 0 := by
      rw [congrFun (congrFun g.2.2 555) 135]
      ((try simp only [at2, rg, fgX, fgM, CQF, and_false, false_and, and_true, true_and, or_false, false_or, or_true, true_or, if_false, if_true, not_false_eq_true, not_true_eq_false])  <;> (repeat' split)) <;> first | rfl | omega
    refine ⟨by rw [g.1, p.1, if_pos w, if_pos w, F1 555 61 (by omega), us.1.1], r.Lay.sf (s1.tr s2), RK_cg hS hN (F 0 1 (by omega) (by omega)) (F 0 41 (by omega) (by omega)) (fun i => F 211 i (by omega) (by omega)) r.RK, ?_, ?_, ?_, ?_, ?_, ?_, ?_, ?_, ?_, ?_, ?_, ?_, ?_, ?_, ?_, ?_, ?_, ?_, ?_, ?_, ?_, ?_, ?_, ?_, ?_⟩
    · exact rTP_cg (fun c i h => F c i (by unfold fTP at h; omega) (by unfold fTP at h; omega)) r.TP
    · exact rFL_cg (fun c i h => F c i (by unfold fFL at h; omega) (by unfold fFL at h; omega)) r.FL
    · exact rVS_cg (fun c i h => F c i (by unfold fVS at h; omega) (by unfold fVS at h; omega)) r.VS
    · exact rOB_cg (fun c i h => F c i (by unfold fOB at h; omega) (by unfold fOB at h; omega)) r.OB
    · exact rVA_cg (fun c i h => F c i (by unfold fVA at h; omega) (by unfold fVA at h; omega)) r.VA
    · exact rBD_cg (fun c i h => F c i (by unfold fBD at h; omega) (by unfold fBD at h; omega)) r.BD
    · exact rTE_cg (fun c i h => F c i (by unfold fTE at h; omega) (by unfold fTE at h; omega)) r.TE
    · exact rPK_cg (fun c i h => F c i (by unfold fPK at h; omega) (by unfold fPK at h; omega)) r.PK
    · refine ⟨by rw [A46, B61]; exact ⟨rfl, by omega, by omega⟩, fun f h0 h1 => ?_⟩
      rw [F 600 (12 + f) (by omega) (by omega), F 600 (24 + f) (by omega) (by omega), F 600 (36 + f) (by omega) (by omega), F 230 2 (by omega) (by omega), F 245 2 (by omega) (by omega), F 260 2 (by omega) (by omega)]
      exact us.2 f h0 h1
    · exact rFO_cg (fun c i h => F c i (by unfold fFO at h; omega) (by unfold fFO at h; omega)) r.FO
    · exact rSH_cg (fun c i h => F c i (by unfold fSH at h; omega) (by unfold fSH at h; omega)) r.SH
    · exact rSW_cg (fun c i h => F c i (by unfold fSW at h; omega) (by unfold fSW at h; omega)) r.SW
    · exact HI_0 r G70 G71 G114 G115 (fun i => F 637 i (by omega) (by omega))
    · exact LN_0 G59 G133
    · exact MK_0 G75 G134
    · exact GRz_0 G79 G135
    · exact rTT_cg (fun c i h => F c i (by unfold fTT at h; omega) (by unfold fTT at h; omega)) r.TT
    · exact rMT_cg (fun c i h => F c i (by unfold fMT at h; omega) (by unfold fMT at h; omega)) r.MT
    · exact rSC_cg (fun c i h => F c i (by unfold fSC at h; omega) (by unfold fSC at h; omega)) r.SC
    · exact rQU_cg (fun c i h => F c i (by unfold fQU at h; omega) (by unfold fQU at h; omega)) r.QU
    · exact rKQ_cg (fun c i h => F c i (by unfold fKQ at h; omega) (by unfold fKQ at h; omega)) r.KQ
    · exact rHQ_cg (fun c i h => F c i (by unfold fHQ at h; omega) (by unfold fHQ at h; omega)) r.HQ
    · exact rPP_cg (fun c i h => F c i (by unfold fPP at h; omega) (by unfold fPP at h; omega)) (by rw [hR]) (by rw [hR]) r.PP
    · exact rAN_cg (fun c i h => F c i (by unfold fAN at h; omega) (by unfold fAN at h; omega)) hR hS hN r.AN
    · exact rSE_cg r.SE
  · refine OPI.mk (sp_X0_user (by omega) r.Lay h1) (fun y σ1 p s1 => by
        exact sp_X9_user (by omega) (r.Lay.sf s1) h1) ?_
    intro y σ1 z σ2 p s1 g s2
    have F1 : ∀ (c : Nat) (i : Int), ¬ (c = 0 ∧ c = 1) → σ1.I c i = σ.I c i := by
      intro c i q
      rw [congrFun (congrFun p.2.2 c) i]
      ((try simp only [at2, rg, fgX, fgM, CQF, and_false, false_and, and_true, true_and, or_false, false_or, or_true, true_or, if_false, if_true, not_false_eq_true, not_true_eq_false])  <;> (repeat' split)) <;> first | rfl | (exfalso; omega)
    have F2 : ∀ (c : Nat) (i : Int), ¬ (c = 0 ∧ c = 1) → σ2.I c i = σ1.I c i := by
      intro c i q
      rw [congrFun (congrFun g.2.2 c) i]
      ((try simp only [at2, rg, fgX, fgM, CQF, and_false, false_and, and_true, true_and, or_false, false_or, or_true, true_or, if_false, if_true, not_false_eq_true, not_true_eq_false])  <;> (repeat' split)) <;> first | rfl | (exfalso; omega)
    have F : ∀ (c : Nat) (i : Int), ¬ (c = 0 ∧ c = 1) → ¬ (c = 0 ∧ c = 1) → σ2.I c i = σ.I c i := fun c i a b => (F2 c i b).trans (F1 c i a)
    have hR : σ2.R = σ.R := g.2.1.1.trans p.2.1.1
    have hS : σ2.sh = σ.sh := g.2.1.2.1.trans p.2.1.2.1
    have hN : σ2.n = σ.n := g.2.1.2.2.trans p.2.1.2.2
    refine ⟨by rw [g.1, p.1, if_neg w, if_neg w], r.Lay.sf (s1.tr s2), RK_cg hS hN (F 0 1 (by omega) (by omega)) (F 0 41 (by omega) (by omega)) (fun i => F 211 i (by omega) (by omega)) r.RK, ?_, ?_, ?_, ?_, ?_, ?_, ?_, ?_, ?_, ?_, ?_, ?_, ?_, ?_, ?_, ?_, ?_, ?_, ?_, ?_, ?_, ?_, ?_, ?_, ?_⟩
    · exact rTP_cg (fun c i h => F c i (by unfold fTP at h; omega) (by unfold fTP at h; omega)) r.TP
    · exact rFL_cg (fun c i h => F c i (by unfold fFL at h; omega) (by unfold fFL at h; omega)) r.FL
    · exact rVS_cg (fun c i h => F c i (by unfold fVS at h; omega) (by unfold fVS at h; omega)) r.VS
    · exact rOB_cg (fun c i h => F c i (by unfold fOB at h; omega) (by unfold fOB at h; omega)) r.OB
    · exact rVA_cg (fun c i h => F c i (by unfold fVA at h; omega) (by unfold fVA at h; omega)) r.VA
    · exact rBD_cg (fun c i h => F c i (by unfold fBD at h; omega) (by unfold fBD at h; omega)) r.BD
    · exact rTE_cg (fun c i h => F c i (by unfold fTE at h; omega) (by unfold fTE at h; omega)) r.TE
    · exact rPK_cg (fun c i h => F c i (by unfold fPK at h; omega) (by unfold fPK at h; omega)) r.PK
    · exact rUS_cg (fun c i h => F c i (by unfold fUS at h; omega) (by unfold fUS at h; omega)) r.US
    · exact rFO_cg (fun c i h => F c i (by unfold fFO at h; omega) (by unfold fFO at h; omega)) r.FO
    · exact rSH_cg (fun c i h => F c i (by unfold fSH at h; omega) (by unfold fSH at h; omega)) r.SH
    · exact rSW_cg (fun c i h => F c i (by unfold fSW at h; omega) (by unfold fSW at h; omega)) r.SW
    · exact rHI_cg (fun c i h => F c i (by unfold fHI at h; omega) (by unfold fHI at h; omega)) r.HI
    · exact rLN_cg (fun c i h => F c i (by unfold fLN at h; omega) (by unfold fLN at h; omega)) r.LN
    · exact rMK_cg (fun c i h => F c i (by unfold fMK at h; omega) (by unfold fMK at h; omega)) r.MK
    · exact rGR_cg (fun c i h => F c i (by unfold fGR at h; omega) (by unfold fGR at h; omega)) r.GR
    · exact rTT_cg (fun c i h => F c i (by unfold fTT at h; omega) (by unfold fTT at h; omega)) r.TT
    · exact rMT_cg (fun c i h => F c i (by unfold fMT at h; omega) (by unfold fMT at h; omega)) r.MT
    · exact rSC_cg (fun c i h => F c i (by unfold fSC at h; omega) (by unfold fSC at h; omega)) r.SC
    · exact rQU_cg (fun c i h => F c i (by unfold fQU at h; omega) (by unfold fQU at h; omega)) r.QU
    · exact rKQ_cg (fun c i h => F c i (by unfold fKQ at h; omega) (by unfold fKQ at h; omega)) r.KQ
    · exact rHQ_cg (fun c i h => F c i (by unfold fHQ at h; omega) (by unfold fHQ at h; omega)) r.HQ
    · exact rPP_cg (fun c i h => F c i (by unfold fPP at h; omega) (by unfold fPP at h; omega)) (by rw [hR]) (by rw [hR]) r.PP
    · exact rAN_cg (fun c i h => F c i (by unfold fAN at h; omega) (by unfold fAN at h; omega)) hR hS hN r.AN
    · exact rSE_cg r.SE

theorem op_formula (hd : 30 ≤ d) : OP_formula E d RR := by
  intro k σ hk r x1 h1
  have fo := r.FO
  by_cases w : 0 ≤ x1 ∧ x1 ≤ 2
  · refine OPI.mk (sp_X0_formula (by omega) r.Lay h1) (fun y σ1 p s1 => by
        exact sp_X9_formula (by omega) (r.Lay.sf s1) h1) ?_
    intro y σ1 z σ2 p s1 g s2
    have F1 : ∀ (c : Nat) (i : Int), ¬ (c = 0 ∧ i = 63) → σ1.I c i = σ.I c i := by
      intro c i q
      rw [congrFun (congrFun p.2.2 c) i]
      ((try simp only [at2, rg, fgX, fgM, CQF, and_false, false_and, and_true, true_and, or_false, false_or, or_true, true_or, if_false, if_true, not_false_eq_true, not_true_eq_false])  <;> (repeat' split)) <;> first | rfl | (exfalso; omega)
    have F2 : ∀ (c : Nat) (i : Int), ¬ (c = 555 ∧ i = 98) → σ2.I c i = σ1.I c i := by
      intro c i q
      rw [congrFun (congrFun g.2.2 c) i]
      ((try simp only [at2, rg, fgX, fgM, CQF, and_false, false_and, and_true, true_and, or_false, false_or, or_true, true_or, if_false, if_true, not_false_eq_true, not_true_eq_false])  <;> (repeat' split)) <;> first | rfl | (exfalso; omega)
    have F : ∀ (c : Nat) (i : Int), ¬ (c = 0 ∧ i = 63) → ¬ (c = 555 ∧ i = 98) → σ2.I c i = σ.I c i := fun c i a b => (F2 c i b).trans (F1 c i a)
    have hR : σ2.R = σ.R := g.2.1.1.trans p.2.1.1
    have hS : σ2.sh = σ.sh := g.2.1.2.1.trans p.2.1.2.1
    have hN : σ2.n = σ.n := g.2.1.2.2.trans p.2.1.2.2
    have A63 : σ2.I 0 63 = x1 := by
      rw [F2 0 63 (by omega), congrFun (congrFun p.2.2 0) 63]
      ((try simp only [at2, rg, fgX, fgM, CQF, and_false, false_and, and_true, true_and, or_false, false_or, or_true, true_or, if_false, if_true, not_false_eq_true, not_true_eq_false])  <;> (repeat' split)) <;> first | rfl | omega
    have B98 : σ2.I 555 98 = x1 := by
      rw [congrFun (congrFun g.2.2 555) 98]
      ((try simp only [at2, rg, fgX, fgM, CQF, and_false, false_and, and_true, true_and, or_false, false_or, or_true, true_or, if_false, if_true, not_false_eq_true, not_true_eq_false])  <;> (repeat' split)) <;> first | rfl | omega
    refine ⟨by rw [g.1, p.1, if_pos w, if_pos w, F1 555 98 (by omega), fo.1.1], r.Lay.sf (s1.tr s2), RK_cg hS hN (F 0 1 (by omega) (by omega)) (F 0 41 (by omega) (by omega)) (fun i => F 211 i (by omega) (by omega)) r.RK, ?_, ?_, ?_, ?_, ?_, ?_, ?_, ?_, ?_, ?_, ?_, ?_, ?_, ?_, ?_, ?_, ?_, ?_, ?_, ?_, ?_, ?_, ?_, ?_, ?_⟩
    · exact rTP_cg (fun c i h => F c i (by unfold fTP at h; omega) (by unfold fTP at h; omega)) r.TP
    · exact rFL_cg (fun c i h => F c i (by unfold fFL at h; omega) (by unfold fFL at h; omega)) r.FL
    · exact rVS_cg (fun c i h => F c i (by unfold fVS at h; omega) (by unfold fVS at h; omega)) r.VS
    · exact rOB_cg (fun c i h => F c i (by unfold fOB at h; omega) (by unfold fOB at h; omega)) r.OB
    · exact rVA_cg (fun c i h => F c i (by unfold fVA at h; omega) (by unfold fVA at h; omega)) r.VA
    · exact rBD_cg (fun c i h => F c i (by unfold fBD at h; omega) (by unfold fBD at h; omega)) r.BD
    · exact rTE_cg (fun c i h => F c i (by unfold fTE at h; omega) (by unfold fTE at h; omega)) r.TE
    · exact rPK_cg (fun c i h => F c i (by unfold fPK at h; omega) (by unfold fPK at h; omega)) r.PK
    · exact rUS_cg (fun c i h => F c i (by unfold fUS at h; omega) (by unfold fUS at h; omega)) r.US
    · refine ⟨by rw [A63, B98]; exact ⟨rfl, w.1, w.2⟩, ?_⟩
      rw [F 0 64 (by omega) (by omega), F 0 65 (by omega) (by omega), F 555 131 (by omega) (by omega), F 555 132 (by omega) (by omega)]
      exact fo.2
    · exact rSH_cg (fun c i h => F c i (by unfold fSH at h; omega) (by unfold fSH at h; omega)) r.SH
    · exact rSW_cg (fun c i h => F c i (by unfold fSW at h; omega) (by unfold fSW at h; omega)) r.SW
    · exact rHI_cg (fun c i h => F c i (by unfold fHI at h; omega) (by unfold fHI at h; omega)) r.HI
    · exact rLN_cg (fun c i h => F c i (by unfold fLN at h; omega) (by unfold fLN at h; omega)) r.LN
    · exact rMK_cg (fun c i h => F c i (by unfold fMK at h; omega) (by unfold fMK at h; omega)) r.MK
    · exact rGR_cg (fun c i h => F c i (by unfold fGR at h; omega) (by unfold fGR at h; omega)) r.GR
    · exact rTT_cg (fun c i h => F c i (by unfold fTT at h; omega) (by unfold fTT at h; omega)) r.TT
    · exact rMT_cg (fun c i h => F c i (by unfold fMT at h; omega) (by unfold fMT at h; omega)) r.MT
    · exact rSC_cg (fun c i h => F c i (by unfold fSC at h; omega) (by unfold fSC at h; omega)) r.SC
    · exact rQU_cg (fun c i h => F c i (by unfold fQU at h; omega) (by unfold fQU at h; omega)) r.QU
    · exact rKQ_cg (fun c i h => F c i (by unfold fKQ at h; omega) (by unfold fKQ at h; omega)) r.KQ
    · exact rHQ_cg (fun c i h => F c i (by unfold fHQ at h; omega) (by unfold fHQ at h; omega)) r.HQ
    · exact rPP_cg (fun c i h => F c i (by unfold fPP at h; omega) (by unfold fPP at h; omega)) (by rw [hR]) (by rw [hR]) r.PP
    · exact rAN_cg (fun c i h => F c i (by unfold fAN at h; omega) (by unfold fAN at h; omega)) hR hS hN r.AN
    · exact rSE_cg r.SE
  · refine OPI.mk (sp_X0_formula (by omega) r.Lay h1) (fun y σ1 p s1 => by
        exact sp_X9_formula (by omega) (r.Lay.sf s1) h1) ?_
    intro y σ1 z σ2 p s1 g s2
    have F1 : ∀ (c : Nat) (i : Int), ¬ (c = 0 ∧ c = 1) → σ1.I c i = σ.I c i := by
      intro c i q
      rw [congrFun (congrFun p.2.2 c) i]
      ((try simp only [at2, rg, fgX, fgM, CQF, and_false, false_and, and_true, true_and, or_false, false_or, or_true, true_or, if_false, if_true, not_false_eq_true, not_true_eq_false])  <;> (repeat' split)) <;> first | rfl | (exfalso; omega)
    have F2 : ∀ (c : Nat) (i : Int), ¬ (c = 0 ∧ c = 1) → σ2.I c i = σ1.I c i := by
      intro c i q
      rw [congrFun (congrFun g.2.2 c) i]
      ((try simp only [at2, rg, fgX, fgM, CQF, and_false, false_and, and_true, true_and, or_false, false_or, or_true, true_or, if_false, if_true, not_false_eq_true, not_true_eq_false])  <;> (repeat' split)) <;> first | rfl | (exfalso; omega)
    have F : ∀ (c : Nat) (i : Int), ¬ (c = 0 ∧ c = 1) → ¬ (c = 0 ∧ c = 1) → σ2.I c i = σ.I c i := fun c i a b => (F2 c i b).trans (F1 c i a)
    have hR : σ2.R = σ.R := g.2.1.1.trans p.2.1.1
    have hS : σ2.sh = σ.sh := g.2.1.2.1.trans p.2.1.2.1
    have hN : σ2.n = σ.n := g.2.1.2.2.trans p.2.1.2.2
    refine ⟨by rw [g.1, p.1, if_neg w, if_neg w], r.Lay.sf (s1.tr s2), RK_cg hS hN (F 0 1 (by omega) (by omega)) (F 0 41 (by omega) (by omega)) (fun i => F 211 i (by omega) (by omega)) r.RK, ?_, ?_, ?_, ?_, ?_, ?_, ?_, ?_, ?_, ?_, ?_, ?_, ?_, ?_, ?_, ?_, ?_, ?_, ?_, ?_, ?_, ?_, ?_, ?_, ?_⟩
    · exact rTP_cg (fun c i h => F c i (by unfold fTP at h; omega) (by unfold fTP at h; omega)) r.TP
    · exact rFL_cg (fun c i h => F c i (by unfold fFL at h; omega) (by unfold fFL at h; omega)) r.FL
    · exact rVS_cg (fun c i h => F c i (by unfold fVS at h; omega) (by unfold fVS at h; omega)) r.VS
    · exact rOB_cg (fun c i h => F c i (by unfold fOB at h; omega) (by unfold fOB at h; omega)) r.OB
    · exact rVA_cg (fun c i h => F c i (by unfold fVA at h; omega) (by unfold fVA at h; omega)) r.VA
    · exact rBD_cg (fun c i h => F c i (by unfold fBD at h; omega) (by unfold fBD at h; omega)) r.BD
    · exact rTE_cg (fun c i h => F c i (by unfold fTE at h; omega) (by unfold fTE at h; omega)) r.TE
    · exact rPK_cg (fun c i h => F c i (by unfold fPK at h; omega) (by unfold fPK at h; omega)) r.PK
    · exact rUS_cg (fun c i h => F c i (by unfold fUS at h; omega) (by unfold fUS at h; omega)) r.US
    · exact rFO_cg (fun c i h => F c i (by unfold fFO at h; omega) (by unfold fFO at h; omega)) r.FO
    · exact rSH_cg (fun c i h => F c i (by unfold fSH at h; omega) (by unfold fSH at h; omega)) r.SH
    · exact rSW_cg (fun c i h => F c i (by unfold fSW at h; omega) (by unfold fSW at h; omega)) r.SW
    · exact rHI_cg (fun c i h => F c i (by unfold fHI at h; omega) (by unfold fHI at h; omega)) r.HI
    · exact rLN_cg (fun c i h => F c i (by unfold fLN at h; omega) (by unfold fLN at h; omega)) r.LN
    · exact rMK_cg (fun c i h => F c i (by unfold fMK at h; omega) (by unfold fMK at h; omega)) r.MK
    · exact rGR_cg (fun c i h => F c i (by unfold fGR at h; omega) (by unfold fGR at h; omega)) r.GR
    · exact rTT_cg (fun c i h => F c i (by unfold fTT at h; omega) (by unfold fTT at h; omega)) r.TT
    · exact rMT_cg (fun c i h => F c i (by unfold fMT at h; omega) (by unfold fMT at h; omega)) r.MT
    · exact rSC_cg (fun c i h => F c i (by unfold fSC at h; omega) (by unfold fSC at h; omega)) r.SC
    · exact rQU_cg (fun c i h => F c i (by unfold fQU at h; omega) (by unfold fQU at h; omega)) r.QU
    · exact rKQ_cg (fun c i h => F c i (by unfold fKQ at h; omega) (by unfold fKQ at h; omega)) r.KQ
    · exact rHQ_cg (fun c i h => F c i (by unfold fHQ at h; omega) (by unfold fHQ at h; omega)) r.HQ
    · exact rPP_cg (fun c i h => F c i (by unfold fPP at h; omega) (by unfold fPP at h; omega)) (by rw [hR]) (by rw [hR]) r.PP
    · exact rAN_cg (fun c i h => F c i (by unfold fAN at h; omega) (by unfold fAN at h; omega)) hR hS hN r.AN
    · exact rSE_cg r.SE

theorem op_sort (hd : 30 ≤ d) : OP_sort E d RR := by
  intro k σ hk r x1 x2 h1 h2
  have fl := r.FL
  have fl1 := fl.1
  have fo := r.FO
  have wq : ((0 ≤ x2 ∧ x2 ≤ 1) ∧ (x1 = -1 ∨ (0 ≤ x1 ∧ x1 < σ.I 555 27) ∧ σ.I 577 x1 = 2)) ↔ ((0 ≤ x2 ∧ x2 ≤ 1) ∧ (x1 = -1 ∨ (0 ≤ x1 ∧ x1 < σ.I 0 9) ∧ σ.I 16 x1 = 2)) := by
    rw [← fl.1.1]
    refine and_congr_right fun _ => or_congr_right (and_congr_right fun q => ?_)
    rw [(fl.2 x1 q.1 q.2).1.1]
  by_cases w : (0 ≤ x2 ∧ x2 ≤ 1) ∧ (x1 = -1 ∨ (0 ≤ x1 ∧ x1 < σ.I 0 9) ∧ σ.I 16 x1 = 2)
  · refine OPI.mk (sp_X0_sort (by omega) r.Lay h1 h2 fl.1.2) (fun y σ1 p s1 => by
        have e555_27 : σ1.I 555 27 = σ.I 555 27 := by
          rw [congrFun (congrFun p.2.2 555) 27]
          ((try simp only [at2, rg, fgX, fgM, CQF, and_false, false_and, and_true, true_and, or_false, false_or, or_true, true_or, if_false, if_true, not_false_eq_true, not_true_eq_false])  <;> (repeat' split)) <;> first | rfl | omega
        exact sp_X9_sort (by omega) (r.Lay.sf s1) h1 h2 (by rw [e555_27, ← fl.1.1]; exact fl.1.2)) ?_
    intro y σ1 z σ2 p s1 g s2
    have S27 : σ1.I 555 27 = σ.I 555 27 := by
      rw [congrFun (congrFun p.2.2 555) 27]
      ((try simp only [at2, rg, fgX, fgM, CQF, and_false, false_and, and_true, true_and, or_false, false_or, or_true, true_or, if_false, if_true, not_false_eq_true, not_true_eq_false])  <;> (repeat' split)) <;> first | rfl | omega
    have S577 : σ1.I 577 x1 = σ.I 577 x1 := by
      rw [congrFun (congrFun p.2.2 577) x1]
      ((try simp only [at2, rg, fgX, fgM, CQF, and_false, false_and, and_true, true_and, or_false, false_or, or_true, true_or, if_false, if_true, not_false_eq_true, not_true_eq_false])  <;> (repeat' split)) <;> first | rfl | omega
    rw [S27, S577] at g
    have w2 := wq.mpr w
    have F1 : ∀ (c : Nat) (i : Int), ¬ (c = 0 ∧ (i = 64 ∨ i = 65)) → σ1.I c i = σ.I c i := by
      intro c i q
      rw [congrFun (congrFun p.2.2 c) i]
      ((try simp only [at2, rg, fgX, fgM, CQF, and_false, false_and, and_true, true_and, or_false, false_or, or_true, true_or, if_false, if_true, not_false_eq_true, not_true_eq_false])  <;> (repeat' split)) <;> first | rfl | (exfalso; omega)
    have F2 : ∀ (c : Nat) (i : Int), ¬ (c = 555 ∧ (i = 131 ∨ i = 132)) → σ2.I c i = σ1.I c i := by
      intro c i q
      rw [congrFun (congrFun g.2.2 c) i]
      ((try simp only [at2, rg, fgX, fgM, CQF, and_false, false_and, and_true, true_and, or_false, false_or, or_true, true_or, if_false, if_true, not_false_eq_true, not_true_eq_false])  <;> (repeat' split)) <;> first | rfl | (exfalso; omega)
    have F : ∀ (c : Nat) (i : Int), ¬ (c = 0 ∧ (i = 64 ∨ i = 65)) → ¬ (c = 555 ∧ (i = 131 ∨ i = 132)) → σ2.I c i = σ.I c i := fun c i a b => (F2 c i b).trans (F1 c i a)
    have hR : σ2.R = σ.R := g.2.1.1.trans p.2.1.1
    have hS : σ2.sh = σ.sh := g.2.1.2.1.trans p.2.1.2.1
    have hN : σ2.n = σ.n := g.2.1.2.2.trans p.2.1.2.2
    have A64 : σ2.I 0 64 = x1 := by
      rw [F2 0 64 (by omega), congrFun (congrFun p.2.2 0) 64]
      ((try simp only [at2, rg, fgX, fgM, CQF, and_false, false_and, and_true, true_and, or_false, false_or, or_true, true_or, if_false, if_true, not_false_eq_true, not_true_eq_false])  <;> (repeat' split)) <;> first | rfl | omega
    have A65 : σ2.I 0 65 = x2 := by
      rw [F2 0 65 (by omega), congrFun (congrFun p.2.2 0) 65]
      ((try simp only [at2, rg, fgX, fgM, CQF, and_false, false_and, and_true, true_and, or_false, false_or, or_true, true_or, if_false, if_true, not_false_eq_true, not_true_eq_false])  <;> (repeat' split)) <;> first | rfl | omega
    have B131 : σ2.I 555 131 = x1 := by
      rw [congrFun (congrFun g.2.2 555) 131]
      ((try simp only [at2, rg, fgX, fgM, CQF, and_false, false_and, and_true, true_and, or_false, false_or, or_true, true_or, if_false, if_true, not_false_eq_true, not_true_eq_false])  <;> (repeat' split)) <;> first | rfl | omega
    have B132 : σ2.I 555 132 = x2 := by
      rw [congrFun (congrFun g.2.2 555) 132]
      ((try simp only [at2, rg, fgX, fgM, CQF, and_false, false_and, and_true, true_and, or_false, false_or, or_true, true_or, if_false, if_true, not_false_eq_true, not_true_eq_false])  <;> (repeat' split)) <;> first | rfl | omega
    refine ⟨by rw [g.1, p.1, if_pos w, if_pos w2], r.Lay.sf (s1.tr s2), RK_cg hS hN (F 0 1 (by omega) (by omega)) (F 0 41 (by omega) (by omega)) (fun i => F 211 i (by omega) (by omega)) r.RK, ?_, ?_, ?_, ?_, ?_, ?_, ?_, ?_, ?_, ?_, ?_, ?_, ?_, ?_, ?_, ?_, ?_, ?_, ?_, ?_, ?_, ?_, ?_, ?_, ?_⟩
    · exact rTP_cg (fun c i h => F c i (by unfold fTP at h; omega) (by unfold fTP at h; omega)) r.TP
    · exact rFL_cg (fun c i h => F c i (by unfold fFL at h; omega) (by unfold fFL at h; omega)) r.FL
    · exact rVS_cg (fun c i h => F c i (by unfold fVS at h; omega) (by unfold fVS at h; omega)) r.VS
    · exact rOB_cg (fun c i h => F c i (by unfold fOB at h; omega) (by unfold fOB at h; omega)) r.OB
    · exact rVA_cg (fun c i h => F c i (by unfold fVA at h; omega) (by unfold fVA at h; omega)) r.VA
    · exact rBD_cg (fun c i h => F c i (by unfold fBD at h; omega) (by unfold fBD at h; omega)) r.BD
    · exact rTE_cg (fun c i h => F c i (by unfold fTE at h; omega) (by unfold fTE at h; omega)) r.TE
    · exact rPK_cg (fun c i h => F c i (by unfold fPK at h; omega) (by unfold fPK at h; omega)) r.PK
    · exact rUS_cg (fun c i h => F c i (by unfold fUS at h; omega) (by unfold fUS at h; omega)) r.US
    · refine ⟨?_, by rw [A64, B131]; exact ⟨rfl, by omega, by omega⟩, by rw [A65, B132]; exact ⟨rfl, by omega, by omega⟩⟩
      rw [F 0 63 (by omega) (by omega), F 555 98 (by omega) (by omega)]
      exact fo.1
    · exact rSH_cg (fun c i h => F c i (by unfold fSH at h; omega) (by unfold fSH at h; omega)) r.SH
    · exact rSW_cg (fun c i h => F c i (by unfold fSW at h; omega) (by unfold fSW at h; omega)) r.SW
    · exact rHI_cg (fun c i h => F c i (by unfold fHI at h; omega) (by unfold fHI at h; omega)) r.HI
    · exact rLN_cg (fun c i h => F c i (by unfold fLN at h; omega) (by unfold fLN at h; omega)) r.LN
    · exact rMK_cg (fun c i h => F c i (by unfold fMK at h; omega) (by unfold fMK at h; omega)) r.MK
    · exact rGR_cg (fun c i h => F c i (by unfold fGR at h; omega) (by unfold fGR at h; omega)) r.GR
    · exact rTT_cg (fun c i h => F c i (by unfold fTT at h; omega) (by unfold fTT at h; omega)) r.TT
    · exact rMT_cg (fun c i h => F c i (by unfold fMT at h; omega) (by unfold fMT at h; omega)) r.MT
    · exact rSC_cg (fun c i h => F c i (by unfold fSC at h; omega) (by unfold fSC at h; omega)) r.SC
    · exact rQU_cg (fun c i h => F c i (by unfold fQU at h; omega) (by unfold fQU at h; omega)) r.QU
    · exact rKQ_cg (fun c i h => F c i (by unfold fKQ at h; omega) (by unfold fKQ at h; omega)) r.KQ
    · exact rHQ_cg (fun c i h => F c i (by unfold fHQ at h; omega) (by unfold fHQ at h; omega)) r.HQ
    · exact rPP_cg (fun c i h => F c i (by unfold fPP at h; omega) (by unfold fPP at h; omega)) (by rw [hR]) (by rw [hR]) r.PP
    · exact rAN_cg (fun c i h => F c i (by unfold fAN at h; omega) (by unfold fAN at h; omega)) hR hS hN r.AN
    · exact rSE_cg r.SE
  · refine OPI.mk (sp_X0_sort (by omega) r.Lay h1 h2 fl.1.2) (fun y σ1 p s1 => by
        have e555_27 : σ1.I 555 27 = σ.I 555 27 := by
          rw [congrFun (congrFun p.2.2 555) 27]
          ((try simp only [at2, rg, fgX, fgM, CQF, and_false, false_and, and_true, true_and, or_false, false_or, or_true, true_or, if_false, if_true, not_false_eq_true, not_true_eq_false])  <;> (repeat' split)) <;> first | rfl | omega
        exact sp_X9_sort (by omega) (r.Lay.sf s1) h1 h2 (by rw [e555_27, ← fl.1.1]; exact fl.1.2)) ?_
    intro y σ1 z σ2 p s1 g s2
    have S27 : σ1.I 555 27 = σ.I 555 27 := by
      rw [congrFun (congrFun p.2.2 555) 27]
      ((try simp only [at2, rg, fgX, fgM, CQF, and_false, false_and, and_true, true_and, or_false, false_or, or_true, true_or, if_false, if_true, not_false_eq_true, not_true_eq_false])  <;> (repeat' split)) <;> first | rfl | omega
    have S577 : σ1.I 577 x1 = σ.I 577 x1 := by
      rw [congrFun (congrFun p.2.2 577) x1]
      ((try simp only [at2, rg, fgX, fgM, CQF, and_false, false_and, and_true, true_and, or_false, false_or, or_true, true_or, if_false, if_true, not_false_eq_true, not_true_eq_false])  <;> (repeat' split)) <;> first | rfl | omega
    rw [S27, S577] at g
    have w2 := fun z => w (wq.mp z)
    have F1 : ∀ (c : Nat) (i : Int), ¬ (c = 0 ∧ c = 1) → σ1.I c i = σ.I c i := by
      intro c i q
      rw [congrFun (congrFun p.2.2 c) i]
      ((try simp only [at2, rg, fgX, fgM, CQF, and_false, false_and, and_true, true_and, or_false, false_or, or_true, true_or, if_false, if_true, not_false_eq_true, not_true_eq_false])  <;> (repeat' split)) <;> first | rfl | (exfalso; omega)
    have F2 : ∀ (c : Nat) (i : Int), ¬ (c = 0 ∧ c = 1) → σ2.I c i = σ1.I c i := by
      intro c i q
      rw [congrFun (congrFun g.2.2 c) i]
      ((try simp only [at2, rg, fgX, fgM, CQF, and_false, false_and, and_true, true_and, or_false, false_or, or_true, true_or, if_false, if_true, not_false_eq_true, not_true_eq_false])  <;> (repeat' split)) <;> first | rfl | (exfalso; omega)
    have F : ∀ (c : Nat) (i : Int), ¬ (c = 0 ∧ c = 1) → ¬ (c = 0 ∧ c = 1) → σ2.I c i = σ.I c i := fun c i a b => (F2 c i b).trans (F1 c i a)
    have hR : σ2.R = σ.R := g.2.1.1.trans p.2.1.1
    have hS : σ2.sh = σ.sh := g.2.1.2.1.trans p.2.1.2.1
    have hN : σ2.n = σ.n := g.2.1.2.2.trans p.2.1.2.2
    refine ⟨by rw [g.1, p.1, if_neg w, if_neg w2], r.Lay.sf (s1.tr s2), RK_cg hS hN (F 0 1 (by omega) (by omega)) (F 0 41 (by omega) (by omega)) (fun i => F 211 i (by omega) (by omega)) r.RK, ?_, ?_, ?_, ?_, ?_, ?_, ?_, ?_, ?_, ?_, ?_, ?_, ?_, ?_, ?_, ?_, ?_, ?_, ?_, ?_, ?_, ?_, ?_, ?_, ?_⟩
    · exact rTP_cg (fun c i h => F c i (by unfold fTP at h; omega) (by unfold fTP at h; omega)) r.TP
    · exact rFL_cg (fun c i h => F c i (by unfold fFL at h; omega) (by unfold fFL at h; omega)) r.FL
    · exact rVS_cg (fun c i h => F c i (by unfold fVS at h; omega) (by unfold fVS at h; omega)) r.VS
    · exact rOB_cg (fun c i h => F c i (by unfold fOB at h; omega) (by unfold fOB at h; omega)) r.OB
    · exact rVA_cg (fun c i h => F c i (by unfold fVA at h; omega) (by unfold fVA at h; omega)) r.VA
    · exact rBD_cg (fun c i h => F c i (by unfold fBD at h; omega) (by unfold fBD at h; omega)) r.BD
    · exact rTE_cg (fun c i h => F c i (by unfold fTE at h; omega) (by unfold fTE at h; omega)) r.TE
    · exact rPK_cg (fun c i h => F c i (by unfold fPK at h; omega) (by unfold fPK at h; omega)) r.PK
    · exact rUS_cg (fun c i h => F c i (by unfold fUS at h; omega) (by unfold fUS at h; omega)) r.US
    · exact rFO_cg (fun c i h => F c i (by unfold fFO at h; omega) (by unfold fFO at h; omega)) r.FO
    · exact rSH_cg (fun c i h => F c i (by unfold fSH at h; omega) (by unfold fSH at h; omega)) r.SH
    · exact rSW_cg (fun c i h => F c i (by unfold fSW at h; omega) (by unfold fSW at h; omega)) r.SW
    · exact rHI_cg (fun c i h => F c i (by unfold fHI at h; omega) (by unfold fHI at h; omega)) r.HI
    · exact rLN_cg (fun c i h => F c i (by unfold fLN at h; omega) (by unfold fLN at h; omega)) r.LN
    · exact rMK_cg (fun c i h => F c i (by unfold fMK at h; omega) (by unfold fMK at h; omega)) r.MK
    · exact rGR_cg (fun c i h => F c i (by unfold fGR at h; omega) (by unfold fGR at h; omega)) r.GR
    · exact rTT_cg (fun c i h => F c i (by unfold fTT at h; omega) (by unfold fTT at h; omega)) r.TT
    · exact rMT_cg (fun c i h => F c i (by unfold fMT at h; omega) (by unfold fMT at h; omega)) r.MT
    · exact rSC_cg (fun c i h => F c i (by unfold fSC at h; omega) (by unfold fSC at h; omega)) r.SC
    · exact rQU_cg (fun c i h => F c i (by unfold fQU at h; omega) (by unfold fQU at h; omega)) r.QU
    · exact rKQ_cg (fun c i h => F c i (by unfold fKQ at h; omega) (by unfold fKQ at h; omega)) r.KQ
    · exact rHQ_cg (fun c i h => F c i (by unfold fHQ at h; omega) (by unfold fHQ at h; omega)) r.HQ
    · exact rPP_cg (fun c i h => F c i (by unfold fPP at h; omega) (by unfold fPP at h; omega)) (by rw [hR]) (by rw [hR]) r.PP
    · exact rAN_cg (fun c i h => F c i (by unfold fAN at h; omega) (by unfold fAN at h; omega)) hR hS hN r.AN
    · exact rSE_cg r.SE

theorem op_spread (hd : 30 ≤ d) : OP_spread E d RR := by
  intro k σ hk r x1 x2 h1 h2
  have sh := r.SH
  have rk := r.RK
  have k1 := rk.2.2.1
  have k2 := rk.2.2.2.1
  by_cases w : 1 ≤ x1 ∧ x1 ≤ 8 ∧ 1 ≤ x2 ∧ x2 ≤ 8
  · refine OPI.mk (sp_X0_spread (by omega) r.Lay h1 h2) (fun y σ1 p s1 => by
        exact sp_X9_spread (by omega) (r.Lay.sf s1) h1 h2) ?_
    intro y σ1 z σ2 p s1 g s2
    have F1 : ∀ (c : Nat) (i : Int), ¬ (c = 210 ∨ c = 211 ∨ (c = 0 ∧ (i = 95 ∨ i = 96))) → σ1.I c i = σ.I c i := by
      intro c i q
      rw [congrFun (congrFun p.2.2 c) i]
      ((try simp only [at2, rg, fgX, fgM, CQF, and_false, false_and, and_true, true_and, or_false, false_or, or_true, true_or, if_false, if_true, not_false_eq_true, not_true_eq_false])  <;> (repeat' split)) <;> first | rfl | (exfalso; omega)
    have F2 : ∀ (c : Nat) (i : Int), ¬ (c = 598 ∨ c = 599 ∨ (c = 555 ∧ (i = 57 ∨ i = 58))) → σ2.I c i = σ1.I c i := by
      intro c i q
      rw [congrFun (congrFun g.2.2 c) i]
      ((try simp only [at2, rg, fgX, fgM, CQF, and_false, false_and, and_true, true_and, or_false, false_or, or_true, true_or, if_false, if_true, not_false_eq_true, not_true_eq_false])  <;> (repeat' split)) <;> first | rfl | (exfalso; omega)
    have F : ∀ (c : Nat) (i : Int), ¬ (c = 210 ∨ c = 211 ∨ (c = 0 ∧ (i = 95 ∨ i = 96))) → ¬ (c = 598 ∨ c = 599 ∨ (c = 555 ∧ (i = 57 ∨ i = 58))) → σ2.I c i = σ.I c i := fun c i a b => (F2 c i b).trans (F1 c i a)
    have hR : σ2.R = σ.R := g.2.1.1.trans p.2.1.1
    have hS : σ2.sh = σ.sh := g.2.1.2.1.trans p.2.1.2.1
    have hN : σ2.n = σ.n := g.2.1.2.2.trans p.2.1.2.2
    have A95 : σ2.I 0 95 = x1 := by
      rw [F2 0 95 (by omega), congrFun (congrFun p.2.2 0) 95]
      ((try simp only [at2, rg, fgX, fgM, CQF, and_false, false_and, and_true, true_and, or_false, false_or, or_true, true_or, if_false, if_true, not_false_eq_true, not_true_eq_false])  <;> (repeat' split)) <;> first | rfl | omega
    have A96 : σ2.I 0 96 = x2 := by
      rw [F2 0 96 (by omega), congrFun (congrFun p.2.2 0) 96]
      ((try simp only [at2, rg, fgX, fgM, CQF, and_false, false_and, and_true, true_and, or_false, false_or, or_true, true_or, if_false, if_true, not_false_eq_true, not_true_eq_false])  <;> (repeat' split)) <;> first | rfl | omega
    have B57 : σ2.I 555 57 = x1 := by
      rw [congrFun (congrFun g.2.2 555) 57]
      ((try simp only [at2, rg, fgX, fgM, CQF, and_false, false_and, and_true, true_and, or_false, false_or, or_true, true_or, if_false, if_true, not_false_eq_true, not_true_eq_false])  <;> (repeat' split)) <;> first | rfl | omega
    have B58 : σ2.I 555 58 = x2 := by
      rw [congrFun (congrFun g.2.2 555) 58]
      ((try simp only [at2, rg, fgX, fgM, CQF, and_false, false_and, and_true, true_and, or_false, false_or, or_true, true_or, if_false, if_true, not_false_eq_true, not_true_eq_false])  <;> (repeat' split)) <;> first | rfl | omega
    have Z210 : ∀ i, 0 ≤ i → i < 8 → σ2.I 210 i = 0 := by
      intro i h0 h1
      rw [F2 210 i (by omega), congrFun (congrFun p.2.2 210) i]
      ((try simp only [at2, rg, fgX, fgM, CQF, and_false, false_and, and_true, true_and, or_false, false_or, or_true, true_or, if_false, if_true, not_false_eq_true, not_true_eq_false])  <;> (repeat' split)) <;> first | rfl | omega
    have Z211 : ∀ i, 0 ≤ i → i < 8 → σ2.I 211 i = 0 := by
      intro i h0 h1
      rw [F2 211 i (by omega), congrFun (congrFun p.2.2 211) i]
      ((try simp only [at2, rg, fgX, fgM, CQF, and_false, false_and, and_true, true_and, or_false, false_or, or_true, true_or, if_false, if_true, not_false_eq_true, not_true_eq_false])  <;> (repeat' split)) <;> first | rfl | omega
    have Z598 : ∀ i, 0 ≤ i → i < 8 → σ2.I 598 i = 0 := by
      intro i h0 h1
      rw [congrFun (congrFun g.2.2 598) i]
      ((try simp only [at2, rg, fgX, fgM, CQF, and_false, false_and, and_true, true_and, or_false, false_or, or_true, true_or, if_false, if_true, not_false_eq_true, not_true_eq_false])  <;> (repeat' split)) <;> first | rfl | omega
    have Z599 : ∀ i, 0 ≤ i → i < 8 → σ2.I 599 i = 0 := by
      intro i h0 h1
      rw [congrFun (congrFun g.2.2 599) i]
      ((try simp only [at2, rg, fgX, fgM, CQF, and_false, false_and, and_true, true_and, or_false, false_or, or_true, true_or, if_false, if_true, not_false_eq_true, not_true_eq_false])  <;> (repeat' split)) <;> first | rfl | omega
    refine ⟨by rw [g.1, p.1], r.Lay.sf (s1.tr s2), RK_c1 hS hN (by rw [F 0 1 (by omega) (by omega)]; omega) (by rw [F 0 41 (by omega) (by omega)]; omega) (fun i h0 h1 => by rw [Z211 i h0 h1]; omega) rk, ?_, ?_, ?_, ?_, ?_, ?_, ?_, ?_, ?_, ?_, ?_, ?_, ?_, ?_, ?_, ?_, ?_, ?_, ?_, ?_, ?_, ?_, ?_, ?_, ?_⟩
    · exact rTP_cg (fun c i h => F c i (by unfold fTP at h; omega) (by unfold fTP at h; omega)) r.TP
    · exact rFL_cg (fun c i h => F c i (by unfold fFL at h; omega) (by unfold fFL at h; omega)) r.FL
    · exact rVS_cg (fun c i h => F c i (by unfold fVS at h; omega) (by unfold fVS at h; omega)) r.VS
    · exact rOB_cg (fun c i h => F c i (by unfold fOB at h; omega) (by unfold fOB at h; omega)) r.OB
    · exact rVA_cg (fun c i h => F c i (by unfold fVA at h; omega) (by unfold fVA at h; omega)) r.VA
    · exact rBD_cg (fun c i h => F c i (by unfold fBD at h; omega) (by unfold fBD at h; omega)) r.BD
    · exact rTE_cg (fun c i h => F c i (by unfold fTE at h; omega) (by unfold fTE at h; omega)) r.TE
    · exact rPK_cg (fun c i h => F c i (by unfold fPK at h; omega) (by unfold fPK at h; omega)) r.PK
    · exact rUS_cg (fun c i h => F c i (by unfold fUS at h; omega) (by unfold fUS at h; omega)) r.US
    · exact rFO_cg (fun c i h => F c i (by unfold fFO at h; omega) (by unfold fFO at h; omega)) r.FO
    · refine ⟨by rw [A95, B57]; exact ⟨rfl, by omega, by omega⟩, by rw [A96, B58]; exact ⟨rfl, by omega, by omega⟩, fun i h0 h1 => ?_⟩
      rw [Z210 i h0 h1, Z211 i h0 h1, Z598 i h0 h1, Z599 i h0 h1]
      omega
    · exact rSW_cg (fun c i h => F c i (by unfold fSW at h; omega) (by unfold fSW at h; omega)) r.SW
    · exact rHI_cg (fun c i h => F c i (by unfold fHI at h; omega) (by unfold fHI at h; omega)) r.HI
    · exact rLN_cg (fun c i h => F c i (by unfold fLN at h; omega) (by unfold fLN at h; omega)) r.LN
    · exact rMK_cg (fun c i h => F c i (by unfold fMK at h; omega) (by unfold fMK at h; omega)) r.MK
    · exact rGR_cg (fun c i h => F c i (by unfold fGR at h; omega) (by unfold fGR at h; omega)) r.GR
    · exact rTT_cg (fun c i h => F c i (by unfold fTT at h; omega) (by unfold fTT at h; omega)) r.TT
    · exact rMT_cg (fun c i h => F c i (by unfold fMT at h; omega) (by unfold fMT at h; omega)) r.MT
    · exact rSC_cg (fun c i h => F c i (by unfold fSC at h; omega) (by unfold fSC at h; omega)) r.SC
    · exact rQU_cg (fun c i h => F c i (by unfold fQU at h; omega) (by unfold fQU at h; omega)) r.QU
    · exact rKQ_cg (fun c i h => F c i (by unfold fKQ at h; omega) (by unfold fKQ at h; omega)) r.KQ
    · exact rHQ_cg (fun c i h => F c i (by unfold fHQ at h; omega) (by unfold fHQ at h; omega)) r.HQ
    · exact rPP_cg (fun c i h => F c i (by unfold fPP at h; omega) (by unfold fPP at h; omega)) (by rw [hR]) (by rw [hR]) r.PP
    · exact rAN_cg (fun c i h => F c i (by unfold fAN at h; omega) (by unfold fAN at h; omega)) hR hS hN r.AN
    · exact rSE_cg r.SE
  · refine OPI.mk (sp_X0_spread (by omega) r.Lay h1 h2) (fun y σ1 p s1 => by
        exact sp_X9_spread (by omega) (r.Lay.sf s1) h1 h2) ?_
    intro y σ1 z σ2 p s1 g s2
    have F1 : ∀ (c : Nat) (i : Int), ¬ (c = 0 ∧ c = 1) → σ1.I c i = σ.I c i := by
      intro c i q
      rw [congrFun (congrFun p.2.2 c) i]
      ((try simp only [at2, rg, fgX, fgM, CQF, and_false, false_and, and_true, true_and, or_false, false_or, or_true, true_or, if_false, if_true, not_false_eq_true, not_true_eq_false])  <;> (repeat' split)) <;> first | rfl | (exfalso; omega)
    have F2 : ∀ (c : Nat) (i : Int), ¬ (c = 0 ∧ c = 1) → σ2.I c i = σ1.I c i := by
      intro c i q
      rw [congrFun (congrFun g.2.2 c) i]
      ((try simp only [at2, rg, fgX, fgM, CQF, and_false, false_and, and_true, true_and, or_false, false_or, or_true, true_or, if_false, if_true, not_false_eq_true, not_true_eq_false])  <;> (repeat' split)) <;> first | rfl | (exfalso; omega)
    have F : ∀ (c : Nat) (i : Int), ¬ (c = 0 ∧ c = 1) → ¬ (c = 0 ∧ c = 1) → σ2.I c i = σ.I c i := fun c i a b => (F2 c i b).trans (F1 c i a)
    have hR : σ2.R = σ.R := g.2.1.1.trans p.2.1.1
    have hS : σ2.sh = σ.sh := g.2.1.2.1.trans p.2.1.2.1
    have hN : σ2.n = σ.n := g.2.1.2.2.trans p.2.1.2.2
    refine ⟨by rw [g.1, p.1], r.Lay.sf (s1.tr s2), RK_cg hS hN (F 0 1 (by omega) (by omega)) (F 0 41 (by omega) (by omega)) (fun i => F 211 i (by omega) (by omega)) r.RK, ?_, ?_, ?_, ?_, ?_, ?_, ?_, ?_, ?_, ?_, ?_, ?_, ?_, ?_, ?_, ?_, ?_, ?_, ?_, ?_, ?_, ?_, ?_, ?_, ?_⟩
    · exact rTP_cg (fun c i h => F c i (by unfold fTP at h; omega) (by unfold fTP at h; omega)) r.TP
    · exact rFL_cg (fun c i h => F c i (by unfold fFL at h; omega) (by unfold fFL at h; omega)) r.FL
    · exact rVS_cg (fun c i h => F c i (by unfold fVS at h; omega) (by unfold fVS at h; omega)) r.VS
    · exact rOB_cg (fun c i h => F c i (by unfold fOB at h; omega) (by unfold fOB at h; omega)) r.OB
    · exact rVA_cg (fun c i h => F c i (by unfold fVA at h; omega) (by unfold fVA at h; omega)) r.VA
    · exact rBD_cg (fun c i h => F c i (by unfold fBD at h; omega) (by unfold fBD at h; omega)) r.BD
    · exact rTE_cg (fun c i h => F c i (by unfold fTE at h; omega) (by unfold fTE at h; omega)) r.TE
    · exact rPK_cg (fun c i h => F c i (by unfold fPK at h; omega) (by unfold fPK at h; omega)) r.PK
    · exact rUS_cg (fun c i h => F c i (by unfold fUS at h; omega) (by unfold fUS at h; omega)) r.US
    · exact rFO_cg (fun c i h => F c i (by unfold fFO at h; omega) (by unfold fFO at h; omega)) r.FO
    · exact rSH_cg (fun c i h => F c i (by unfold fSH at h; omega) (by unfold fSH at h; omega)) r.SH
    · exact rSW_cg (fun c i h => F c i (by unfold fSW at h; omega) (by unfold fSW at h; omega)) r.SW
    · exact rHI_cg (fun c i h => F c i (by unfold fHI at h; omega) (by unfold fHI at h; omega)) r.HI
    · exact rLN_cg (fun c i h => F c i (by unfold fLN at h; omega) (by unfold fLN at h; omega)) r.LN
    · exact rMK_cg (fun c i h => F c i (by unfold fMK at h; omega) (by unfold fMK at h; omega)) r.MK
    · exact rGR_cg (fun c i h => F c i (by unfold fGR at h; omega) (by unfold fGR at h; omega)) r.GR
    · exact rTT_cg (fun c i h => F c i (by unfold fTT at h; omega) (by unfold fTT at h; omega)) r.TT
    · exact rMT_cg (fun c i h => F c i (by unfold fMT at h; omega) (by unfold fMT at h; omega)) r.MT
    · exact rSC_cg (fun c i h => F c i (by unfold fSC at h; omega) (by unfold fSC at h; omega)) r.SC
    · exact rQU_cg (fun c i h => F c i (by unfold fQU at h; omega) (by unfold fQU at h; omega)) r.QU
    · exact rKQ_cg (fun c i h => F c i (by unfold fKQ at h; omega) (by unfold fKQ at h; omega)) r.KQ
    · exact rHQ_cg (fun c i h => F c i (by unfold fHQ at h; omega) (by unfold fHQ at h; omega)) r.HQ
    · exact rPP_cg (fun c i h => F c i (by unfold fPP at h; omega) (by unfold fPP at h; omega)) (by rw [hR]) (by rw [hR]) r.PP
    · exact rAN_cg (fun c i h => F c i (by unfold fAN at h; omega) (by unfold fAN at h; omega)) hR hS hN r.AN
    · exact rSE_cg r.SE

theorem op_lose (hd : 30 ≤ d) : OP_lose E d RR := by
  intro k σ hk r x1 x2 h1 h2
  have sh := r.SH
  have sh1 := sh.2.1.2
  by_cases w : 0 ≤ x1 ∧ x1 < σ.I 0 96 ∧ 0 ≤ x2 ∧ x2 ≤ 1
  · refine OPI.mk (sp_X0_lose (by omega) r.Lay sh.2.1.2 h1 h2) (fun y σ1 p s1 => by
        have e555_58 : σ1.I 555 58 = σ.I 555 58 := by
          rw [congrFun (congrFun p.2.2 555) 58]
          ((try simp only [at2, rg, fgX, fgM, CQF, and_false, false_and, and_true, true_and, or_false, false_or, or_true, true_or, if_false, if_true, not_false_eq_true, not_true_eq_false])  <;> (repeat' split)) <;> first | rfl | omega
        exact sp_X9_lose (by omega) (r.Lay.sf s1) (by rw [e555_58, ← sh.2.1.1]; exact sh.2.1.2) h1 h2) ?_
    intro y σ1 z σ2 p s1 g s2
    have S58 : σ1.I 555 58 = σ.I 0 96 := by
      rw [sh.2.1.1, congrFun (congrFun p.2.2 555) 58]
      ((try simp only [at2, rg, fgX, fgM, CQF, and_false, false_and, and_true, true_and, or_false, false_or, or_true, true_or, if_false, if_true, not_false_eq_true, not_true_eq_false])  <;> (repeat' split)) <;> first | rfl | omega
    rw [S58] at g
    have F1 : ∀ (c : Nat) (i : Int), ¬ (c = 210 ∧ i = x1) → σ1.I c i = σ.I c i := by
      intro c i q
      rw [congrFun (congrFun p.2.2 c) i]
      ((try simp only [at2, rg, fgX, fgM, CQF, and_false, false_and, and_true, true_and, or_false, false_or, or_true, true_or, if_false, if_true, not_false_eq_true, not_true_eq_false])  <;> (repeat' split)) <;> first | rfl | (exfalso; omega)
    have F2 : ∀ (c : Nat) (i : Int), ¬ (c = 598 ∧ i = x1) → σ2.I c i = σ1.I c i := by
      intro c i q
      rw [congrFun (congrFun g.2.2 c) i]
      ((try simp only [at2, rg, fgX, fgM, CQF, and_false, false_and, and_true, true_and, or_false, false_or, or_true, true_or, if_false, if_true, not_false_eq_true, not_true_eq_false])  <;> (repeat' split)) <;> first | rfl | (exfalso; omega)
    have F : ∀ (c : Nat) (i : Int), ¬ (c = 210 ∧ i = x1) → ¬ (c = 598 ∧ i = x1) → σ2.I c i = σ.I c i := fun c i a b => (F2 c i b).trans (F1 c i a)
    have hR : σ2.R = σ.R := g.2.1.1.trans p.2.1.1
    have hS : σ2.sh = σ.sh := g.2.1.2.1.trans p.2.1.2.1
    have hN : σ2.n = σ.n := g.2.1.2.2.trans p.2.1.2.2
    have A210 : σ2.I 210 x1 = 1 - x2 := by
      rw [F2 210 x1 (by omega), congrFun (congrFun p.2.2 210) x1]
      ((try simp only [at2, rg, fgX, fgM, CQF, and_false, false_and, and_true, true_and, or_false, false_or, or_true, true_or, if_false, if_true, not_false_eq_true, not_true_eq_false])  <;> (repeat' split)) <;> first | rfl | omega
    have B598 : σ2.I 598 x1 = 1 - x2 := by
      rw [congrFun (congrFun g.2.2 598) x1]
      ((try simp only [at2, rg, fgX, fgM, CQF, and_false, false_and, and_true, true_and, or_false, false_or, or_true, true_or, if_false, if_true, not_false_eq_true, not_true_eq_false])  <;> (repeat' split)) <;> first | rfl | omega
    refine ⟨by rw [g.1, p.1, if_pos w, if_pos w, F1 598 x1 (by omega), (sh.2.2 x1 w.1 (by omega)).1], r.Lay.sf (s1.tr s2), RK_cg hS hN (F 0 1 (by omega) (by omega)) (F 0 41 (by omega) (by omega)) (fun i => F 211 i (by omega) (by omega)) r.RK, ?_, ?_, ?_, ?_, ?_, ?_, ?_, ?_, ?_, ?_, ?_, ?_, ?_, ?_, ?_, ?_, ?_, ?_, ?_, ?_, ?_, ?_, ?_, ?_, ?_⟩
    · exact rTP_cg (fun c i h => F c i (by unfold fTP at h; omega) (by unfold fTP at h; omega)) r.TP
    · exact rFL_cg (fun c i h => F c i (by unfold fFL at h; omega) (by unfold fFL at h; omega)) r.FL
    · exact rVS_cg (fun c i h => F c i (by unfold fVS at h; omega) (by unfold fVS at h; omega)) r.VS
    · exact rOB_cg (fun c i h => F c i (by unfold fOB at h; omega) (by unfold fOB at h; omega)) r.OB
    · exact rVA_cg (fun c i h => F c i (by unfold fVA at h; omega) (by unfold fVA at h; omega)) r.VA
    · exact rBD_cg (fun c i h => F c i (by unfold fBD at h; omega) (by unfold fBD at h; omega)) r.BD
    · exact rTE_cg (fun c i h => F c i (by unfold fTE at h; omega) (by unfold fTE at h; omega)) r.TE
    · exact rPK_cg (fun c i h => F c i (by unfold fPK at h; omega) (by unfold fPK at h; omega)) r.PK
    · exact rUS_cg (fun c i h => F c i (by unfold fUS at h; omega) (by unfold fUS at h; omega)) r.US
    · exact rFO_cg (fun c i h => F c i (by unfold fFO at h; omega) (by unfold fFO at h; omega)) r.FO
    · refine ⟨?_, ?_, fun i h0 h1 => ?_⟩
      · rw [F 0 95 (by omega) (by omega), F 555 57 (by omega) (by omega)]; exact sh.1
      · rw [F 0 96 (by omega) (by omega), F 555 58 (by omega) (by omega)]; exact sh.2.1
      · have z := sh.2.2 i h0 h1
        rw [F 211 i (by omega) (by omega), F 599 i (by omega) (by omega)]
        by_cases q : i = x1
        · subst q
          rw [A210, B598]
          exact ⟨rfl, by omega, z.2.2⟩
        · rw [F 210 i (by omega) (by omega), F 598 i (by omega) (by omega)]
          exact z
    · exact rSW_cg (fun c i h => F c i (by unfold fSW at h; omega) (by unfold fSW at h; omega)) r.SW
    · exact rHI_cg (fun c i h => F c i (by unfold fHI at h; omega) (by unfold fHI at h; omega)) r.HI
    · exact rLN_cg (fun c i h => F c i (by unfold fLN at h; omega) (by unfold fLN at h; omega)) r.LN
    · exact rMK_cg (fun c i h => F c i (by unfold fMK at h; omega) (by unfold fMK at h; omega)) r.MK
    · exact rGR_cg (fun c i h => F c i (by unfold fGR at h; omega) (by unfold fGR at h; omega)) r.GR
    · exact rTT_cg (fun c i h => F c i (by unfold fTT at h; omega) (by unfold fTT at h; omega)) r.TT
    · exact rMT_cg (fun c i h => F c i (by unfold fMT at h; omega) (by unfold fMT at h; omega)) r.MT
    · exact rSC_cg (fun c i h => F c i (by unfold fSC at h; omega) (by unfold fSC at h; omega)) r.SC
    · exact rQU_cg (fun c i h => F c i (by unfold fQU at h; omega) (by unfold fQU at h; omega)) r.QU
    · exact rKQ_cg (fun c i h => F c i (by unfold fKQ at h; omega) (by unfold fKQ at h; omega)) r.KQ
    · exact rHQ_cg (fun c i h => F c i (by unfold fHQ at h; omega) (by unfold fHQ at h; omega)) r.HQ
    · exact rPP_cg (fun c i h => F c i (by unfold fPP at h; omega) (by unfold fPP at h; omega)) (by rw [hR]) (by rw [hR]) r.PP
    · exact rAN_cg (fun c i h => F c i (by unfold fAN at h; omega) (by unfold fAN at h; omega)) hR hS hN r.AN
    · exact rSE_cg r.SE
  · refine OPI.mk (sp_X0_lose (by omega) r.Lay sh.2.1.2 h1 h2) (fun y σ1 p s1 => by
        have e555_58 : σ1.I 555 58 = σ.I 555 58 := by
          rw [congrFun (congrFun p.2.2 555) 58]
          ((try simp only [at2, rg, fgX, fgM, CQF, and_false, false_and, and_true, true_and, or_false, false_or, or_true, true_or, if_false, if_true, not_false_eq_true, not_true_eq_false])  <;> (repeat' split)) <;> first | rfl | omega
        exact sp_X9_lose (by omega) (r.Lay.sf s1) (by rw [e555_58, ← sh.2.1.1]; exact sh.2.1.2) h1 h2) ?_
    intro y σ1 z σ2 p s1 g s2
    have S58 : σ1.I 555 58 = σ.I 0 96 := by
      rw [sh.2.1.1, congrFun (congrFun p.2.2 555) 58]
      ((try simp only [at2, rg, fgX, fgM, CQF, and_false, false_and, and_true, true_and, or_false, false_or, or_true, true_or, if_false, if_true, not_false_eq_true, not_true_eq_false])  <;> (repeat' split)) <;> first | rfl | omega
    rw [S58] at g
    have F1 : ∀ (c : Nat) (i : Int), ¬ (c = 0 ∧ c = 1) → σ1.I c i = σ.I c i := by
      intro c i q
      rw [congrFun (congrFun p.2.2 c) i]
      ((try simp only [at2, rg, fgX, fgM, CQF, and_false, false_and, and_true, true_and, or_false, false_or, or_true, true_or, if_false, if_true, not_false_eq_true, not_true_eq_false])  <;> (repeat' split)) <;> first | rfl | (exfalso; omega)
    have F2 : ∀ (c : Nat) (i : Int), ¬ (c = 0 ∧ c = 1) → σ2.I c i = σ1.I c i := by
      intro c i q
      rw [congrFun (congrFun g.2.2 c) i]
      ((try simp only [at2, rg, fgX, fgM, CQF, and_false, false_and, and_true, true_and, or_false, false_or, or_true, true_or, if_false, if_true, not_false_eq_true, not_true_eq_false])  <;> (repeat' split)) <;> first | rfl | (exfalso; omega)
    have F : ∀ (c : Nat) (i : Int), ¬ (c = 0 ∧ c = 1) → ¬ (c = 0 ∧ c = 1) → σ2.I c i = σ.I c i := fun c i a b => (F2 c i b).trans (F1 c i a)
    have hR : σ2.R = σ.R := g.2.1.1.trans p.2.1.1
    have hS : σ2.sh = σ.sh := g.2.1.2.1.trans p.2.1.2.1
    have hN : σ2.n = σ.n := g.2.1.2.2.trans p.2.1.2.2
    refine ⟨by rw [g.1, p.1, if_neg w, if_neg w], r.Lay.sf (s1.tr s2), RK_cg hS hN (F 0 1 (by omega) (by omega)) (F 0 41 (by omega) (by omega)) (fun i => F 211 i (by omega) (by omega)) r.RK, ?_, ?_, ?_, ?_, ?_, ?_, ?_, ?_, ?_, ?_, ?_, ?_, ?_, ?_, ?_, ?_, ?_, ?_, ?_, ?_, ?_, ?_, ?_, ?_, ?_⟩
    · exact rTP_cg (fun c i h => F c i (by unfold fTP at h; omega) (by unfold fTP at h; omega)) r.TP
    · exact rFL_cg (fun c i h => F c i (by unfold fFL at h; omega) (by unfold fFL at h; omega)) r.FL
    · exact rVS_cg (fun c i h => F c i (by unfold fVS at h; omega) (by unfold fVS at h; omega)) r.VS
    · exact rOB_cg (fun c i h => F c i (by unfold fOB at h; omega) (by unfold fOB at h; omega)) r.OB
    · exact rVA_cg (fun c i h => F c i (by unfold fVA at h; omega) (by unfold fVA at h; omega)) r.VA
    · exact rBD_cg (fun c i h => F c i (by unfold fBD at h; omega) (by unfold fBD at h; omega)) r.BD
    · exact rTE_cg (fun c i h => F c i (by unfold fTE at h; omega) (by unfold fTE at h; omega)) r.TE
    · exact rPK_cg (fun c i h => F c i (by unfold fPK at h; omega) (by unfold fPK at h; omega)) r.PK
    · exact rUS_cg (fun c i h => F c i (by unfold fUS at h; omega) (by unfold fUS at h; omega)) r.US
    · exact rFO_cg (fun c i h => F c i (by unfold fFO at h; omega) (by unfold fFO at h; omega)) r.FO
    · exact rSH_cg (fun c i h => F c i (by unfold fSH at h; omega) (by unfold fSH at h; omega)) r.SH
    · exact rSW_cg (fun c i h => F c i (by unfold fSW at h; omega) (by unfold fSW at h; omega)) r.SW
    · exact rHI_cg (fun c i h => F c i (by unfold fHI at h; omega) (by unfold fHI at h; omega)) r.HI
    · exact rLN_cg (fun c i h => F c i (by unfold fLN at h; omega) (by unfold fLN at h; omega)) r.LN
    · exact rMK_cg (fun c i h => F c i (by unfold fMK at h; omega) (by unfold fMK at h; omega)) r.MK
    · exact rGR_cg (fun c i h => F c i (by unfold fGR at h; omega) (by unfold fGR at h; omega)) r.GR
    · exact rTT_cg (fun c i h => F c i (by unfold fTT at h; omega) (by unfold fTT at h; omega)) r.TT
    · exact rMT_cg (fun c i h => F c i (by unfold fMT at h; omega) (by unfold fMT at h; omega)) r.MT
    · exact rSC_cg (fun c i h => F c i (by unfold fSC at h; omega) (by unfold fSC at h; omega)) r.SC
    · exact rQU_cg (fun c i h => F c i (by unfold fQU at h; omega) (by unfold fQU at h; omega)) r.QU
    · exact rKQ_cg (fun c i h => F c i (by unfold fKQ at h; omega) (by unfold fKQ at h; omega)) r.KQ
    · exact rHQ_cg (fun c i h => F c i (by unfold fHQ at h; omega) (by unfold fHQ at h; omega)) r.HQ
    · exact rPP_cg (fun c i h => F c i (by unfold fPP at h; omega) (by unfold fPP at h; omega)) (by rw [hR]) (by rw [hR]) r.PP
    · exact rAN_cg (fun c i h => F c i (by unfold fAN at h; omega) (by unfold fAN at h; omega)) hR hS hN r.AN
    · exact rSE_cg r.SE

theorem op_unhide (hd : 30 ≤ d) : OP_unhide E d RR := by
  intro k σ hk r x1 h1
  have hq := r.HQ
  by_cases w : 1 ≤ x1 ∧ x1 ≤ 3
  · obtain ⟨u, rfl⟩ : ∃ u : Nat, x1 = (u : Int) := ⟨x1.toNat, by omega⟩
    have nn : ¬ ¬ (1 ≤ (u : Int) ∧ (u : Int) ≤ 3) := fun z => z w
    refine OPI.mk (sp_X0_unhide (by omega) r.Lay h1) (fun y σ1 p s1 => by
        exact sp_X9_unhide (by omega) (r.Lay.sf s1) h1) ?_
    intro y σ1 z σ2 p s1 g s2
    have F1 : ∀ (c : Nat) (i : Int), ¬ ((c = 215 + 15 * u ∧ i = 1) ∨ (c = 0 ∧ (i = 70 ∨ i = 71 ∨ i = 59 ∨ i = 75 ∨ i = 79))) → σ1.I c i = σ.I c i := by
      intro c i q
      rw [congrFun (congrFun p.2.2 c) i]
      ((try simp only [at2, rg, fgX, fgM, CQF, and_false, false_and, and_true, true_and, or_false, false_or, or_true, true_or, if_false, if_true, not_false_eq_true, not_true_eq_false])  <;> (repeat' split)) <;> first | rfl | (exfalso; omega)
    have F2 : ∀ (c : Nat) (i : Int), ¬ ((c = 608 ∧ i = u) ∨ (c = 555 ∧ (i = 114 ∨ i = 115 ∨ i = 133 ∨ i = 134 ∨ i = 135))) → σ2.I c i = σ1.I c i := by
      intro c i q
      rw [congrFun (congrFun g.2.2 c) i]
      ((try simp only [at2, rg, fgX, fgM, CQF, and_false, false_and, and_true, true_and, or_false, false_or, or_true, true_or, if_false, if_true, not_false_eq_true, not_true_eq_false])  <;> (repeat' split)) <;> first | rfl | (exfalso; omega)
    have F : ∀ (c : Nat) (i : Int), ¬ ((c = 215 + 15 * u ∧ i = 1) ∨ (c = 0 ∧ (i = 70 ∨ i = 71 ∨ i = 59 ∨ i = 75 ∨ i = 79))) → ¬ ((c = 608 ∧ i = u) ∨ (c = 555 ∧ (i = 114 ∨ i = 115 ∨ i = 133 ∨ i = 134 ∨ i = 135))) → σ2.I c i = σ.I c i := fun c i a b => (F2 c i b).trans (F1 c i a)
    have hR : σ2.R = σ.R := g.2.1.1.trans p.2.1.1
    have hS : σ2.sh = σ.sh := g.2.1.2.1.trans p.2.1.2.1
    have hN : σ2.n = σ.n := g.2.1.2.2.trans p.2.1.2.2
    have A1 : σ2.I (215 + 15 * u) 1 = 0 := by
      rw [F2 (215 + 15 * u) 1 (by omega), congrFun (congrFun p.2.2 (215 + 15 * u)) 1]
      ((try simp only [at2, rg, fgX, fgM, CQF, and_false, false_and, and_true, true_and, or_false, false_or, or_true, true_or, if_false, if_true, not_false_eq_true, not_true_eq_false])  <;> (repeat' split)) <;> first | rfl | omega
    have B1 : σ2.I 608 u = 0 := by
      rw [congrFun (congrFun g.2.2 608) u]
      ((try simp only [at2, rg, fgX, fgM, CQF, and_false, false_and, and_true, true_and, or_false, false_or, or_true, true_or, if_false, if_true, not_false_eq_true, not_true_eq_false])  <;> (repeat' split)) <;> first | rfl | omega
    have G70 : σ2.I 0 70 = 0 := by
      rw [F2 0 70 (by omega), congrFun (congrFun p.2.2 0) 70]
      ((try simp only [at2, rg, fgX, fgM, CQF, and_false, false_and, and_true, true_and, or_false, false_or, or_true, true_or, if_false, if_true, not_false_eq_true, not_true_eq_false])  <;> (repeat' split)) <;> first | rfl | omega
    have G71 : σ2.I 0 71 = 0 := by
      rw [F2 0 71 (by omega), congrFun (congrFun p.2.2 0) 71]
      ((try simp only [at2, rg, fgX, fgM, CQF, and_false, false_and, and_true, true_and, or_false, false_or, or_true, true_or, if_false, if_true, not_false_eq_true, not_true_eq_false])  <;> (repeat' split)) <;> first | rfl | omega
    have G59 : σ2.I 0 59 = 0 := by
      rw [F2 0 59 (by omega), congrFun (congrFun p.2.2 0) 59]
      ((try simp only [at2, rg, fgX, fgM, CQF, and_false, false_and, and_true, true_and, or_false, false_or, or_true, true_or, if_false, if_true, not_false_eq_true, not_true_eq_false])  <;> (repeat' split)) <;> first | rfl | omega
    have G75 : σ2.I 0 75 = 0 := by
      rw [F2 0 75 (by omega), congrFun (congrFun p.2.2 0) 75]
      ((try simp only [at2, rg, fgX, fgM, CQF, and_false, false_and, and_true, true_and, or_false, false_or, or_true, true_or, if_false, if_true, not_false_eq_true, not_true_eq_false])  <;> (repeat' split)) <;> first | rfl | omega
    have G79 : σ2.I 0 79 = 0 := by
      rw [F2 0 79 (by omega), congrFun (congrFun p.2.2 0) 79]
      ((try simp only [at2, rg, fgX, fgM, CQF, and_false, false_and, and_true, true_and, or_false, false_or, or_true, true_or, if_false, if_true, not_false_eq_true, not_true_eq_false])  <;> (repeat' split)) <;> first | rfl | omega
    have G114 : σ2.I 555 114 = 0 := by
      rw [congrFun (congrFun g.2.2 555) 114]
      ((try simp only [at2, rg, fgX, fgM, CQF, and_false, false_and, and_true, true_and, or_false, false_or, or_true, true_or, if_false, if_true, not_false_eq_true, not_true_eq_false])  <;> (repeat' split)) <;> first | rfl | omega
    have G115 : σ2.I 555 115 = 0 := by
      rw [congrFun (congrFun g.2.2 555) 115]
      ((try simp only [at2, rg, fgX, fgM, CQF, and_false, false_and, and_true, true_and, or_false, false_or, or_true, true_or, if_false, if_true, not_false_eq_true, not_true_eq_false])  <;> (repeat' split)) <;> first | rfl | omega
    have G133 : σ2.I 555 133 = 0 := by
      rw [congrFun (congrFun g.2.2 555) 133]
      ((try simp only [at2, rg, fgX, fgM, CQF, and_false, false_and, and_true, true_and, or_false, false_or, or_true, true_or, if_false, if_true, not_false_eq_true, not_true_eq_false])  <;> (repeat' split)) <;> first | rfl | omega
    have G134 : σ2.I 555 134 = 0 := by
      rw [congrFun (congrFun g.2.2 555) 134]
      ((try simp only [at2, rg, fgX, fgM, CQF, and_false, false_and, and_true, true_and, or_false, false_or, or_true, true_or, if_false, if_true, not_false_eq_true, not_true_eq_false])  <;> (repeat' split)) <;> first | rfl | omega
    have G135 : σ2.I 555 135 = 0 := by
      rw [congrFun (congrFun g.2.2 555) 135]
      ((try simp only [at2, rg, fgX, fgM, CQF, and_false, false_and, and_true, true_and, or_false, false_or, or_true, true_or, if_false, if_true, not_false_eq_true, not_true_eq_false])  <;> (repeat' split)) <;> first | rfl | omega
    refine ⟨by
      rw [g.1, p.1, if_neg nn, if_neg nn, F1 608 u (by omega), Int.toNat_natCast]
      have z := hq.2.2 u (by omega) (by omega)
      rcases z.1 with q | q
      · rw [q, if_neg (fun y => by have := z.2.2.1.mpr y; omega)]
      · rw [q, if_pos (z.2.2.1.mp q)], r.Lay.sf (s1.tr s2), RK_cg hS hN (F 0 1 (by omega) (by omega)) (F 0 41 (by omega) (by omega)) (fun i => F 211 i (by omega) (by omega)) r.RK, ?_, ?_, ?_, ?_, ?_, ?_, ?_, ?_, ?_, ?_, ?_, ?_, ?_, ?_, ?_, ?_, ?_, ?_, ?_, ?_, ?_, ?_, ?_, ?_, ?_⟩
    · exact rTP_cg (fun c i h => F c i (by unfold fTP at h; omega) (by unfold fTP at h; omega)) r.TP
    · exact rFL_cg (fun c i h => F c i (by unfold fFL at h; omega) (by unfold fFL at h; omega)) r.FL
    · exact rVS_cg (fun c i h => F c i (by unfold fVS at h; omega) (by unfold fVS at h; omega)) r.VS
    · exact rOB_cg (fun c i h => F c i (by unfold fOB at h; omega) (by unfold fOB at h; omega)) r.OB
    · exact rVA_cg (fun c i h => F c i (by unfold fVA at h; omega) (by unfold fVA at h; omega)) r.VA
    · exact rBD_cg (fun c i h => F c i (by unfold fBD at h; omega) (by unfold fBD at h; omega)) r.BD
    · exact rTE_cg (fun c i h => F c i (by unfold fTE at h; omega) (by unfold fTE at h; omega)) r.TE
    · exact rPK_cg (fun c i h => F c i (by unfold fPK at h; omega) (by unfold fPK at h; omega)) r.PK
    · exact rUS_cg (fun c i h => F c i (by unfold fUS at h; omega) (by unfold fUS at h; omega)) r.US
    · exact rFO_cg (fun c i h => F c i (by unfold fFO at h; omega) (by unfold fFO at h; omega)) r.FO
    · exact rSH_cg (fun c i h => F c i (by unfold fSH at h; omega) (by unfold fSH at h; omega)) r.SH
    · exact rSW_cg (fun c i h => F c i (by unfold fSW at h; omega) (by unfold fSW at h; omega)) r.SW
    · exact HI_0 r G70 G71 G114 G115 (fun i => F 637 i (by omega) (by omega))
    · exact LN_0 G59 G133
    · exact MK_0 G75 G134
    · exact GRz_0 G79 G135
    · exact rTT_cg (fun c i h => F c i (by unfold fTT at h; omega) (by unfold fTT at h; omega)) r.TT
    · exact rMT_cg (fun c i h => F c i (by unfold fMT at h; omega) (by unfold fMT at h; omega)) r.MT
    · exact rSC_cg (fun c i h => F c i (by unfold fSC at h; omega) (by unfold fSC at h; omega)) r.SC
    · exact rQU_cg (fun c i h => F c i (by unfold fQU at h; omega) (by unfold fQU at h; omega)) r.QU
    · exact rKQ_cg (fun c i h => F c i (by unfold fKQ at h; omega) (by unfold fKQ at h; omega)) r.KQ
    · refine ⟨by rw [F 608 0 (by omega) (by omega)]; exact hq.1, by rw [F 215 1 (by omega) (by omega)]; exact hq.2.1, fun v h1 h2 => ?_⟩
      have z := hq.2.2 v h1 h2
      by_cases q : v = u
      · subst q
        unfold hqU
        rw [A1, B1]
        exact ⟨Or.inl rfl, by omega, by omega, fun y => by omega⟩
      · unfold hqU at z ⊢
        rw [F (215 + 15 * v) 1 (by omega) (by omega), F 608 v (by omega) (by omega)]
        refine ⟨z.1, z.2.1, z.2.2.1, fun y => ?_⟩
        refine (QT_cg (fun c i h1 h2 => F c i (by omega) (by omega))).mpr ?_
        have y2 := z.2.2.2 y
        unfold eQ at y2 ⊢
        rw [show σ2.I 607 = σ.I 607 from funext fun i => F 607 i (by omega) (by omega), show σ2.I 577 = σ.I 577 from funext fun i => F 577 i (by omega) (by omega), F 555 27 (by omega) (by omega)]
        exact y2
    · exact rPP_cg (fun c i h => F c i (by unfold fPP at h; omega) (by unfold fPP at h; omega)) (by rw [hR]) (by rw [hR]) r.PP
    · exact rAN_cg (fun c i h => F c i (by unfold fAN at h; omega) (by unfold fAN at h; omega)) hR hS hN r.AN
    · exact rSE_cg r.SE
  · refine OPI.mk (sp_X0_unhide (by omega) r.Lay h1) (fun y σ1 p s1 => by
        exact sp_X9_unhide (by omega) (r.Lay.sf s1) h1) ?_
    intro y σ1 z σ2 p s1 g s2
    have F1 : ∀ (c : Nat) (i : Int), ¬ (c = 0 ∧ c = 1) → σ1.I c i = σ.I c i := by
      intro c i q
      rw [congrFun (congrFun p.2.2 c) i]
      ((try simp only [at2, rg, fgX, fgM, CQF, and_false, false_and, and_true, true_and, or_false, false_or, or_true, true_or, if_false, if_true, not_false_eq_true, not_true_eq_false])  <;> (repeat' split)) <;> first | rfl | (exfalso; omega)
    have F2 : ∀ (c : Nat) (i : Int), ¬ (c = 0 ∧ c = 1) → σ2.I c i = σ1.I c i := by
      intro c i q
      rw [congrFun (congrFun g.2.2 c) i]
      ((try simp only [at2, rg, fgX, fgM, CQF, and_false, false_and, and_true, true_and, or_false, false_or, or_true, true_or, if_false, if_true, not_false_eq_true, not_true_eq_false])  <;> (repeat' split)) <;> first | rfl | (exfalso; omega)
    have F : ∀ (c : Nat) (i : Int), ¬ (c = 0 ∧ c = 1) → ¬ (c = 0 ∧ c = 1) → σ2.I c i = σ.I c i := fun c i a b => (F2 c i b).trans (F1 c i a)
    have hR : σ2.R = σ.R := g.2.1.1.trans p.2.1.1
    have hS : σ2.sh = σ.sh := g.2.1.2.1.trans p.2.1.2.1
    have hN : σ2.n = σ.n := g.2.1.2.2.trans p.2.1.2.2
    refine ⟨by rw [g.1, p.1, if_pos w, if_pos w], r.Lay.sf (s1.tr s2), RK_cg hS hN (F 0 1 (by omega) (by omega)) (F 0 41 (by omega) (by omega)) (fun i => F 211 i (by omega) (by omega)) r.RK, ?_, ?_, ?_, ?_, ?_, ?_, ?_, ?_, ?_, ?_, ?_, ?_, ?_, ?_, ?_, ?_, ?_, ?_, ?_, ?_, ?_, ?_, ?_, ?_, ?_⟩
    · exact rTP_cg (fun c i h => F c i (by unfold fTP at h; omega) (by unfold fTP at h; omega)) r.TP
    · exact rFL_cg (fun c i h => F c i (by unfold fFL at h; omega) (by unfold fFL at h; omega)) r.FL
    · exact rVS_cg (fun c i h => F c i (by unfold fVS at h; omega) (by unfold fVS at h; omega)) r.VS
    · exact rOB_cg (fun c i h => F c i (by unfold fOB at h; omega) (by unfold fOB at h; omega)) r.OB
    · exact rVA_cg (fun c i h => F c i (by unfold fVA at h; omega) (by unfold fVA at h; omega)) r.VA
    · exact rBD_cg (fun c i h => F c i (by unfold fBD at h; omega) (by unfold fBD at h; omega)) r.BD
    · exact rTE_cg (fun c i h => F c i (by unfold fTE at h; omega) (by unfold fTE at h; omega)) r.TE
    · exact rPK_cg (fun c i h => F c i (by unfold fPK at h; omega) (by unfold fPK at h; omega)) r.PK
    · exact rUS_cg (fun c i h => F c i (by unfold fUS at h; omega) (by unfold fUS at h; omega)) r.US
    · exact rFO_cg (fun c i h => F c i (by unfold fFO at h; omega) (by unfold fFO at h; omega)) r.FO
    · exact rSH_cg (fun c i h => F c i (by unfold fSH at h; omega) (by unfold fSH at h; omega)) r.SH
    · exact rSW_cg (fun c i h => F c i (by unfold fSW at h; omega) (by unfold fSW at h; omega)) r.SW
    · exact rHI_cg (fun c i h => F c i (by unfold fHI at h; omega) (by unfold fHI at h; omega)) r.HI
    · exact rLN_cg (fun c i h => F c i (by unfold fLN at h; omega) (by unfold fLN at h; omega)) r.LN
    · exact rMK_cg (fun c i h => F c i (by unfold fMK at h; omega) (by unfold fMK at h; omega)) r.MK
    · exact rGR_cg (fun c i h => F c i (by unfold fGR at h; omega) (by unfold fGR at h; omega)) r.GR
    · exact rTT_cg (fun c i h => F c i (by unfold fTT at h; omega) (by unfold fTT at h; omega)) r.TT
    · exact rMT_cg (fun c i h => F c i (by unfold fMT at h; omega) (by unfold fMT at h; omega)) r.MT
    · exact rSC_cg (fun c i h => F c i (by unfold fSC at h; omega) (by unfold fSC at h; omega)) r.SC
    · exact rQU_cg (fun c i h => F c i (by unfold fQU at h; omega) (by unfold fQU at h; omega)) r.QU
    · exact rKQ_cg (fun c i h => F c i (by unfold fKQ at h; omega) (by unfold fKQ at h; omega)) r.KQ
    · exact rHQ_cg (fun c i h => F c i (by unfold fHQ at h; omega) (by unfold fHQ at h; omega)) r.HQ
    · exact rPP_cg (fun c i h => F c i (by unfold fPP at h; omega) (by unfold fPP at h; omega)) (by rw [hR]) (by rw [hR]) r.PP
    · exact rAN_cg (fun c i h => F c i (by unfold fAN at h; omega) (by unfold fAN at h; omega)) hR hS hN r.AN
    · exact rSE_cg r.SE

theorem bt_new {B f x y : Int} (hx : 0 ≤ x ∧ x < 12) (hy : 0 ≤ y ∧ y ≤ 1) (hf : 0 ≤ f ∧ f < 12) : bt32 (b32or (b32and B (b32xor (b32shl 1 x) (-1))) (b32shl y x)) f ↔ (if f = x then y = 1 else bt32 B f) := by
  rw [bt32_or, bt32_and, bt32_not _ _ (by omega), bt32_1 (by omega) (by omega)]
  have h0 : y = 0 ∨ y = 1 := by omega
  have z : b32shl 0 x = 0 := by
    have h : ∀ n : Nat, n < 12 → b32shl 0 (n : Int) = 0 := by decide
    have := h x.toNat (by omega)
    rwa [show ((x.toNat : Nat) : Int) = x by omega] at this
  by_cases q : f = x
  · rw [if_pos q]
    rcases h0 with rfl | rfl
    · rw [z]
      exact ⟨fun h => h.elim (fun h => absurd q h.2) (fun h => absurd h (bt32_0 f)), fun h => absurd h (by omega)⟩
    · rw [bt32_1 (by omega) (by omega)]
      exact ⟨fun _ => rfl, fun _ => Or.inr q⟩
  · rw [if_neg q]
    rcases h0 with rfl | rfl
    · rw [z]
      exact ⟨fun h => h.elim (fun h => h.1) (fun h => absurd h (bt32_0 f)), fun h => Or.inl ⟨h, q⟩⟩
    · rw [bt32_1 (by omega) (by omega)]
      exact ⟨fun h => h.elim (fun h => h.1) (fun h => absurd h q), fun h => Or.inl ⟨h, q⟩⟩

theorem op_blind (hd : 30 ≤ d) : OP_blind E d RR := by
  intro k σ hk r x1 x2 x3 h1 h2 h3
  have fl := r.FL
  have fl1 := fl.1
  have us := r.US
  by_cases w : 1 ≤ x1 ∧ x1 ≤ 3 ∧ 0 ≤ x2 ∧ x2 < σ.I 0 9 ∧ 0 ≤ x3 ∧ x3 ≤ 1
  · refine OPI.mk (sp_X0_blind (by omega) r.Lay h1 h2 h3 fl.1.2) (fun y σ1 p s1 => by
        have e555_27 : σ1.I 555 27 = σ.I 555 27 := by
          rw [congrFun (congrFun p.2.2.2 555) 27]
          ((try simp only [at2, rg, fgX, fgM, CQF, and_false, false_and, and_true, true_and, or_false, false_or, or_true, true_or, if_false, if_true, not_false_eq_true, not_true_eq_false])  <;> (repeat' split)) <;> first | rfl | omega
        exact sp_X9_blind (by omega) (r.Lay.sf s1) h1 h2 h3 (by rw [e555_27, ← fl.1.1]; exact fl.1.2)) ?_
    intro y σ1 z σ2 p s1 g s2
    have S27 : σ1.I 555 27 = σ.I 0 9 := by
      rw [fl.1.1, congrFun (congrFun p.2.2.2 555) 27]
      ((try simp only [at2, rg, fgX, fgM, CQF, and_false, false_and, and_true, true_and, or_false, false_or, or_true, true_or, if_false, if_true, not_false_eq_true, not_true_eq_false])  <;> (repeat' split)) <;> first | rfl | omega
    rw [S27] at g
    have F1 : ∀ (c : Nat) (i : Int), ¬ ((c = 215 + 15 * x1.toNat ∧ i = 2) ∨ (c = 0 ∧ (i = 70 ∨ i = 71 ∨ i = 59 ∨ i = 75 ∨ i = 79))) → σ1.I c i = σ.I c i := by
      intro c i q
      rw [congrFun (congrFun p.2.2.2 c) i]
      ((try simp only [at2, rg, fgX, fgM, CQF, and_false, false_and, and_true, true_and, or_false, false_or, or_true, true_or, if_false, if_true, not_false_eq_true, not_true_eq_false])  <;> (repeat' split)) <;> first | rfl | (exfalso; omega)
    have F2 : ∀ (c : Nat) (i : Int), ¬ ((c = 600 ∧ i = 12 * x1 + x2) ∨ (c = 555 ∧ (i = 114 ∨ i = 115 ∨ i = 133 ∨ i = 134 ∨ i = 135))) → σ2.I c i = σ1.I c i := by
      intro c i q
      rw [congrFun (congrFun g.2.2 c) i]
      ((try simp only [at2, rg, fgX, fgM, CQF, and_false, false_and, and_true, true_and, or_false, false_or, or_true, true_or, if_false, if_true, not_false_eq_true, not_true_eq_false])  <;> (repeat' split)) <;> first | rfl | (exfalso; omega)
    have F : ∀ (c : Nat) (i : Int), ¬ ((c = 215 + 15 * x1.toNat ∧ i = 2) ∨ (c = 0 ∧ (i = 70 ∨ i = 71 ∨ i = 59 ∨ i = 75 ∨ i = 79))) → ¬ ((c = 600 ∧ i = 12 * x1 + x2) ∨ (c = 555 ∧ (i = 114 ∨ i = 115 ∨ i = 133 ∨ i = 134 ∨ i = 135))) → σ2.I c i = σ.I c i := fun c i a b => (F2 c i b).trans (F1 c i a)
    have hR : σ2.R = σ.R := g.2.1.1.trans p.2.2.1.1
    have hS : σ2.sh = σ.sh := g.2.1.2.1.trans p.2.2.1.2.1
    have hN : σ2.n = σ.n := g.2.1.2.2.trans p.2.2.1.2.2
    have A2 : σ2.I (215 + 15 * x1.toNat) 2 = b32or (b32and (σ.I (215 + 15 * x1.toNat) 2) (b32xor (b32shl 1 x2) (-1))) (b32shl x3 x2) := by
      rw [F2 (215 + 15 * x1.toNat) 2 (by omega), congrFun (congrFun p.2.2.2 (215 + 15 * x1.toNat)) 2]
      ((try simp only [at2, rg, fgX, fgM, CQF, and_false, false_and, and_true, true_and, or_false, false_or, or_true, true_or, if_false, if_true, not_false_eq_true, not_true_eq_false])  <;> (repeat' split)) <;> first | rfl | omega
    have B2 : σ2.I 600 (12 * x1 + x2) = x3 := by
      rw [congrFun (congrFun g.2.2 600) (12 * x1 + x2)]
      ((try simp only [at2, rg, fgX, fgM, CQF, and_false, false_and, and_true, true_and, or_false, false_or, or_true, true_or, if_false, if_true, not_false_eq_true, not_true_eq_false])  <;> (repeat' split)) <;> first | rfl | omega
    have G70 : σ2.I 0 70 = 0 := by
      rw [F2 0 70 (by omega), congrFun (congrFun p.2.2.2 0) 70]
      ((try simp only [at2, rg, fgX, fgM, CQF, and_false, false_and, and_true, true_and, or_false, false_or, or_true, true_or, if_false, if_true, not_false_eq_true, not_true_eq_false])  <;> (repeat' split)) <;> first | rfl | omega
    have G71 : σ2.I 0 71 = 0 := by
      rw [F2 0 71 (by omega), congrFun (congrFun p.2.2.2 0) 71]
      ((try simp only [at2, rg, fgX, fgM, CQF, and_false, false_and, and_true, true_and, or_false, false_or, or_true, true_or, if_false, if_true, not_false_eq_true, not_true_eq_false])  <;> (repeat' split)) <;> first | rfl | omega
    have G59 : σ2.I 0 59 = 0 := by
      rw [F2 0 59 (by omega), congrFun (congrFun p.2.2.2 0) 59]
      ((try simp only [at2, rg, fgX, fgM, CQF, and_false, false_and, and_true, true_and, or_false, false_or, or_true, true_or, if_false, if_true, not_false_eq_true, not_true_eq_false])  <;> (repeat' split)) <;> first | rfl | omega
    have G75 : σ2.I 0 75 = 0 := by
      rw [F2 0 75 (by omega), congrFun (congrFun p.2.2.2 0) 75]
      ((try simp only [at2, rg, fgX, fgM, CQF, and_false, false_and, and_true, true_and, or_false, false_or, or_true, true_or, if_false, if_true, not_false_eq_true, not_true_eq_false])  <;> (repeat' split)) <;> first | rfl | omega
    have G79 : σ2.I 0 79 = 0 := by
      rw [F2 0 79 (by omega), congrFun (congrFun p.2.2.2 0) 79]
      ((try simp only [at2, rg, fgX, fgM, CQF, and_false, false_and, and_true, true_and, or_false, false_or, or_true, true_or, if_false, if_true, not_false_eq_true, not_true_eq_false])  <;> (repeat' split)) <;> first | rfl | omega
    have G114 : σ2.I 555 114 = 0 := by
      rw [congrFun (congrFun g.2.2 555) 114]
      ((try simp only [at2, rg, fgX, fgM, CQF, and_false, false_and, and_true, true_and, or_false, false_or, or_true, true_or, if_false, if_true, not_false_eq_true, not_true_eq_false])  <;> (repeat' split)) <;> first | rfl | omega
    have G115 : σ2.I 555 115 = 0 := by
      rw [congrFun (congrFun g.2.2 555) 115]
      ((try simp only [at2, rg, fgX, fgM, CQF, and_false, false_and, and_true, true_and, or_false, false_or, or_true, true_or, if_false, if_true, not_false_eq_true, not_true_eq_false])  <;> (repeat' split)) <;> first | rfl | omega
    have G133 : σ2.I 555 133 = 0 := by
      rw [congrFun (congrFun g.2.2 555) 133]
      ((try simp only [at2, rg, fgX, fgM, CQF, and_false, false_and, and_true, true_and, or_false, false_or, or_true, true_or, if_false, if_true, not_false_eq_true, not_true_eq_false])  <;> (repeat' split)) <;> first | rfl | omega
    have G134 : σ2.I 555 134 = 0 := by
      rw [congrFun (congrFun g.2.2 555) 134]
      ((try simp only [at2, rg, fgX, fgM, CQF, and_false, false_and, and_true, true_and, or_false, false_or, or_true, true_or, if_false, if_true, not_false_eq_true, not_true_eq_false])  <;> (repeat' split)) <;> first | rfl | omega
    have G135 : σ2.I 555 135 = 0 := by
      rw [congrFun (congrFun g.2.2 555) 135]
      ((try simp only [at2, rg, fgX, fgM, CQF, and_false, false_and, and_true, true_and, or_false, false_or, or_true, true_or, if_false, if_true, not_false_eq_true, not_true_eq_false])  <;> (repeat' split)) <;> first | rfl | omega
    refine ⟨by
      have z := us.2 x2 w.2.2.1 (by omega)
      have y1 := p.2.1 w
      rw [g.1, if_neg (show ¬ ¬ (1 ≤ x1 ∧ x1 ≤ 3 ∧ 0 ≤ x2 ∧ x2 < σ.I 0 9 ∧ 0 ≤ x3 ∧ x3 ≤ 1) from fun q => q w), F1 600 (12 * x1 + x2) (by omega)]
      have key : (σ.I 600 (12 * x1 + x2) = 0 ∨ σ.I 600 (12 * x1 + x2) = 1) ∧ (bt32 (σ.I (215 + 15 * x1.toNat) 2) x2 ↔ σ.I 600 (12 * x1 + x2) = 1) := by
        have : x1 = 1 ∨ x1 = 2 ∨ x1 = 3 := by omega
        rcases this with rfl | rfl | rfl
        · exact z.1
        · exact z.2.1
        · exact z.2.2
      rw [key.2] at y1
      by_cases q : σ.I 600 (12 * x1 + x2) = x3
      · rw [if_pos q]
        exact (y1.2.mpr (by rw [q])).symm
      · rw [if_neg q]
        have : y ≠ 0 := fun h => q (by have := y1.2.mp h; omega)
        omega, r.Lay.sf (s1.tr s2), RK_cg hS hN (F 0 1 (by omega) (by omega)) (F 0 41 (by omega) (by omega)) (fun i => F 211 i (by omega) (by omega)) r.RK, ?_, ?_, ?_, ?_, ?_, ?_, ?_, ?_, ?_, ?_, ?_, ?_, ?_, ?_, ?_, ?_, ?_, ?_, ?_, ?_, ?_, ?_, ?_, ?_, ?_⟩
    · exact rTP_cg (fun c i h => F c i (by unfold fTP at h; omega) (by unfold fTP at h; omega)) r.TP
    · exact rFL_cg (fun c i h => F c i (by unfold fFL at h; omega) (by unfold fFL at h; omega)) r.FL
    · exact rVS_cg (fun c i h => F c i (by unfold fVS at h; omega) (by unfold fVS at h; omega)) r.VS
    · exact rOB_cg (fun c i h => F c i (by unfold fOB at h; omega) (by unfold fOB at h; omega)) r.OB
    · exact rVA_cg (fun c i h => F c i (by unfold fVA at h; omega) (by unfold fVA at h; omega)) r.VA
    · exact rBD_cg (fun c i h => F c i (by unfold fBD at h; omega) (by unfold fBD at h; omega)) r.BD
    · exact rTE_cg (fun c i h => F c i (by unfold fTE at h; omega) (by unfold fTE at h; omega)) r.TE
    · exact rPK_cg (fun c i h => F c i (by unfold fPK at h; omega) (by unfold fPK at h; omega)) r.PK
    · refine ⟨by rw [F 0 46 (by omega) (by omega), F 555 61 (by omega) (by omega)]; exact us.1, fun f h0 h1 => ?_⟩
      have z := us.2 f h0 h1
      have b := bt_new (B := σ.I (215 + 15 * x1.toNat) 2) (f := f) (x := x2) (y := x3) (by omega) (by omega) ⟨h0, h1⟩
      have key : ∀ u : Nat, 1 ≤ u → u < 4 → ((σ.I 600 (12 * (u : Int) + f) = 0 ∨ σ.I 600 (12 * (u : Int) + f) = 1) ∧ (bt32 (σ.I (215 + 15 * u) 2) f ↔ σ.I 600 (12 * (u : Int) + f) = 1)) → (σ2.I 600 (12 * (u : Int) + f) = 0 ∨ σ2.I 600 (12 * (u : Int) + f) = 1) ∧ (bt32 (σ2.I (215 + 15 * u) 2) f ↔ σ2.I 600 (12 * (u : Int) + f) = 1) := by
        intro u hu1 hu2 zz
        by_cases q : x1 = (u : Int)
        · have qn : x1.toNat = u := by omega
          rw [qn] at b A2
          rw [A2, b]
          by_cases q2 : f = x2
          · rw [if_pos q2, q2, show 12 * (u : Int) + x2 = 12 * x1 + x2 by omega, B2]
            exact ⟨by omega, Iff.rfl⟩
          · rw [if_neg q2, F 600 (12 * (u : Int) + f) (by omega) (by omega)]
            exact zz
        · rw [F 600 (12 * (u : Int) + f) (by omega) (by omega), F (215 + 15 * u) 2 (by omega) (by omega)]
          exact zz
      exact ⟨key 1 (by omega) (by omega) z.1, key 2 (by omega) (by omega) z.2.1, key 3 (by omega) (by omega) z.2.2⟩
    · exact rFO_cg (fun c i h => F c i (by unfold fFO at h; omega) (by unfold fFO at h; omega)) r.FO
    · exact rSH_cg (fun c i h => F c i (by unfold fSH at h; omega) (by unfold fSH at h; omega)) r.SH
    · exact rSW_cg (fun c i h => F c i (by unfold fSW at h; omega) (by unfold fSW at h; omega)) r.SW
    · exact HI_0 r G70 G71 G114 G115 (fun i => F 637 i (by omega) (by omega))
    · exact LN_0 G59 G133
    · exact MK_0 G75 G134
    · exact GRz_0 G79 G135
    · exact rTT_cg (fun c i h => F c i (by unfold fTT at h; omega) (by unfold fTT at h; omega)) r.TT
    · exact rMT_cg (fun c i h => F c i (by unfold fMT at h; omega) (by unfold fMT at h; omega)) r.MT
    · exact rSC_cg (fun c i h => F c i (by unfold fSC at h; omega) (by unfold fSC at h; omega)) r.SC
    · exact rQU_cg (fun c i h => F c i (by unfold fQU at h; omega) (by unfold fQU at h; omega)) r.QU
    · exact rKQ_cg (fun c i h => F c i (by unfold fKQ at h; omega) (by unfold fKQ at h; omega)) r.KQ
    · exact rHQ_cg (fun c i h => F c i (by unfold fHQ at h; omega) (by unfold fHQ at h; omega)) r.HQ
    · exact rPP_cg (fun c i h => F c i (by unfold fPP at h; omega) (by unfold fPP at h; omega)) (by rw [hR]) (by rw [hR]) r.PP
    · exact rAN_cg (fun c i h => F c i (by unfold fAN at h; omega) (by unfold fAN at h; omega)) hR hS hN r.AN
    · exact rSE_cg r.SE
  · refine OPI.mk (sp_X0_blind (by omega) r.Lay h1 h2 h3 fl.1.2) (fun y σ1 p s1 => by
        have e555_27 : σ1.I 555 27 = σ.I 555 27 := by
          rw [congrFun (congrFun p.2.2.2 555) 27]
          ((try simp only [at2, rg, fgX, fgM, CQF, and_false, false_and, and_true, true_and, or_false, false_or, or_true, true_or, if_false, if_true, not_false_eq_true, not_true_eq_false])  <;> (repeat' split)) <;> first | rfl | omega
        exact sp_X9_blind (by omega) (r.Lay.sf s1) h1 h2 h3 (by rw [e555_27, ← fl.1.1]; exact fl.1.2)) ?_
    intro y σ1 z σ2 p s1 g s2
    have S27 : σ1.I 555 27 = σ.I 0 9 := by
      rw [fl.1.1, congrFun (congrFun p.2.2.2 555) 27]
      ((try simp only [at2, rg, fgX, fgM, CQF, and_false, false_and, and_true, true_and, or_false, false_or, or_true, true_or, if_false, if_true, not_false_eq_true, not_true_eq_false])  <;> (repeat' split)) <;> first | rfl | omega
    rw [S27] at g
    have F1 : ∀ (c : Nat) (i : Int), ¬ (c = 0 ∧ c = 1) → σ1.I c i = σ.I c i := by
      intro c i q
      rw [congrFun (congrFun p.2.2.2 c) i]
      ((try simp only [at2, rg, fgX, fgM, CQF, and_false, false_and, and_true, true_and, or_false, false_or, or_true, true_or, if_false, if_true, not_false_eq_true, not_true_eq_false])  <;> (repeat' split)) <;> first | rfl | (exfalso; omega)
    have F2 : ∀ (c : Nat) (i : Int), ¬ (c = 0 ∧ c = 1) → σ2.I c i = σ1.I c i := by
      intro c i q
      rw [congrFun (congrFun g.2.2 c) i]
      ((try simp only [at2, rg, fgX, fgM, CQF, and_false, false_and, and_true, true_and, or_false, false_or, or_true, true_or, if_false, if_true, not_false_eq_true, not_true_eq_false])  <;> (repeat' split)) <;> first | rfl | (exfalso; omega)
    have F : ∀ (c : Nat) (i : Int), ¬ (c = 0 ∧ c = 1) → ¬ (c = 0 ∧ c = 1) → σ2.I c i = σ.I c i := fun c i a b => (F2 c i b).trans (F1 c i a)
    have hR : σ2.R = σ.R := g.2.1.1.trans p.2.2.1.1
    have hS : σ2.sh = σ.sh := g.2.1.2.1.trans p.2.2.1.2.1
    have hN : σ2.n = σ.n := g.2.1.2.2.trans p.2.2.1.2.2
    refine ⟨by rw [g.1, p.1 w, if_pos w], r.Lay.sf (s1.tr s2), RK_cg hS hN (F 0 1 (by omega) (by omega)) (F 0 41 (by omega) (by omega)) (fun i => F 211 i (by omega) (by omega)) r.RK, ?_, ?_, ?_, ?_, ?_, ?_, ?_, ?_, ?_, ?_, ?_, ?_, ?_, ?_, ?_, ?_, ?_, ?_, ?_, ?_, ?_, ?_, ?_, ?_, ?_⟩
    · exact rTP_cg (fun c i h => F c i (by unfold fTP at h; omega) (by unfold fTP at h; omega)) r.TP
    · exact rFL_cg (fun c i h => F c i (by unfold fFL at h; omega) (by unfold fFL at h; omega)) r.FL
    · exact rVS_cg (fun c i h => F c i (by unfold fVS at h; omega) (by unfold fVS at h; omega)) r.VS
    · exact rOB_cg (fun c i h => F c i (by unfold fOB at h; omega) (by unfold fOB at h; omega)) r.OB
    · exact rVA_cg (fun c i h => F c i (by unfold fVA at h; omega) (by unfold fVA at h; omega)) r.VA
    · exact rBD_cg (fun c i h => F c i (by unfold fBD at h; omega) (by unfold fBD at h; omega)) r.BD
    · exact rTE_cg (fun c i h => F c i (by unfold fTE at h; omega) (by unfold fTE at h; omega)) r.TE
    · exact rPK_cg (fun c i h => F c i (by unfold fPK at h; omega) (by unfold fPK at h; omega)) r.PK
    · exact rUS_cg (fun c i h => F c i (by unfold fUS at h; omega) (by unfold fUS at h; omega)) r.US
    · exact rFO_cg (fun c i h => F c i (by unfold fFO at h; omega) (by unfold fFO at h; omega)) r.FO
    · exact rSH_cg (fun c i h => F c i (by unfold fSH at h; omega) (by unfold fSH at h; omega)) r.SH
    · exact rSW_cg (fun c i h => F c i (by unfold fSW at h; omega) (by unfold fSW at h; omega)) r.SW
    · exact rHI_cg (fun c i h => F c i (by unfold fHI at h; omega) (by unfold fHI at h; omega)) r.HI
    · exact rLN_cg (fun c i h => F c i (by unfold fLN at h; omega) (by unfold fLN at h; omega)) r.LN
    · exact rMK_cg (fun c i h => F c i (by unfold fMK at h; omega) (by unfold fMK at h; omega)) r.MK
    · exact rGR_cg (fun c i h => F c i (by unfold fGR at h; omega) (by unfold fGR at h; omega)) r.GR
    · exact rTT_cg (fun c i h => F c i (by unfold fTT at h; omega) (by unfold fTT at h; omega)) r.TT
    · exact rMT_cg (fun c i h => F c i (by unfold fMT at h; omega) (by unfold fMT at h; omega)) r.MT
    · exact rSC_cg (fun c i h => F c i (by unfold fSC at h; omega) (by unfold fSC at h; omega)) r.SC
    · exact rQU_cg (fun c i h => F c i (by unfold fQU at h; omega) (by unfold fQU at h; omega)) r.QU
    · exact rKQ_cg (fun c i h => F c i (by unfold fKQ at h; omega) (by unfold fKQ at h; omega)) r.KQ
    · exact rHQ_cg (fun c i h => F c i (by unfold fHQ at h; omega) (by unfold fHQ at h; omega)) r.HQ
    · exact rPP_cg (fun c i h => F c i (by unfold fPP at h; omega) (by unfold fPP at h; omega)) (by rw [hR]) (by rw [hR]) r.PP
    · exact rAN_cg (fun c i h => F c i (by unfold fAN at h; omega) (by unfold fAN at h; omega)) hR hS hN r.AN
    · exact rSE_cg r.SE
end OPB

