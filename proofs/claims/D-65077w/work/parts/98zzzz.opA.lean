/-! contracts: printed by tools/mk.py out of s98zzzz_opA.py -/
set_option maxRecDepth 100000
set_option maxHeartbeats 800000
/-! operations that change little -/
theorem RK_cg {k : Nat} {σ τ : Sto} (h1 : τ.sh = σ.sh) (h2 : τ.n = σ.n) (h3 : τ.I 0 1 = σ.I 0 1) (h4 : τ.I 0 41 = σ.I 0 41) (h5 : ∀ i, τ.I 211 i = σ.I 211 i) (r : rRK k σ) : rRK (k + 1) τ := by
  obtain ⟨b1, b2, b3, b4, b5⟩ := r
  refine ⟨by rw [h2]; omega, by rw [ssum_eq h2 h1]; omega, by rw [h3]; omega, by rw [h4]; omega, fun i h0 h1 => ?_⟩
  rw [h5]
  have := b5 i h0 h1
  omega
theorem RK_c1 {k : Nat} {σ τ : Sto} (h1 : τ.sh = σ.sh) (h2 : τ.n = σ.n) (h3 : τ.I 0 1 ≤ 20 * (k : Int) + 20) (h4 : τ.I 0 41 ≤ (k : Int) + 1) (h5 : ∀ i, 0 ≤ i → i < 8 → τ.I 211 i ≤ 8 * (k : Int) + 8) (r : rRK k σ) : rRK (k + 1) τ := by
  obtain ⟨b1, b2, b3, b4, b5⟩ := r
  refine ⟨by rw [h2]; omega, by rw [ssum_eq h2 h1]; omega, by omega, by omega, fun i h0 h1 => ?_⟩
  have := h5 i h0 h1
  omega
/-- nothing of hits is told any more -/
theorem HI_0 {k : Nat} {σ τ : Sto} (r : RR k σ) (h1 : τ.I 0 70 = 0) (h2 : τ.I 0 71 = 0) (h3 : τ.I 555 114 = 0) (h4 : τ.I 555 115 = 0) (h5 : ∀ i, τ.I 637 i = σ.I 637 i) : rHI τ := by
  have b := r.HI.2.2.2.2.2.2
  refine ⟨by rw [h1, h4]; exact ⟨rfl, by omega, by omega⟩, fun i h0 h => by omega, fun i j h0 h h' => by omega, Or.inl h2, by rw [h2, h3], fun h => by omega, fun i h0 h => ?_⟩
  rw [h5]
  exact b i h0 h
theorem LN_0 {τ : Sto} (h1 : τ.I 0 59 = 0) (h2 : τ.I 555 133 = 0) : rLN τ := ⟨by rw [h1, h2]; omega, fun i h0 h => by omega⟩
theorem MK_0 {τ : Sto} (h1 : τ.I 0 75 = 0) (h2 : τ.I 555 134 = 0) : rMK τ := ⟨by rw [h1, h2]; omega, fun i h0 h => by omega⟩
theorem GRz_0 {τ : Sto} (h1 : τ.I 0 79 = 0) (h2 : τ.I 555 135 = 0) : rGR τ := ⟨by rw [h1, h2]; omega, fun h => by omega, fun i h0 h => by omega⟩
/-- the greatest version grows -/
theorem OB_up {σ τ : Sto} (r : rOB σ) (h : ∀ c i, (42 ≤ c ∧ c ≤ 47) ∨ (591 ≤ c ∧ c ≤ 596) → τ.I c i = σ.I c i) (h1 : τ.I 0 39 = σ.I 0 39) (h2 : τ.I 555 52 = σ.I 555 52) (h3 : σ.I 0 41 ≤ τ.I 0 41) : rOB τ := by
  obtain ⟨r1, r2, r3, r4, r5, r6⟩ := r
  refine ⟨by rw [h1, h2]; exact r1, fun o h0 hh => ?_, fun k h0 hh => ?_, fun o h0 hh => ?_, fun o h0 hh => ?_, fun o h0 hh => ?_⟩
  · rw [h1] at hh
    have z := r2 o h0 hh
    rw [h 47 o (by omega), h 594 o (by omega)]
    refine ⟨z.1, z.2.1, fun q => ?_⟩
    have w := z.2.2 q
    unfold hOb at w ⊢
    rw [h 44 o (by omega), h 591 o (by omega), h 45 o (by omega), h 592 o (by omega), h 46 o (by omega), h 593 o (by omega), h 42 o (by omega), h 595 o (by omega), h 43 o (by omega), h 596 o (by omega), h 47 _ (by omega), h 45 _ (by omega), h 46 _ (by omega)]
    exact ⟨w.1, ⟨w.2.1.1, by have := w.2.1.2.1; omega, w.2.1.2.2⟩, by have := w.2.2.1; omega, w.2.2.2⟩
  · rw [h1] at hh
    rw [h 44 k (by omega)]
    exact r3 k h0 hh
  · rw [h 42 o (by omega), h 43 o (by omega)]
    exact r4 o h0 hh
  · rw [h 595 o (by omega), h 596 o (by omega)]
    exact r5 o h0 hh
  · rw [h 591 o (by omega)]
    exact r6 o h0 hh
section OPA
variable {E : XE} {d : Nat}

theorem op_feed (hd : 30 ≤ d) : OP_feed E d RR := by
  intro k σ hk r x1 x2 x3 x4 x5 h1 h2 h3 h4 h5
  have tp := r.TP
  have tp1 := tp.1
  have rk := r.RK
  have k1 := rk.2.2.1
  have k2 := rk.2.2.2.1
  have room : σ.I 0 1 + 20 ≤ 30000 := by omega
  refine OPI.mk (sp_X0_feed (by omega) r.Lay ⟨tp.1.2, by omega⟩) (fun y σ1 p s1 => by
      have e555_2 : σ1.I 555 2 = σ.I 555 2 := by
        rw [congrFun (congrFun p.2.2 555) 2]
        ((try simp only [at2, rg, fgX, fgM, CQF, and_false, false_and, and_true, true_and, or_false, false_or, or_true, true_or, if_false, if_true, not_false_eq_true, not_true_eq_false])  <;> (repeat' split)) <;> first | rfl | omega
      exact sp_X9_feed (by omega) (r.Lay.sf s1) (by rw [e555_2, ← tp.1.1]; omega)) ?_
  intro y σ1 z σ2 p s1 g s2
  have F1 : ∀ (c : Nat) (i : Int), ¬ (c = 1 ∨ (c = 0 ∧ i = 1)) → σ1.I c i = σ.I c i := by
    intro c i q
    rw [congrFun (congrFun p.2.2 c) i]
    ((try simp only [at2, rg, fgX, fgM, CQF, and_false, false_and, and_true, true_and, or_false, false_or, or_true, true_or, if_false, if_true, not_false_eq_true, not_true_eq_false])  <;> (repeat' split)) <;> first | rfl | (exfalso; omega)
  have F2 : ∀ (c : Nat) (i : Int), ¬ (c = 557 ∨ (c = 555 ∧ i = 2)) → σ2.I c i = σ1.I c i := by
    intro c i q
    rw [congrFun (congrFun g.2.2 c) i]
    ((try simp only [at2, rg, fgX, fgM, CQF, and_false, false_and, and_true, true_and, or_false, false_or, or_true, true_or, if_false, if_true, not_false_eq_true, not_true_eq_false])  <;> (repeat' split)) <;> first | rfl | (exfalso; omega)
  have F : ∀ (c : Nat) (i : Int), ¬ (c = 1 ∨ (c = 0 ∧ i = 1)) → ¬ (c = 557 ∨ (c = 555 ∧ i = 2)) → σ2.I c i = σ.I c i := fun c i a b => (F2 c i b).trans (F1 c i a)
  have hR : σ2.R = σ.R := g.2.1.1.trans p.2.1.1
  have hS : σ2.sh = σ.sh := g.2.1.2.1.trans p.2.1.2.1
  have hN : σ2.n = σ.n := g.2.1.2.2.trans p.2.1.2.2
  have S2 : σ1.I 555 2 = σ.I 0 1 := by rw [F1 555 2 (by omega), tp.1.1]
  have A1 : σ2.I 0 1 = σ.I 0 1 + 20 := by
    rw [F2 0 1 (by omega), congrFun (congrFun p.2.2 0) 1]
    ((try simp only [at2, rg, fgX, fgM, CQF, and_false, false_and, and_true, true_and, or_false, false_or, or_true, true_or, if_false, if_true, not_false_eq_true, not_true_eq_false])  <;> (repeat' split)) <;> first | rfl | omega
  have B1 : σ2.I 555 2 = σ.I 0 1 + 20 := by
    rw [congrFun (congrFun g.2.2 555) 2, S2]
    ((try simp only [at2, rg, fgX, fgM, CQF, and_false, false_and, and_true, true_and, or_false, false_or, or_true, true_or, if_false, if_true, not_false_eq_true, not_true_eq_false])  <;> (repeat' split)) <;> first | rfl | omega
  refine ⟨by rw [g.1, p.1, S2], r.Lay.sf (s1.tr s2), RK_c1 hS hN (by omega) (by rw [F 0 41 (by omega) (by omega)]; omega) (fun i h0 h1 => by rw [F 211 i (by omega) (by omega)]; have := rk.2.2.2.2 i h0 h1; omega) rk, ?_, ?_, ?_, ?_, ?_, ?_, ?_, ?_, ?_, ?_, ?_, ?_, ?_, ?_, ?_, ?_, ?_, ?_, ?_, ?_, ?_, ?_, ?_, ?_, ?_⟩
  · refine ⟨⟨?_, ?_⟩, fun i h0 h1 => ?_⟩
    · rw [A1, B1]
    · rw [A1]; omega
    · rw [F2 1 i (by omega), congrFun (congrFun p.2.2 1) i, congrFun (congrFun g.2.2 557) i, S2, F1 557 i (by omega)]
      by_cases w : σ.I 0 1 ≤ i ∧ i < σ.I 0 1 + 20
      · rw [if_pos ⟨room, rfl, w⟩, if_pos ⟨room, rfl, w⟩]
      · rw [if_neg (fun z => w z.2.2), if_neg (fun z => absurd z.2.1 (by decide)), if_neg (fun z => w z.2.2), if_neg (fun z => absurd z.2.1 (by decide))]
        exact tp.2 i h0 h1
  · exact rFL_cg (fun c i h => F c i (by unfold fFL at h; omega) (by unfold fFL at h; omega)) r.FL
  · exact rVS_cg (fun c i h => F c i (by unfold fVS at h; omega) (by unfold fVS at h; omega)) r.VS
  · exact rOB_cg (fun c i h => F c i (by unfold fOB at h; omega) (by unfold fOB at h; omega)) r.OB
  · exact rVA_cg (fun c i h => F c i (by unfold fVA at h; omega) (by unfold fVA at h; omega)) r.VA
  · exact rBD_cg (fun c i h => F c i (by unfold fBD at h; omega) (by unfold fBD at h; omega)) r.BD
  · exact rTE_cg (fun c i h => F c i (by unfold fTE at h; omega) (by unfold fTE at h; omega)) r.TE
  · exact rPK_cg (fun c i h => F c i (by unfold fPK at h; omega) (by unfold fPK at h; omega)) r.PK
  · exact rUS_cg (fun c i h => F c i (by unfold fUS at h; omega) (by unfold fUS at h; omega)) r.US
  · exact rFO_cg (fun c i h => F c i (by unfold fFO at h; omega) (by unfold fFO at h; omega)) r.FO
  · exact rSH_cg (fun c i h => F c i (by unfold fSH at h; omega) (by unfold fSH at h; omega)) r.SH
  · exact rSW_cg (fun c i h => F c i (by unfold fSW at h; omega) (by unfold fSW at h; omega)) r.SW
  · exact rHI_cg (fun c i h => F c i (by unfold fHI at h; omega) (by unfold fHI at h; omega)) r.HI
  · exact rLN_cg (fun c i h => F c i (by unfold fLN at h; omega) (by unfold fLN at h; omega)) r.LN
  · exact rMK_cg (fun c i h => F c i (by unfold fMK at h; omega) (by unfold fMK at h; omega)) r.MK
  · exact rGR_cg (fun c i h => F c i (by unfold fGR at h; omega) (by unfold fGR at h; omega)) r.GR
  · exact rTT_cg (fun c i h => F c i (by unfold fTT at h; omega) (by unfold fTT at h; omega)) r.TT
  · exact rMT_cg (fun c i h => F c i (by unfold fMT at h; omega) (by unfold fMT at h; omega)) r.MT
  · exact rSC_cg (fun c i h => F c i (by unfold fSC at h; omega) (by unfold fSC at h; omega)) r.SC
  · exact rQU_cg (fun c i h => F c i (by unfold fQU at h; omega) (by unfold fQU at h; omega)) r.QU
  · exact rKQ_cg (fun c i h => F c i (by unfold fKQ at h; omega) (by unfold fKQ at h; omega)) r.KQ
  · exact rHQ_cg (fun c i h => F c i (by unfold fHQ at h; omega) (by unfold fHQ at h; omega)) r.HQ
  · exact rPP_cg (fun c i h => F c i (by unfold fPP at h; omega) (by unfold fPP at h; omega)) (by rw [hR]) (by rw [hR]) r.PP
  · exact rAN_cg (fun c i h => F c i (by unfold fAN at h; omega) (by unfold fAN at h; omega)) hR hS hN r.AN
  · exact rSE_cg r.SE

theorem op_cut (hd : 30 ≤ d) : OP_cut E d RR := by
  intro k σ hk r x1 h1
  have tp := r.TP
  have tp1 := tp.1
  have rk := r.RK
  have k1 := rk.2.2.1
  have k2 := rk.2.2.2.1
  by_cases w : 0 ≤ x1 ∧ x1 ≤ σ.I 0 1
  · refine OPI.mk (sp_X0_cut (by omega) r.Lay h1 tp.1.2) (fun y σ1 p s1 => by
        exact sp_X9_cut (by omega) (r.Lay.sf s1) h1 (by rw [(p.1 w).2, I_ne σ 1 2 _ (by decide)]; omega)) ?_
    intro y σ1 z σ2 p s1 g s2
    replace p := p.1 w
    have S2 : σ1.I 555 2 = σ.I 0 1 := by
      rw [p.2, tp.1.1, I_ne σ 1 2 _ (by decide)]
    replace g := g.1 (by rw [S2]; exact w)
    have F1 : ∀ (c : Nat) (i : Int), ¬ (c = 0 ∧ i = 1) → σ1.I c i = σ.I c i := by
      intro c i q
      rw [p.2, I_wI]
      exact if_neg q
    have F2 : ∀ (c : Nat) (i : Int), ¬ (c = 555 ∧ i = 2) → σ2.I c i = σ1.I c i := by
      intro c i q
      rw [g.2, I_wI]
      exact if_neg q
    have F : ∀ (c : Nat) (i : Int), ¬ (c = 0 ∧ i = 1) → ¬ (c = 555 ∧ i = 2) → σ2.I c i = σ.I c i := fun c i a b => (F2 c i b).trans (F1 c i a)
    have hR : σ2.R = σ.R := by rw [g.2, p.2]; rfl
    have hS : σ2.sh = σ.sh := by rw [g.2, p.2]; rfl
    have hN : σ2.n = σ.n := by rw [g.2, p.2]; rfl
    have A1 : σ2.I 0 1 = σ.I 0 1 - x1 := by
      rw [F2 0 1 (by omega), p.2, I_same]
    have B1 : σ2.I 555 2 = σ.I 0 1 - x1 := by
      rw [g.2, I_same, S2]
    refine ⟨by rw [g.1, p.1, S2], r.Lay.sf (s1.tr s2), RK_c1 hS hN (by omega) (by rw [F 0 41 (by omega) (by omega)]; omega) (fun i h0 h1 => by rw [F 211 i (by omega) (by omega)]; have := rk.2.2.2.2 i h0 h1; omega) rk, ?_, ?_, ?_, ?_, ?_, ?_, ?_, ?_, ?_, ?_, ?_, ?_, ?_, ?_, ?_, ?_, ?_, ?_, ?_, ?_, ?_, ?_, ?_, ?_, ?_⟩
    · refine ⟨⟨?_, ?_⟩, fun i h0 h1 => ?_⟩
      · rw [A1, B1]
      · rw [A1]; omega
      · rw [F 1 i (by omega) (by omega), F 557 i (by omega) (by omega)]
        exact tp.2 i h0 h1
    · exact rFL_cg (fun c i h => F c i (by unfold fFL at h; omega) (by unfold fFL at h; omega)) r.FL
    · exact rVS_cg (fun c i h => F c i (by unfold fVS at h; omega) (by unfold fVS at h; omega)) r.VS
    · exact rOB_cg (fun c i h => F c i (by unfold fOB at h; omega) (by unfold fOB at h; omega)) r.OB
    · exact rVA_cg (fun c i h => F c i (by unfold fVA at h; omega) (by unfold fVA at h; omega)) r.VA
    · exact rBD_cg (fun c i h => F c i (by unfold fBD at h; omega) (by unfold fBD at h; omega)) r.BD
    · exact rTE_cg (fun c i h => F c i (by unfold fTE at h; omega) (by unfold fTE at h; omega)) r.TE
    · exact rPK_cg (fun c i h => F c i (by unfold fPK at h; omega) (by unfold fPK at h; omega)) r.PK
    · exact rUS_cg (fun c i h => F c i (by unfold fUS at h; omega) (by unfold fUS at h; omega)) r.US
    · exact rFO_cg (fun c i h => F c i (by unfold fFO at h; omega) (by unfold fFO at h; omega)) r.FO
    · exact rSH_cg (fun c i h => F c i (by unfold fSH at h; omega) (by unfold fSH at h; omega)) r.SH
    · exact rSW_cg (fun c i h => F c i (by unfold fSW at h; omega) (by unfold fSW at h; omega)) r.SW
    · exact rHI_cg (fun c i h => F c i (by unfold fHI at h; omega) (by unfold fHI at h; omega)) r.HI
    · exact rLN_cg (fun c i h => F c i (by unfold fLN at h; omega) (by unfold fLN at h; omega)) r.LN
    · exact rMK_cg (fun c i h => F c i (by unfold fMK at h; omega) (by unfold fMK at h; omega)) r.MK
    · exact rGR_cg (fun c i h => F c i (by unfold fGR at h; omega) (by unfold fGR at h; omega)) r.GR
    · exact rTT_cg (fun c i h => F c i (by unfold fTT at h; omega) (by unfold fTT at h; omega)) r.TT
    · exact rMT_cg (fun c i h => F c i (by unfold fMT at h; omega) (by unfold fMT at h; omega)) r.MT
    · exact rSC_cg (fun c i h => F c i (by unfold fSC at h; omega) (by unfold fSC at h; omega)) r.SC
    · exact rQU_cg (fun c i h => F c i (by unfold fQU at h; omega) (by unfold fQU at h; omega)) r.QU
    · exact rKQ_cg (fun c i h => F c i (by unfold fKQ at h; omega) (by unfold fKQ at h; omega)) r.KQ
    · exact rHQ_cg (fun c i h => F c i (by unfold fHQ at h; omega) (by unfold fHQ at h; omega)) r.HQ
    · exact rPP_cg (fun c i h => F c i (by unfold fPP at h; omega) (by unfold fPP at h; omega)) (by rw [hR]) (by rw [hR]) r.PP
    · exact rAN_cg (fun c i h => F c i (by unfold fAN at h; omega) (by unfold fAN at h; omega)) hR hS hN r.AN
    · exact rSE_cg r.SE
  · refine OPI.mk (sp_X0_cut (by omega) r.Lay h1 tp.1.2) (fun y σ1 p s1 => by
        exact sp_X9_cut (by omega) (r.Lay.sf s1) h1 (by rw [(p.2 w).2]; omega)) ?_
    intro y σ1 z σ2 p s1 g s2
    replace p := p.2 w
    have S2 : σ1.I 555 2 = σ.I 0 1 := by rw [p.2, tp.1.1]
    replace g := g.2 (by rw [S2]; exact w)
    have F1 : ∀ (c : Nat) (i : Int), ¬ (c = 0 ∧ c = 1) → σ1.I c i = σ.I c i := by
      intro c i q
      rw [p.2]
    have F2 : ∀ (c : Nat) (i : Int), ¬ (c = 0 ∧ c = 1) → σ2.I c i = σ1.I c i := by
      intro c i q
      rw [g.2]
    have F : ∀ (c : Nat) (i : Int), ¬ (c = 0 ∧ c = 1) → ¬ (c = 0 ∧ c = 1) → σ2.I c i = σ.I c i := fun c i a b => (F2 c i b).trans (F1 c i a)
    have hR : σ2.R = σ.R := by rw [g.2, p.2]
    have hS : σ2.sh = σ.sh := by rw [g.2, p.2]
    have hN : σ2.n = σ.n := by rw [g.2, p.2]
    refine ⟨by rw [g.1, p.1], r.Lay.sf (s1.tr s2), RK_cg hS hN (F 0 1 (by omega) (by omega)) (F 0 41 (by omega) (by omega)) (fun i => F 211 i (by omega) (by omega)) r.RK, ?_, ?_, ?_, ?_, ?_, ?_, ?_, ?_, ?_, ?_, ?_, ?_, ?_, ?_, ?_, ?_, ?_, ?_, ?_, ?_, ?_, ?_, ?_, ?_, ?_⟩
    · exact rTP_cg (fun c i h => F c i (by unfold fTP at h; omega) (by unfold fTP at h; omega)) r.TP
    · exact rFL_cg (fun c i h => F c i (by unfold fFL at h; omega) (by unfold fFL at h; omega)) r.FL
    · exact rVS_cg (fun c i h => F c i (by unfold fVS at h; omega) (by unfold fVS at h; omega)) r.VS
    · exact rOB_cg (fun c i h => F c i (by unfold fOB at h; omega) (by unfold fOB at h; omega)) r.OB
    · exact rVA_cg (fun c i h => F c i (by unfold fVA at h; omega) (by unfold fVA at h; omega)) r.VA
    · exact rBD_cg (fun c i h => F c i (by unfold fBD at h; omega) (by unfold fBD at h; omega)) r.BD
    · exact rTE_cg (fun c i h => F c i (by unfold fTE at h; omega) (by unfold fTE at h; omega)) r.TE
    · exact rPK_cg (fun c i h => F c i (by unfold fPK at h; omega) (by unfold fPK at h; omega)) r.PK
    · exact rUS_cg (fun c i h => F c i (by unfold fUS at h; omega) (by unfold fUS at h; omega)) r.US
    · exact rFO_cg (fun c i h => F c i (by unfold fFO at h; omega) (by unfold fFO at h; omega)) r.FO
    · exact rSH_cg (fun c i h => F c i (by unfold fSH at h; omega) (by unfold fSH at h; omega)) r.SH
    · exact rSW_cg (fun c i h => F c i (by unfold fSW at h; omega) (by unfold fSW at h; omega)) r.SW
    · exact rHI_cg (fun c i h => F c i (by unfold fHI at h; omega) (by unfold fHI at h; omega)) r.HI
    · exact rLN_cg (fun c i h => F c i (by unfold fLN at h; omega) (by unfold fLN at h; omega)) r.LN
    · exact rMK_cg (fun c i h => F c i (by unfold fMK at h; omega) (by unfold fMK at h; omega)) r.MK
    · exact rGR_cg (fun c i h => F c i (by unfold fGR at h; omega) (by unfold fGR at h; omega)) r.GR
    · exact rTT_cg (fun c i h => F c i (by unfold fTT at h; omega) (by unfold fTT at h; omega)) r.TT
    · exact rMT_cg (fun c i h => F c i (by unfold fMT at h; omega) (by unfold fMT at h; omega)) r.MT
    · exact rSC_cg (fun c i h => F c i (by unfold fSC at h; omega) (by unfold fSC at h; omega)) r.SC
    · exact rQU_cg (fun c i h => F c i (by unfold fQU at h; omega) (by unfold fQU at h; omega)) r.QU
    · exact rKQ_cg (fun c i h => F c i (by unfold fKQ at h; omega) (by unfold fKQ at h; omega)) r.KQ
    · exact rHQ_cg (fun c i h => F c i (by unfold fHQ at h; omega) (by unfold fHQ at h; omega)) r.HQ
    · exact rPP_cg (fun c i h => F c i (by unfold fPP at h; omega) (by unfold fPP at h; omega)) (by rw [hR]) (by rw [hR]) r.PP
    · exact rAN_cg (fun c i h => F c i (by unfold fAN at h; omega) (by unfold fAN at h; omega)) hR hS hN r.AN
    · exact rSE_cg r.SE

theorem op_refresh (hd : 30 ≤ d) : OP_refresh E d RR := by
  intro k σ hk r
  have vs := r.VS
  have vs1 := vs.1
  have vs2 := vs.2.1
  have rk := r.RK
  have k1 := rk.2.2.1
  have k2 := rk.2.2.2.1
  refine OPI.mk (sp_X0_refresh (by omega) r.Lay ⟨by omega, by omega⟩) (fun y σ1 p s1 => by
      have e555_54 : σ1.I 555 54 = σ.I 555 54 := by
        rw [congrFun (congrFun p.2.2 555) 54]
        ((try simp only [at2, rg, fgX, fgM, CQF, and_false, false_and, and_true, true_and, or_false, false_or, or_true, true_or, if_false, if_true, not_false_eq_true, not_true_eq_false])  <;> (repeat' split)) <;> first | rfl | omega
      exact sp_X9_refresh (by omega) (r.Lay.sf s1) (by rw [e555_54, ← vs.1.2.1]; omega)) ?_
  intro y σ1 z σ2 p s1 g s2
  have F1 : ∀ (c : Nat) (i : Int), ¬ ((c = 0 ∧ (i = 40 ∨ i = 41)) ∨ (c = 0 ∧ (i = 70 ∨ i = 71 ∨ i = 59 ∨ i = 75 ∨ i = 79))) → σ1.I c i = σ.I c i := by
    intro c i q
    rw [congrFun (congrFun p.2.2 c) i]
    ((try simp only [at2, rg, fgX, fgM, CQF, and_false, false_and, and_true, true_and, or_false, false_or, or_true, true_or, if_false, if_true, not_false_eq_true, not_true_eq_false])  <;> (repeat' split)) <;> first | rfl | (exfalso; omega)
  have F2 : ∀ (c : Nat) (i : Int), ¬ ((c = 555 ∧ (i = 53 ∨ i = 54)) ∨ (c = 555 ∧ (i = 114 ∨ i = 115 ∨ i = 133 ∨ i = 134 ∨ i = 135))) → σ2.I c i = σ1.I c i := by
    intro c i q
    rw [congrFun (congrFun g.2.2 c) i]
    ((try simp only [at2, rg, fgX, fgM, CQF, and_false, false_and, and_true, true_and, or_false, false_or, or_true, true_or, if_false, if_true, not_false_eq_true, not_true_eq_false])  <;> (repeat' split)) <;> first | rfl | (exfalso; omega)
  have F : ∀ (c : Nat) (i : Int), ¬ ((c = 0 ∧ (i = 40 ∨ i = 41)) ∨ (c = 0 ∧ (i = 70 ∨ i = 71 ∨ i = 59 ∨ i = 75 ∨ i = 79))) → ¬ ((c = 555 ∧ (i = 53 ∨ i = 54)) ∨ (c = 555 ∧ (i = 114 ∨ i = 115 ∨ i = 133 ∨ i = 134 ∨ i = 135))) → σ2.I c i = σ.I c i := fun c i a b => (F2 c i b).trans (F1 c i a)
  have hR : σ2.R = σ.R := g.2.1.1.trans p.2.1.1
  have hS : σ2.sh = σ.sh := g.2.1.2.1.trans p.2.1.2.1
  have hN : σ2.n = σ.n := g.2.1.2.2.trans p.2.1.2.2
  have A41 : σ2.I 0 41 = σ.I 0 41 + 1 := by
    rw [F2 0 41 (by omega), congrFun (congrFun p.2.2 0) 41]
    ((try simp only [at2, rg, fgX, fgM, CQF, and_false, false_and, and_true, true_and, or_false, false_or, or_true, true_or, if_false, if_true, not_false_eq_true, not_true_eq_false])  <;> (repeat' split)) <;> first | rfl | omega
  have A40 : σ2.I 0 40 = σ.I 0 41 + 1 := by
    rw [F2 0 40 (by omega), congrFun (congrFun p.2.2 0) 40]
    ((try simp only [at2, rg, fgX, fgM, CQF, and_false, false_and, and_true, true_and, or_false, false_or, or_true, true_or, if_false, if_true, not_false_eq_true, not_true_eq_false])  <;> (repeat' split)) <;> first | rfl | omega
  have S54 : σ1.I 555 54 = σ.I 0 41 := by rw [F1 555 54 (by omega), vs.1.2.1]
  have B54 : σ2.I 555 54 = σ.I 0 41 + 1 := by
    rw [congrFun (congrFun g.2.2 555) 54, S54]
    ((try simp only [at2, rg, fgX, fgM, CQF, and_false, false_and, and_true, true_and, or_false, false_or, or_true, true_or, if_false, if_true, not_false_eq_true, not_true_eq_false])  <;> (repeat' split)) <;> first | rfl | omega
  have B53 : σ2.I 555 53 = σ.I 0 41 + 1 := by
    rw [congrFun (congrFun g.2.2 555) 53, S54]
    ((try simp only [at2, rg, fgX, fgM, CQF, and_false, false_and, and_true, true_and, or_false, false_or, or_true, true_or, if_false, if_true, not_false_eq_true, not_true_eq_false])  <;> (repeat' split)) <;> first | rfl | omega
  have A42 : σ2.I 0 42 = σ.I 0 42 := F 0 42 (by omega) (by omega)
  have B55 : σ2.I 555 55 = σ.I 0 42 := by rw [F 555 55 (by omega) (by omega), vs.1.2.2]
  have G70 : σ2.I 0 70 = 0 := by
    rw [F2 0 70 (by omega), congrFun (congrFun p.2.2 0) 70]
    ((try simp only [at2, rg, fgX, fgM, CQF, and_false, false_and, and_true, true_and, or_false, false_or, or_true, true_or, if_false, if_true, not_false_eq_true, not_true_eq_false])  <;> (repeat' split)) <;> first | rfl | omega
  have G71 : σ2.I 0 71 = 0 := by
    rw [F2 0 71 (by omega), congrFun (congrFun p.2.2 0) 71]
    ((try simp only [at2, rg, fgX, fgM, CQF, and_false, false_and, and_true, true_and, or_false, false_or, or_true, true_or, if_false, if_true, not_false_eq_true, not_true_eq_false])  <;> (repeat' split)) <;> first | rfl | omega
  have G59 : σ2.I 0 59 = 0 := by
    rw [F2 0 59 (by omega), congrFun (congrFun p.2.2 0) 59]
    ((try simp only [at2, rg, fgX, fgM, CQF, and_false, false_and, and_true, true_and, or_false, false_or, or_true, true_or, if_false, if_true, not_false_eq_true, not_true_eq_false])  <;> (repeat' split)) <;> first | rfl | omega
  have G75 : σ2.I 0 75 = 0 := by
    rw [F2 0 75 (by omega), congrFun (congrFun p.2.2 0) 75]
    ((try simp only [at2, rg, fgX, fgM, CQF, and_false, false_and, and_true, true_and, or_false, false_or, or_true, true_or, if_false, if_true, not_false_eq_true, not_true_eq_false])  <;> (repeat' split)) <;> first | rfl | omega
  have G79 : σ2.I 0 79 = 0 := by
    rw [F2 0 79 (by omega), congrFun (congrFun p.2.2 0) 79]
    ((try simp only [at2, rg, fgX, fgM, CQF, and_false, false_and, and_true, true_and, or_false, false_or, or_true, true_or, if_false, if_true, not_false_eq_true, not_true_eq_false])  <;> (repeat' split)) <;> first | rfl | omega
  have G114 : σ2.I 555 114 = 0 := by
    rw [congrFun (congrFun g.2.2 555) 114]
    ((try simp only [at2, rg, fgX, fgM, CQF, and_false, false_and, and_true, true_and, or_false, false_or, or_true, true_or, if_false, if_true, not_false_eq_true, not_true_eq_false])  <;> (repeat' split)) <;> first | rfl | omega
  have G115 : σ2.I 555 115 = 0 := by
    rw [congrFun (congrFun g.2.2 555) 115]
    ((try simp only [at2, rg, fgX, fgM, CQF, and_false, false_and, and_true, true_and, or_false, false_or, or_true, true_or, if_false, if_true, not_false_eq_true, not_true_eq_false])  <;> (repeat' split)) <;> first | rfl | omega
  have G133 : σ2.I 555 133 = 0 := by
    rw [congrFun (congrFun g.2.2 555) 133]
    ((try simp only [at2, rg, fgX, fgM, CQF, and_false, false_and, and_true, true_and, or_false, false_or, or_true, true_or, if_false, if_true, not_false_eq_true, not_true_eq_false])  <;> (repeat' split)) <;> first | rfl | omega
  have G134 : σ2.I 555 134 = 0 := by
    rw [congrFun (congrFun g.2.2 555) 134]
    ((try simp only [at2, rg, fgX, fgM, CQF, and_false, false_and, and_true, true_and, or_false, false_or, or_true, true_or, if_false, if_true, not_false_eq_true, not_true_eq_false])  <;> (repeat' split)) <;> first | rfl | omega
  have G135 : σ2.I 555 135 = 0 := by
    rw [congrFun (congrFun g.2.2 555) 135]
    ((try simp only [at2, rg, fgX, fgM, CQF, and_false, false_and, and_true, true_and, or_false, false_or, or_true, true_or, if_false, if_true, not_false_eq_true, not_true_eq_false])  <;> (repeat' split)) <;> first | rfl | omega
  refine ⟨by rw [g.1, p.1, S54], r.Lay.sf (s1.tr s2), RK_c1 hS hN (by rw [F 0 1 (by omega) (by omega)]; omega) (by omega) (fun i h0 h1 => by rw [F 211 i (by omega) (by omega)]; have := rk.2.2.2.2 i h0 h1; omega) rk, ?_, ?_, ?_, ?_, ?_, ?_, ?_, ?_, ?_, ?_, ?_, ?_, ?_, ?_, ?_, ?_, ?_, ?_, ?_, ?_, ?_, ?_, ?_, ?_, ?_⟩
  · exact rTP_cg (fun c i h => F c i (by unfold fTP at h; omega) (by unfold fTP at h; omega)) r.TP
  · exact rFL_cg (fun c i h => F c i (by unfold fFL at h; omega) (by unfold fFL at h; omega)) r.FL
  · refine ⟨⟨by rw [A40, B53], by rw [A41, B54], by rw [A42, B55]⟩, ?_, fun i h0 h1 => ?_⟩
    · rw [A40, A41, A42]; omega
    · rw [F 48 i (by omega) (by omega), F 597 i (by omega) (by omega), A41]
      have := vs.2.2 i h0 h1
      omega
  · exact OB_up r.OB (fun c i h => F c i (by omega) (by omega)) (F 0 39 (by omega) (by omega)) (F 555 52 (by omega) (by omega)) (by rw [A41]; omega)
  · exact rVA_cg (fun c i h => F c i (by unfold fVA at h; omega) (by unfold fVA at h; omega)) r.VA
  · exact rBD_cg (fun c i h => F c i (by unfold fBD at h; omega) (by unfold fBD at h; omega)) r.BD
  · exact rTE_cg (fun c i h => F c i (by unfold fTE at h; omega) (by unfold fTE at h; omega)) r.TE
  · exact rPK_cg (fun c i h => F c i (by unfold fPK at h; omega) (by unfold fPK at h; omega)) r.PK
  · exact rUS_cg (fun c i h => F c i (by unfold fUS at h; omega) (by unfold fUS at h; omega)) r.US
  · exact rFO_cg (fun c i h => F c i (by unfold fFO at h; omega) (by unfold fFO at h; omega)) r.FO
  · exact rSH_cg (fun c i h => F c i (by unfold fSH at h; omega) (by unfold fSH at h; omega)) r.SH
  · exact rSW_cg (fun c i h => F c i (by unfold fSW at h; omega) (by unfold fSW at h; omega)) r.SW
  · exact HI_0 r G70 G71 G114 G115 (fun i => F 637 i (by omega) (by omega))
  · exact LN_0 G59 G133
  · exact MK_0 G75 G134
  · exact GRz_0 G79 G135
  · exact rTT_cg (fun c i h => F c i (by unfold fTT at h; omega) (by unfold fTT at h; omega)) r.TT
  · exact rMT_cg (fun c i h => F c i (by unfold fMT at h; omega) (by unfold fMT at h; omega)) r.MT
  · exact rSC_cg (fun c i h => F c i (by unfold fSC at h; omega) (by unfold fSC at h; omega)) r.SC
  · exact rQU_cg (fun c i h => F c i (by unfold fQU at h; omega) (by unfold fQU at h; omega)) r.QU
  · exact rKQ_cg (fun c i h => F c i (by unfold fKQ at h; omega) (by unfold fKQ at h; omega)) r.KQ
  · exact rHQ_cg (fun c i h => F c i (by unfold fHQ at h; omega) (by unfold fHQ at h; omega)) r.HQ
  · exact rPP_cg (fun c i h => F c i (by unfold fPP at h; omega) (by unfold fPP at h; omega)) (by rw [hR]) (by rw [hR]) r.PP
  · exact rAN_cg (fun c i h => F c i (by unfold fAN at h; omega) (by unfold fAN at h; omega)) hR hS hN r.AN
  · exact rSE_cg r.SE

theorem op_commit (hd : 30 ≤ d) : OP_commit E d RR := by
  intro k σ hk r
  have vs := r.VS
  have vs1 := vs.1
  have vs2 := vs.2.1
  have rk := r.RK
  have k1 := rk.2.2.1
  have k2 := rk.2.2.2.1
  refine OPI.mk (sp_X0_commit (by omega) r.Lay ⟨by omega, by omega⟩) (fun y σ1 p s1 => by
      have e555_54 : σ1.I 555 54 = σ.I 555 54 := by
        rw [congrFun (congrFun p.2.2 555) 54]
        ((try simp only [at2, rg, fgX, fgM, CQF, and_false, false_and, and_true, true_and, or_false, false_or, or_true, true_or, if_false, if_true, not_false_eq_true, not_true_eq_false])  <;> (repeat' split)) <;> first | rfl | omega
      exact sp_X9_commit (by omega) (r.Lay.sf s1) (by rw [e555_54, ← vs.1.2.1]; omega)) ?_
  intro y σ1 z σ2 p s1 g s2
  have F1 : ∀ (c : Nat) (i : Int), ¬ ((c = 0 ∧ (i = 40 ∨ i = 41 ∨ i = 42)) ∨ (c = 0 ∧ (i = 70 ∨ i = 71 ∨ i = 59 ∨ i = 75 ∨ i = 79))) → σ1.I c i = σ.I c i := by
    intro c i q
    rw [congrFun (congrFun p.2.2 c) i]
    ((try simp only [at2, rg, fgX, fgM, CQF, and_false, false_and, and_true, true_and, or_false, false_or, or_true, true_or, if_false, if_true, not_false_eq_true, not_true_eq_false])  <;> (repeat' split)) <;> first | rfl | (exfalso; omega)
  have F2 : ∀ (c : Nat) (i : Int), ¬ ((c = 555 ∧ (i = 53 ∨ i = 54 ∨ i = 55)) ∨ (c = 555 ∧ (i = 114 ∨ i = 115 ∨ i = 133 ∨ i = 134 ∨ i = 135))) → σ2.I c i = σ1.I c i := by
    intro c i q
    rw [congrFun (congrFun g.2.2 c) i]
    ((try simp only [at2, rg, fgX, fgM, CQF, and_false, false_and, and_true, true_and, or_false, false_or, or_true, true_or, if_false, if_true, not_false_eq_true, not_true_eq_false])  <;> (repeat' split)) <;> first | rfl | (exfalso; omega)
  have F : ∀ (c : Nat) (i : Int), ¬ ((c = 0 ∧ (i = 40 ∨ i = 41 ∨ i = 42)) ∨ (c = 0 ∧ (i = 70 ∨ i = 71 ∨ i = 59 ∨ i = 75 ∨ i = 79))) → ¬ ((c = 555 ∧ (i = 53 ∨ i = 54 ∨ i = 55)) ∨ (c = 555 ∧ (i = 114 ∨ i = 115 ∨ i = 133 ∨ i = 134 ∨ i = 135))) → σ2.I c i = σ.I c i := fun c i a b => (F2 c i b).trans (F1 c i a)
  have hR : σ2.R = σ.R := g.2.1.1.trans p.2.1.1
  have hS : σ2.sh = σ.sh := g.2.1.2.1.trans p.2.1.2.1
  have hN : σ2.n = σ.n := g.2.1.2.2.trans p.2.1.2.2
  have A41 : σ2.I 0 41 = σ.I 0 41 + 1 := by
    rw [F2 0 41 (by omega), congrFun (congrFun p.2.2 0) 41]
    ((try simp only [at2, rg, fgX, fgM, CQF, and_false, false_and, and_true, true_and, or_false, false_or, or_true, true_or, if_false, if_true, not_false_eq_true, not_true_eq_false])  <;> (repeat' split)) <;> first | rfl | omega
  have A40 : σ2.I 0 40 = σ.I 0 41 + 1 := by
    rw [F2 0 40 (by omega), congrFun (congrFun p.2.2 0) 40]
    ((try simp only [at2, rg, fgX, fgM, CQF, and_false, false_and, and_true, true_and, or_false, false_or, or_true, true_or, if_false, if_true, not_false_eq_true, not_true_eq_false])  <;> (repeat' split)) <;> first | rfl | omega
  have S54 : σ1.I 555 54 = σ.I 0 41 := by rw [F1 555 54 (by omega), vs.1.2.1]
  have B54 : σ2.I 555 54 = σ.I 0 41 + 1 := by
    rw [congrFun (congrFun g.2.2 555) 54, S54]
    ((try simp only [at2, rg, fgX, fgM, CQF, and_false, false_and, and_true, true_and, or_false, false_or, or_true, true_or, if_false, if_true, not_false_eq_true, not_true_eq_false])  <;> (repeat' split)) <;> first | rfl | omega
  have B53 : σ2.I 555 53 = σ.I 0 41 + 1 := by
    rw [congrFun (congrFun g.2.2 555) 53, S54]
    ((try simp only [at2, rg, fgX, fgM, CQF, and_false, false_and, and_true, true_and, or_false, false_or, or_true, true_or, if_false, if_true, not_false_eq_true, not_true_eq_false])  <;> (repeat' split)) <;> first | rfl | omega
  have A42 : σ2.I 0 42 = σ.I 0 41 + 1 := by
    rw [F2 0 42 (by omega), congrFun (congrFun p.2.2 0) 42]
    ((try simp only [at2, rg, fgX, fgM, CQF, and_false, false_and, and_true, true_and, or_false, false_or, or_true, true_or, if_false, if_true, not_false_eq_true, not_true_eq_false])  <;> (repeat' split)) <;> first | rfl | omega
  have B55 : σ2.I 555 55 = σ.I 0 41 + 1 := by
    rw [congrFun (congrFun g.2.2 555) 55, S54]
    ((try simp only [at2, rg, fgX, fgM, CQF, and_false, false_and, and_true, true_and, or_false, false_or, or_true, true_or, if_false, if_true, not_false_eq_true, not_true_eq_false])  <;> (repeat' split)) <;> first | rfl | omega
  have G70 : σ2.I 0 70 = 0 := by
    rw [F2 0 70 (by omega), congrFun (congrFun p.2.2 0) 70]
    ((try simp only [at2, rg, fgX, fgM, CQF, and_false, false_and, and_true, true_and, or_false, false_or, or_true, true_or, if_false, if_true, not_false_eq_true, not_true_eq_false])  <;> (repeat' split)) <;> first | rfl | omega
  have G71 : σ2.I 0 71 = 0 := by
    rw [F2 0 71 (by omega), congrFun (congrFun p.2.2 0) 71]
    ((try simp only [at2, rg, fgX, fgM, CQF, and_false, false_and, and_true, true_and, or_false, false_or, or_true, true_or, if_false, if_true, not_false_eq_true, not_true_eq_false])  <;> (repeat' split)) <;> first | rfl | omega
  have G59 : σ2.I 0 59 = 0 := by
    rw [F2 0 59 (by omega), congrFun (congrFun p.2.2 0) 59]
    ((try simp only [at2, rg, fgX, fgM, CQF, and_false, false_and, and_true, true_and, or_false, false_or, or_true, true_or, if_false, if_true, not_false_eq_true, not_true_eq_false])  <;> (repeat' split)) <;> first | rfl | omega
  have G75 : σ2.I 0 75 = 0 := by
    rw [F2 0 75 (by omega), congrFun (congrFun p.2.2 0) 75]
    ((try simp only [at2, rg, fgX, fgM, CQF, and_false, false_and, and_true, true_and, or_false, false_or, or_true, true_or, if_false, if_true, not_false_eq_true, not_true_eq_false])  <;> (repeat' split)) <;> first | rfl | omega
  have G79 : σ2.I 0 79 = 0 := by
    rw [F2 0 79 (by omega), congrFun (congrFun p.2.2 0) 79]
    ((try simp only [at2, rg, fgX, fgM, CQF, and_false, false_and, and_true, true_and, or_false, false_or, or_true, true_or, if_false, if_true, not_false_eq_true, not_true_eq_false])  <;> (repeat' split)) <;> first | rfl | omega
  have G114 : σ2.I 555 114 = 0 := by
    rw [congrFun (congrFun g.2.2 555) 114]
    ((try simp only [at2, rg, fgX, fgM, CQF, and_false, false_and, and_true, true_and, or_false, false_or, or_true, true_or, if_false, if_true, not_false_eq_true, not_true_eq_false])  <;> (repeat' split)) <;> first | rfl | omega
  have G115 : σ2.I 555 115 = 0 := by
    rw [congrFun (congrFun g.2.2 555) 115]
    ((try simp only [at2, rg, fgX, fgM, CQF, and_false, false_and, and_true, true_and, or_false, false_or, or_true, true_or, if_false, if_true, not_false_eq_true, not_true_eq_false])  <;> (repeat' split)) <;> first | rfl | omega
  have G133 : σ2.I 555 133 = 0 := by
    rw [congrFun (congrFun g.2.2 555) 133]
    ((try simp only [at2, rg, fgX, fgM, CQF, and_false, false_and, and_true, true_and, or_false, false_or, or_true, true_or, if_false, if_true, not_false_eq_true, not_true_eq_false])  <;> (repeat' split)) <;> first | rfl | omega
  have G134 : σ2.I 555 134 = 0 := by
    rw [congrFun (congrFun g.2.2 555) 134]
    ((try simp only [at2, rg, fgX, fgM, CQF, and_false, false_and, and_true, true_and, or_false, false_or, or_true, true_or, if_false, if_true, not_false_eq_true, not_true_eq_false])  <;> (repeat' split)) <;> first | rfl | omega
  have G135 : σ2.I 555 135 = 0 := by
    rw [congrFun (congrFun g.2.2 555) 135]
    ((try simp only [at2, rg, fgX, fgM, CQF, and_false, false_and, and_true, true_and, or_false, false_or, or_true, true_or, if_false, if_true, not_false_eq_true, not_true_eq_false])  <;> (repeat' split)) <;> first | rfl | omega
  refine ⟨by rw [g.1, p.1, S54], r.Lay.sf (s1.tr s2), RK_c1 hS hN (by rw [F 0 1 (by omega) (by omega)]; omega) (by omega) (fun i h0 h1 => by rw [F 211 i (by omega) (by omega)]; have := rk.2.2.2.2 i h0 h1; omega) rk, ?_, ?_, ?_, ?_, ?_, ?_, ?_, ?_, ?_, ?_, ?_, ?_, ?_, ?_, ?_, ?_, ?_, ?_, ?_, ?_, ?_, ?_, ?_, ?_, ?_⟩
  · exact rTP_cg (fun c i h => F c i (by unfold fTP at h; omega) (by unfold fTP at h; omega)) r.TP
  · exact rFL_cg (fun c i h => F c i (by unfold fFL at h; omega) (by unfold fFL at h; omega)) r.FL
  · refine ⟨⟨by rw [A40, B53], by rw [A41, B54], by rw [A42, B55]⟩, ?_, fun i h0 h1 => ?_⟩
    · rw [A40, A41, A42]; omega
    · rw [F 48 i (by omega) (by omega), F 597 i (by omega) (by omega), A41]
      have := vs.2.2 i h0 h1
      omega
  · exact OB_up r.OB (fun c i h => F c i (by omega) (by omega)) (F 0 39 (by omega) (by omega)) (F 555 52 (by omega) (by omega)) (by rw [A41]; omega)
  · exact rVA_cg (fun c i h => F c i (by unfold fVA at h; omega) (by unfold fVA at h; omega)) r.VA
  · exact rBD_cg (fun c i h => F c i (by unfold fBD at h; omega) (by unfold fBD at h; omega)) r.BD
  · exact rTE_cg (fun c i h => F c i (by unfold fTE at h; omega) (by unfold fTE at h; omega)) r.TE
  · exact rPK_cg (fun c i h => F c i (by unfold fPK at h; omega) (by unfold fPK at h; omega)) r.PK
  · exact rUS_cg (fun c i h => F c i (by unfold fUS at h; omega) (by unfold fUS at h; omega)) r.US
  · exact rFO_cg (fun c i h => F c i (by unfold fFO at h; omega) (by unfold fFO at h; omega)) r.FO
  · exact rSH_cg (fun c i h => F c i (by unfold fSH at h; omega) (by unfold fSH at h; omega)) r.SH
  · exact rSW_cg (fun c i h => F c i (by unfold fSW at h; omega) (by unfold fSW at h; omega)) r.SW
  · exact HI_0 r G70 G71 G114 G115 (fun i => F 637 i (by omega) (by omega))
  · exact LN_0 G59 G133
  · exact MK_0 G75 G134
  · exact GRz_0 G79 G135
  · exact rTT_cg (fun c i h => F c i (by unfold fTT at h; omega) (by unfold fTT at h; omega)) r.TT
  · exact rMT_cg (fun c i h => F c i (by unfold fMT at h; omega) (by unfold fMT at h; omega)) r.MT
  · exact rSC_cg (fun c i h => F c i (by unfold fSC at h; omega) (by unfold fSC at h; omega)) r.SC
  · exact rQU_cg (fun c i h => F c i (by unfold fQU at h; omega) (by unfold fQU at h; omega)) r.QU
  · exact rKQ_cg (fun c i h => F c i (by unfold fKQ at h; omega) (by unfold fKQ at h; omega)) r.KQ
  · exact rHQ_cg (fun c i h => F c i (by unfold fHQ at h; omega) (by unfold fHQ at h; omega)) r.HQ
  · exact rPP_cg (fun c i h => F c i (by unfold fPP at h; omega) (by unfold fPP at h; omega)) (by rw [hR]) (by rw [hR]) r.PP
  · exact rAN_cg (fun c i h => F c i (by unfold fAN at h; omega) (by unfold fAN at h; omega)) hR hS hN r.AN
  · exact rSE_cg r.SE

theorem op_pin (hd : 30 ≤ d) : OP_pin E d RR := by
  intro k σ hk r
  have vs := r.VS
  have vs1 := vs.1
  have vs2 := vs.2.1
  have rk := r.RK
  have k1 := rk.2.2.1
  have k2 := rk.2.2.2.1
  have fe : fpin (σ.I 597) = fpin (σ.I 48) := by
    unfold fpin
    rw [← (vs.2.2 0 (by omega) (by omega)).1, ← (vs.2.2 1 (by omega) (by omega)).1, ← (vs.2.2 2 (by omega) (by omega)).1, ← (vs.2.2 3 (by omega) (by omega)).1]
  have f4 : 0 ≤ fpin (σ.I 48) ∧ fpin (σ.I 48) ≤ 4 := by
    unfold fpin
    (repeat' split) <;> omega
  refine OPI.mk (sp_X0_pin (by omega) r.Lay) (fun y σ1 p s1 => by
      exact sp_X9_pin (by omega) (r.Lay.sf s1)) ?_
  intro y σ1 z σ2 p s1 g s2
  have F1 : ∀ (c : Nat) (i : Int), ¬ (c = 48) → σ1.I c i = σ.I c i := by
    intro c i q
    rw [congrFun (congrFun p.2.2 c) i]
    ((try simp only [at2, rg, fgX, fgM, CQF, and_false, false_and, and_true, true_and, or_false, false_or, or_true, true_or, if_false, if_true, not_false_eq_true, not_true_eq_false])  <;> (repeat' split)) <;> first | rfl | (exfalso; omega)
  have F2 : ∀ (c : Nat) (i : Int), ¬ (c = 597) → σ2.I c i = σ1.I c i := by
    intro c i q
    rw [congrFun (congrFun g.2.2 c) i]
    ((try simp only [at2, rg, fgX, fgM, CQF, and_false, false_and, and_true, true_and, or_false, false_or, or_true, true_or, if_false, if_true, not_false_eq_true, not_true_eq_false])  <;> (repeat' split)) <;> first | rfl | (exfalso; omega)
  have F : ∀ (c : Nat) (i : Int), ¬ (c = 48) → ¬ (c = 597) → σ2.I c i = σ.I c i := fun c i a b => (F2 c i b).trans (F1 c i a)
  have hR : σ2.R = σ.R := g.2.1.1.trans p.2.1.1
  have hS : σ2.sh = σ.sh := g.2.1.2.1.trans p.2.1.2.1
  have hN : σ2.n = σ.n := g.2.1.2.2.trans p.2.1.2.2
  have S1 : fpin (σ1.I 597) = fpin (σ.I 48) := by
    rw [show σ1.I 597 = σ.I 597 from funext fun i => F1 597 i (by omega)]
    exact fe
  refine ⟨by rw [g.1, p.1, S1], r.Lay.sf (s1.tr s2), RK_cg hS hN (F 0 1 (by omega) (by omega)) (F 0 41 (by omega) (by omega)) (fun i => F 211 i (by omega) (by omega)) r.RK, ?_, ?_, ?_, ?_, ?_, ?_, ?_, ?_, ?_, ?_, ?_, ?_, ?_, ?_, ?_, ?_, ?_, ?_, ?_, ?_, ?_, ?_, ?_, ?_, ?_⟩
  · exact rTP_cg (fun c i h => F c i (by unfold fTP at h; omega) (by unfold fTP at h; omega)) r.TP
  · exact rFL_cg (fun c i h => F c i (by unfold fFL at h; omega) (by unfold fFL at h; omega)) r.FL
  · refine ⟨?_, ?_, fun i h0 h1 => ?_⟩
    · rw [F 0 40 (by omega) (by omega), F 0 41 (by omega) (by omega), F 0 42 (by omega) (by omega), F 555 53 (by omega) (by omega), F 555 54 (by omega) (by omega), F 555 55 (by omega) (by omega)]
      exact vs.1
    · rw [F 0 40 (by omega) (by omega), F 0 41 (by omega) (by omega), F 0 42 (by omega) (by omega)]
      exact vs.2.1
    · have z := vs.2.2 i h0 h1
      rw [F2 48 i (by omega), congrFun (congrFun p.2.2 48) i, congrFun (congrFun g.2.2 597) i, S1, F1 597 i (by omega), F1 555 53 (by omega), F 0 41 (by omega) (by omega)]
      simp only [at2, true_and]
      by_cases q : fpin (σ.I 48) < 4 ∧ i = fpin (σ.I 48)
      · rw [if_pos q, if_pos q]
        omega
      · rw [if_neg q, if_neg q]
        exact z
  · exact rOB_cg (fun c i h => F c i (by unfold fOB at h; omega) (by unfold fOB at h; omega)) r.OB
  · exact rVA_cg (fun c i h => F c i (by unfold fVA at h; omega) (by unfold fVA at h; omega)) r.VA
  · exact rBD_cg (fun c i h => F c i (by unfold fBD at h; omega) (by unfold fBD at h; omega)) r.BD
  · exact rTE_cg (fun c i h => F c i (by unfold fTE at h; omega) (by unfold fTE at h; omega)) r.TE
  · exact rPK_cg (fun c i h => F c i (by unfold fPK at h; omega) (by unfold fPK at h; omega)) r.PK
  · exact rUS_cg (fun c i h => F c i (by unfold fUS at h; omega) (by unfold fUS at h; omega)) r.US
  · exact rFO_cg (fun c i h => F c i (by unfold fFO at h; omega) (by unfold fFO at h; omega)) r.FO
  · exact rSH_cg (fun c i h => F c i (by unfold fSH at h; omega) (by unfold fSH at h; omega)) r.SH
  · exact rSW_cg (fun c i h => F c i (by unfold fSW at h; omega) (by unfold fSW at h; omega)) r.SW
  · exact rHI_cg (fun c i h => F c i (by unfold fHI at h; omega) (by unfold fHI at h; omega)) r.HI
  · exact rLN_cg (fun c i h => F c i (by unfold fLN at h; omega) (by unfold fLN at h; omega)) r.LN
  · exact rMK_cg (fun c i h => F c i (by unfold fMK at h; omega) (by unfold fMK at h; omega)) r.MK
  · exact rGR_cg (fun c i h => F c i (by unfold fGR at h; omega) (by unfold fGR at h; omega)) r.GR
  · exact rTT_cg (fun c i h => F c i (by unfold fTT at h; omega) (by unfold fTT at h; omega)) r.TT
  · exact rMT_cg (fun c i h => F c i (by unfold fMT at h; omega) (by unfold fMT at h; omega)) r.MT
  · exact rSC_cg (fun c i h => F c i (by unfold fSC at h; omega) (by unfold fSC at h; omega)) r.SC
  · exact rQU_cg (fun c i h => F c i (by unfold fQU at h; omega) (by unfold fQU at h; omega)) r.QU
  · exact rKQ_cg (fun c i h => F c i (by unfold fKQ at h; omega) (by unfold fKQ at h; omega)) r.KQ
  · exact rHQ_cg (fun c i h => F c i (by unfold fHQ at h; omega) (by unfold fHQ at h; omega)) r.HQ
  · exact rPP_cg (fun c i h => F c i (by unfold fPP at h; omega) (by unfold fPP at h; omega)) (by rw [hR]) (by rw [hR]) r.PP
  · exact rAN_cg (fun c i h => F c i (by unfold fAN at h; omega) (by unfold fAN at h; omega)) hR hS hN r.AN
  · exact rSE_cg r.SE

theorem op_unpin (hd : 30 ≤ d) : OP_unpin E d RR := by
  intro k σ hk r x1 h1
  have vs := r.VS
  have vs1 := vs.1
  have vs2 := vs.2.1
  have rk := r.RK
  have k1 := rk.2.2.1
  have k2 := rk.2.2.2.1
  have wq : (0 ≤ x1 ∧ x1 < 4 ∧ 0 ≤ σ.I 597 x1) ↔ (0 ≤ x1 ∧ x1 < 4 ∧ 0 ≤ σ.I 48 x1) := by
    constructor
    · rintro ⟨a, b, c⟩
      have := (vs.2.2 x1 a b).1
      omega
    · rintro ⟨a, b, c⟩
      have := (vs.2.2 x1 a b).1
      omega
  by_cases w : 0 ≤ x1 ∧ x1 < 4 ∧ 0 ≤ σ.I 48 x1
  · refine OPI.mk (sp_X0_unpin (by omega) r.Lay h1) (fun y σ1 p s1 => by
        exact sp_X9_unpin (by omega) (r.Lay.sf s1) h1) ?_
    intro y σ1 z σ2 p s1 g s2
    have F1 : ∀ (c : Nat) (i : Int), ¬ (c = 48 ∨ (c = 0 ∧ (i = 70 ∨ i = 71 ∨ i = 59 ∨ i = 75 ∨ i = 79))) → σ1.I c i = σ.I c i := by
      intro c i q
      rw [congrFun (congrFun p.2.2 c) i]
      ((try simp only [at2, rg, fgX, fgM, CQF, and_false, false_and, and_true, true_and, or_false, false_or, or_true, true_or, if_false, if_true, not_false_eq_true, not_true_eq_false])  <;> (repeat' split)) <;> first | rfl | (exfalso; omega)
    have F2 : ∀ (c : Nat) (i : Int), ¬ (c = 597 ∨ (c = 555 ∧ (i = 114 ∨ i = 115 ∨ i = 133 ∨ i = 134 ∨ i = 135))) → σ2.I c i = σ1.I c i := by
      intro c i q
      rw [congrFun (congrFun g.2.2 c) i]
      ((try simp only [at2, rg, fgX, fgM, CQF, and_false, false_and, and_true, true_and, or_false, false_or, or_true, true_or, if_false, if_true, not_false_eq_true, not_true_eq_false])  <;> (repeat' split)) <;> first | rfl | (exfalso; omega)
    have F : ∀ (c : Nat) (i : Int), ¬ (c = 48 ∨ (c = 0 ∧ (i = 70 ∨ i = 71 ∨ i = 59 ∨ i = 75 ∨ i = 79))) → ¬ (c = 597 ∨ (c = 555 ∧ (i = 114 ∨ i = 115 ∨ i = 133 ∨ i = 134 ∨ i = 135))) → σ2.I c i = σ.I c i := fun c i a b => (F2 c i b).trans (F1 c i a)
    have hR : σ2.R = σ.R := g.2.1.1.trans p.2.1.1
    have hS : σ2.sh = σ.sh := g.2.1.2.1.trans p.2.1.2.1
    have hN : σ2.n = σ.n := g.2.1.2.2.trans p.2.1.2.2
    have S1 : σ1.I 597 x1 = σ.I 597 x1 := F1 597 x1 (by omega)
    have w2 := wq.mpr w
    rw [S1] at g
    have G70 : σ2.I 0 70 = 0 := by
      rw [F2 0 70 (by omega), congrFun (congrFun p.2.2 0) 70]
      ((try simp only [at2, rg, fgX, fgM, CQF, and_false, false_and, and_true, true_and, or_false, false_or, or_true, true_or, if_false, if_true, not_false_eq_true, not_true_eq_false])  <;> (repeat' split)) <;> first | rfl | omega
    have G71 : σ2.I 0 71 = 0 := by
      rw [F2 0 71 (by omega), congrFun (congrFun p.2.2 0) 71]
      ((try simp only [at2, rg, fgX, fgM, CQF, and_false, false_and, and_true, true_and, or_false, false_or, or_true, true_or, if_false, if_true, not_false_eq_true, not_true_eq_false])  <;> (repeat' split)) <;> first | rfl | omega
    have G59 : σ2.I 0 59 = 0 := by
      rw [F2 0 59 (by omega), congrFun (congrFun p.2.2 0) 59]
      ((try simp only [at2, rg, fgX, fgM, CQF, and_false, false_and, and_true, true_and, or_false, false_or, or_true, true_or, if_false, if_true, not_false_eq_true, not_true_eq_false])  <;> (repeat' split)) <;> first | rfl | omega
    have G75 : σ2.I 0 75 = 0 := by
      rw [F2 0 75 (by omega), congrFun (congrFun p.2.2 0) 75]
      ((try simp only [at2, rg, fgX, fgM, CQF, and_false, false_and, and_true, true_and, or_false, false_or, or_true, true_or, if_false, if_true, not_false_eq_true, not_true_eq_false])  <;> (repeat' split)) <;> first | rfl | omega
    have G79 : σ2.I 0 79 = 0 := by
      rw [F2 0 79 (by omega), congrFun (congrFun p.2.2 0) 79]
      ((try simp only [at2, rg, fgX, fgM, CQF, and_false, false_and, and_true, true_and, or_false, false_or, or_true, true_or, if_false, if_true, not_false_eq_true, not_true_eq_false])  <;> (repeat' split)) <;> first | rfl | omega
    have G114 : σ2.I 555 114 = 0 := by
      rw [congrFun (congrFun g.2.2 555) 114]
      ((try simp only [at2, rg, fgX, fgM, CQF, and_false, false_and, and_true, true_and, or_false, false_or, or_true, true_or, if_false, if_true, not_false_eq_true, not_true_eq_false])  <;> (repeat' split)) <;> first | rfl | omega
    have G115 : σ2.I 555 115 = 0 := by
      rw [congrFun (congrFun g.2.2 555) 115]
      ((try simp only [at2, rg, fgX, fgM, CQF, and_false, false_and, and_true, true_and, or_false, false_or, or_true, true_or, if_false, if_true, not_false_eq_true, not_true_eq_false])  <;> (repeat' split)) <;> first | rfl | omega
    have G133 : σ2.I 555 133 = 0 := by
      rw [congrFun (congrFun g.2.2 555) 133]
      ((try simp only [at2, rg, fgX, fgM, CQF, and_false, false_and, and_true, true_and, or_false, false_or, or_true, true_or, if_false, if_true, not_false_eq_true, not_true_eq_false])  <;> (repeat' split)) <;> first | rfl | omega
    have G134 : σ2.I 555 134 = 0 := by
      rw [congrFun (congrFun g.2.2 555) 134]
      ((try simp only [at2, rg, fgX, fgM, CQF, and_false, false_and, and_true, true_and, or_false, false_or, or_true, true_or, if_false, if_true, not_false_eq_true, not_true_eq_false])  <;> (repeat' split)) <;> first | rfl | omega
    have G135 : σ2.I 555 135 = 0 := by
      rw [congrFun (congrFun g.2.2 555) 135]
      ((try simp only [at2, rg, fgX, fgM, CQF, and_false, false_and, and_true, true_and, or_false, false_or, or_true, true_or, if_false, if_true, not_false_eq_true, not_true_eq_false])  <;> (repeat' split)) <;> first | rfl | omega
    refine ⟨by rw [g.1, p.1, if_pos w, if_pos w2, (vs.2.2 x1 w.1 w.2.1).1], r.Lay.sf (s1.tr s2), RK_cg hS hN (F 0 1 (by omega) (by omega)) (F 0 41 (by omega) (by omega)) (fun i => F 211 i (by omega) (by omega)) r.RK, ?_, ?_, ?_, ?_, ?_, ?_, ?_, ?_, ?_, ?_, ?_, ?_, ?_, ?_, ?_, ?_, ?_, ?_, ?_, ?_, ?_, ?_, ?_, ?_, ?_⟩
    · exact rTP_cg (fun c i h => F c i (by unfold fTP at h; omega) (by unfold fTP at h; omega)) r.TP
    · exact rFL_cg (fun c i h => F c i (by unfold fFL at h; omega) (by unfold fFL at h; omega)) r.FL
    · refine ⟨?_, ?_, fun i h0 h1 => ?_⟩
      · rw [F 0 40 (by omega) (by omega), F 0 41 (by omega) (by omega), F 0 42 (by omega) (by omega), F 555 53 (by omega) (by omega), F 555 54 (by omega) (by omega), F 555 55 (by omega) (by omega)]
        exact vs.1
      · rw [F 0 40 (by omega) (by omega), F 0 41 (by omega) (by omega), F 0 42 (by omega) (by omega)]
        exact vs.2.1
      · have z := vs.2.2 i h0 h1
        rw [F2 48 i (by omega), congrFun (congrFun p.2.2 48) i, congrFun (congrFun g.2.2 597) i, F1 597 i (by omega), F 0 41 (by omega) (by omega)]
        (((try simp only [at2, rg, fgX, fgM, CQF, and_false, false_and, and_true, true_and, or_false, false_or, or_true, true_or, if_false, if_true, not_false_eq_true, not_true_eq_false])  <;> (repeat' split)) <;> omega)
    · exact rOB_cg (fun c i h => F c i (by unfold fOB at h; omega) (by unfold fOB at h; omega)) r.OB
    · exact rVA_cg (fun c i h => F c i (by unfold fVA at h; omega) (by unfold fVA at h; omega)) r.VA
    · exact rBD_cg (fun c i h => F c i (by unfold fBD at h; omega) (by unfold fBD at h; omega)) r.BD
    · exact rTE_cg (fun c i h => F c i (by unfold fTE at h; omega) (by unfold fTE at h; omega)) r.TE
    · exact rPK_cg (fun c i h => F c i (by unfold fPK at h; omega) (by unfold fPK at h; omega)) r.PK
    · exact rUS_cg (fun c i h => F c i (by unfold fUS at h; omega) (by unfold fUS at h; omega)) r.US
    · exact rFO_cg (fun c i h => F c i (by unfold fFO at h; omega) (by unfold fFO at h; omega)) r.FO
    · exact rSH_cg (fun c i h => F c i (by unfold fSH at h; omega) (by unfold fSH at h; omega)) r.SH
    · exact rSW_cg (fun c i h => F c i (by unfold fSW at h; omega) (by unfold fSW at h; omega)) r.SW
    · exact HI_0 r G70 G71 G114 G115 (fun i => F 637 i (by omega) (by omega))
    · exact LN_0 G59 G133
    · exact MK_0 G75 G134
    · exact GRz_0 G79 G135
    · exact rTT_cg (fun c i h => F c i (by unfold fTT at h; omega) (by unfold fTT at h; omega)) r.TT
    · exact rMT_cg (fun c i h => F c i (by unfold fMT at h; omega) (by unfold fMT at h; omega)) r.MT
    · exact rSC_cg (fun c i h => F c i (by unfold fSC at h; omega) (by unfold fSC at h; omega)) r.SC
    · exact rQU_cg (fun c i h => F c i (by unfold fQU at h; omega) (by unfold fQU at h; omega)) r.QU
    · exact rKQ_cg (fun c i h => F c i (by unfold fKQ at h; omega) (by unfold fKQ at h; omega)) r.KQ
    · exact rHQ_cg (fun c i h => F c i (by unfold fHQ at h; omega) (by unfold fHQ at h; omega)) r.HQ
    · exact rPP_cg (fun c i h => F c i (by unfold fPP at h; omega) (by unfold fPP at h; omega)) (by rw [hR]) (by rw [hR]) r.PP
    · exact rAN_cg (fun c i h => F c i (by unfold fAN at h; omega) (by unfold fAN at h; omega)) hR hS hN r.AN
    · exact rSE_cg r.SE
  · refine OPI.mk (sp_X0_unpin (by omega) r.Lay h1) (fun y σ1 p s1 => by
        exact sp_X9_unpin (by omega) (r.Lay.sf s1) h1) ?_
    intro y σ1 z σ2 p s1 g s2
    have S1 : σ1.I 597 x1 = σ.I 597 x1 := by
      rw [congrFun (congrFun p.2.2 597) x1]
      ((try simp only [at2, rg, fgX, fgM, CQF, and_false, false_and, and_true, true_and, or_false, false_or, or_true, true_or, if_false, if_true, not_false_eq_true, not_true_eq_false])  <;> (repeat' split)) <;> first | rfl | omega
    have w2 : ¬ (0 ≤ x1 ∧ x1 < 4 ∧ 0 ≤ σ1.I 597 x1) := by rw [S1]; exact fun u => w (wq.mp u)
    have F1 : ∀ (c : Nat) (i : Int), ¬ (c = 0 ∧ c = 1) → σ1.I c i = σ.I c i := by
      intro c i q
      rw [congrFun (congrFun p.2.2 c) i]
      ((try simp only [at2, rg, fgX, fgM, CQF, and_false, false_and, and_true, true_and, or_false, false_or, or_true, true_or, if_false, if_true, not_false_eq_true, not_true_eq_false])  <;> (repeat' split)) <;> first | rfl | (exfalso; omega)
    have F2 : ∀ (c : Nat) (i : Int), ¬ (c = 0 ∧ c = 1) → σ2.I c i = σ1.I c i := by
      intro c i q
      rw [congrFun (congrFun g.2.2 c) i]
      ((try simp only [at2, rg, fgX, fgM, CQF, and_false, false_and, and_true, true_and, or_false, false_or, or_true, true_or, if_false, if_true, not_false_eq_true, not_true_eq_false])  <;> (repeat' split)) <;> first | rfl | (exfalso; omega)
    have F : ∀ (c : Nat) (i : Int), ¬ (c = 0 ∧ c = 1) → ¬ (c = 0 ∧ c = 1) → σ2.I c i = σ.I c i := fun c i a b => (F2 c i b).trans (F1 c i a)
    have hR : σ2.R = σ.R := g.2.1.1.trans p.2.1.1
    have hS : σ2.sh = σ.sh := g.2.1.2.1.trans p.2.1.2.1
    have hN : σ2.n = σ.n := g.2.1.2.2.trans p.2.1.2.2
    refine ⟨by rw [g.1, p.1, if_neg w, if_neg w2], r.Lay.sf (s1.tr s2), RK_cg hS hN (F 0 1 (by omega) (by omega)) (F 0 41 (by omega) (by omega)) (fun i => F 211 i (by omega) (by omega)) r.RK, ?_, ?_, ?_, ?_, ?_, ?_, ?_, ?_, ?_, ?_, ?_, ?_, ?_, ?_, ?_, ?_, ?_, ?_, ?_, ?_, ?_, ?_, ?_, ?_, ?_⟩
    · exact rTP_cg (fun c i h => F c i (by unfold fTP at h; omega) (by unfold fTP at h; omega)) r.TP
    · exact rFL_cg (fun c i h => F c i (by unfold fFL at h; omega) (by unfold fFL at h; omega)) r.FL
    · exact rVS_cg (fun c i h => F c i (by unfold fVS at h; omega) (by unfold fVS at h; omega)) r.VS
    · exact rOB_cg (fun c i h => F c i (by unfold fOB at h; omega) (by unfold fOB at h; omega)) r.OB
    · exact rVA_cg (fun c i h => F c i (by unfold fVA at h; omega) (by unfold fVA at h; omega)) r.VA
    · exact rBD_cg (fun c i h => F c i (by unfold fBD at h; omega) (by unfold fBD at h; omega)) r.BD
    · exact rTE_cg (fun c i h => F c i (by unfold fTE at h; omega) (by unfold fTE at h; omega)) r.TE
    · exact rPK_cg (fun c i h => F c i (by unfold fPK at h; omega) (by unfold fPK at h; omega)) r.PK
    · exact rUS_cg (fun c i h => F c i (by unfold fUS at h; omega) (by unfold fUS at h; omega)) r.US
    · exact rFO_cg (fun c i h => F c i (by unfold fFO at h; omega) (by unfold fFO at h; omega)) r.FO
    · exact rSH_cg (fun c i h => F c i (by unfold fSH at h; omega) (by unfold fSH at h; omega)) r.SH
    · exact rSW_cg (fun c i h => F c i (by unfold fSW at h; omega) (by unfold fSW at h; omega)) r.SW
    · exact rHI_cg (fun c i h => F c i (by unfold fHI at h; omega) (by unfold fHI at h; omega)) r.HI
    · exact rLN_cg (fun c i h => F c i (by unfold fLN at h; omega) (by unfold fLN at h; omega)) r.LN
    · exact rMK_cg (fun c i h => F c i (by unfold fMK at h; omega) (by unfold fMK at h; omega)) r.MK
    · exact rGR_cg (fun c i h => F c i (by unfold fGR at h; omega) (by unfold fGR at h; omega)) r.GR
    · exact rTT_cg (fun c i h => F c i (by unfold fTT at h; omega) (by unfold fTT at h; omega)) r.TT
    · exact rMT_cg (fun c i h => F c i (by unfold fMT at h; omega) (by unfold fMT at h; omega)) r.MT
    · exact rSC_cg (fun c i h => F c i (by unfold fSC at h; omega) (by unfold fSC at h; omega)) r.SC
    · exact rQU_cg (fun c i h => F c i (by unfold fQU at h; omega) (by unfold fQU at h; omega)) r.QU
    · exact rKQ_cg (fun c i h => F c i (by unfold fKQ at h; omega) (by unfold fKQ at h; omega)) r.KQ
    · exact rHQ_cg (fun c i h => F c i (by unfold fHQ at h; omega) (by unfold fHQ at h; omega)) r.HQ
    · exact rPP_cg (fun c i h => F c i (by unfold fPP at h; omega) (by unfold fPP at h; omega)) (by rw [hR]) (by rw [hR]) r.PP
    · exact rAN_cg (fun c i h => F c i (by unfold fAN at h; omega) (by unfold fAN at h; omega)) hR hS hN r.AN
    · exact rSE_cg r.SE
end OPA

