/-! contracts: printed by tools/mk.py out of s98zzzzi_opI.py -/
set_option maxRecDepth 100000
set_option maxHeartbeats 3000000
/-! a field more -/
theorem VA_fl {σ τ : Sto} (r : rVA σ) (h9 : σ.I 0 9 ≤ τ.I 0 9) (h16 : ∀ f, 0 ≤ f → f < σ.I 0 9 → τ.I 16 f = σ.I 16 f) (g0 : ∀ i, i = 20 ∨ i = 22 ∨ i = 29 ∨ i = 30 ∨ i = 31 → τ.I 0 i = σ.I 0 i) (gM : ∀ i, i = 30 ∨ i = 38 ∨ i = 44 ∨ i = 45 → τ.I 555 i = σ.I 555 i) (g1 : ∀ c, cVA c → τ.I c = σ.I c) (g2 : ∀ c, cTK c → τ.I c = σ.I c) (g3 : τ.I 582 = σ.I 582) (g4 : τ.I 584 = σ.I 584) (g5 : τ.I 35 = σ.I 35) (g6 : τ.I 585 = σ.I 585) (g7 : τ.I 18 7 = σ.I 18 7) : rVA τ := by
  obtain ⟨a, b, c, d⟩ := r
  have w : cn (isWv τ) (σ.I 0 20) = cn (isWv σ) (σ.I 0 20) := cn_cg (fun k p0 p1 => by
    have z := (c k p0 p1).2.2.1
    unfold isWv
    rw [g1 26 (by unfold cVA; omega), h16 _ z.2.1 z.2.2])
  have e29 := g1 29 (by unfold cVA; omega)
  have e32 := g1 32 (by unfold cVA; omega)
  refine ⟨?_, ?_, fun v p0 p1 => ?_, ?_⟩
  · rw [g0 20 (by omega), g0 22 (by omega), g0 29 (by omega), g0 30 (by omega), g0 31 (by omega), gM 30 (by omega), gM 38 (by omega), gM 44 (by omega), gM 45 (by omega)]
    exact a
  · rw [g0 20 (by omega), g0 22 (by omega), g0 29 (by omega), g0 30 (by omega), gM 30 (by omega), gM 44 (by omega), g3, e29, e32, w]
    exact b
  · rw [g0 20 (by omega)] at p1
    have z := c v p0 p1
    rw [e29, e32, g1 28 (by unfold cVA; omega), g1 31 (by unfold cVA; omega)]
    exact ⟨z.1, z.2.1, vaE_cg h9 (h16 _ z.2.2.1.2.1 z.2.2.1.2.2) (fun c q => by rw [g1 c q]) (by rw [g3]) (by rw [g3]) (fun j _ _ => by rw [g4]) g2 g7 z.2.2⟩
  · rw [g0 22 (by omega), g5, g6]
    exact d
section OPI2
variable {E : XE} {d : Nat}

theorem op_field (hd : 30 ≤ d) : OP_field E d RR := by
  intro k σ hk r x1 x2 h1 h2
  have fl := r.FL
  have fl1 := fl.1
  have an1 := r.AN.1
  by_cases w : ¬ (x1 < 0 ∨ 4 < x1 ∨ x1 = 0 ∧ ¬ (0 ≤ x2 ∧ x2 < σ.I 0 4)) ∧ σ.I 0 9 ≠ 12
  · refine OPI.mk (sp_X0_field (by omega) r.Lay h1 h2 fl.1.2 an1.2) (fun y σ1 p s1 => by
        have S : ∀ (c : Nat) (i : Int), 555 ≤ c → σ1.I c i = σ.I c i := by
          intro c i q
          rw [congrFun (congrFun p.2.2 c) i]
          ((try simp only [at2, rg, fgX, fgM, CQF, and_false, false_and, and_true, true_and, or_false, false_or, or_true, true_or, if_false, if_true, not_false_eq_true, not_true_eq_false])  <;> (repeat' split)) <;> first | rfl | (exfalso; omega)
        exact sp_X9_field (by omega) (r.Lay.sf s1) h1 h2 (by rw [S 555 27 (by omega)]; omega) (by rw [S 555 3 (by omega)]; omega)) ?_
    intro y σ1 z σ2 p s1 g s2
    have S : ∀ (c : Nat) (i : Int), 555 ≤ c → σ1.I c i = σ.I c i := by
      intro c i q
      rw [congrFun (congrFun p.2.2 c) i]
      ((try simp only [at2, rg, fgX, fgM, CQF, and_false, false_and, and_true, true_and, or_false, false_or, or_true, true_or, if_false, if_true, not_false_eq_true, not_true_eq_false])  <;> (repeat' split)) <;> first | rfl | (exfalso; omega)
    rw [S 555 27 (by omega), S 555 3 (by omega), ← fl1.1, ← an1.1] at g
    have F1 : ∀ (c : Nat) (i : Int), ¬ (((c = 16 ∨ c = 17) ∧ i = σ.I 0 9) ∨ (c = 0 ∧ i = 9)) → σ1.I c i = σ.I c i := by
      intro c i q
      rw [congrFun (congrFun p.2.2 c) i]
      ((try simp only [at2, rg, fgX, fgM, CQF, and_false, false_and, and_true, true_and, or_false, false_or, or_true, true_or, if_false, if_true, not_false_eq_true, not_true_eq_false])  <;> (repeat' split)) <;> first | rfl | (exfalso; omega)
    have F2 : ∀ (c : Nat) (i : Int), ¬ (((c = 577 ∨ c = 578) ∧ i = σ.I 0 9) ∨ (c = 555 ∧ i = 27)) → σ2.I c i = σ1.I c i := by
      intro c i q
      rw [congrFun (congrFun g.2.2 c) i]
      ((try simp only [at2, rg, fgX, fgM, CQF, and_false, false_and, and_true, true_and, or_false, false_or, or_true, true_or, if_false, if_true, not_false_eq_true, not_true_eq_false])  <;> (repeat' split)) <;> first | rfl | (exfalso; omega)
    have F : ∀ (c : Nat) (i : Int), ¬ (((c = 16 ∨ c = 17) ∧ i = σ.I 0 9) ∨ (c = 0 ∧ i = 9)) → ¬ (((c = 577 ∨ c = 578) ∧ i = σ.I 0 9) ∨ (c = 555 ∧ i = 27)) → σ2.I c i = σ.I c i := fun c i a b => (F2 c i b).trans (F1 c i a)
    have hR : σ2.R = σ.R := g.2.1.1.trans p.2.1.1
    have hS : σ2.sh = σ.sh := g.2.1.2.1.trans p.2.1.2.1
    have hN : σ2.n = σ.n := g.2.1.2.2.trans p.2.1.2.2
    have A9 : σ2.I 0 9 = σ.I 0 9 + 1 := by
      rw [F2 0 9 (by omega), congrFun (congrFun p.2.2 0) 9]
      ((try simp only [at2, rg, fgX, fgM, CQF, and_false, false_and, and_true, true_and, or_false, false_or, or_true, true_or, if_false, if_true, not_false_eq_true, not_true_eq_false])  <;> (repeat' split)) <;> first | rfl | omega
    have A16 : σ2.I 16 (σ.I 0 9) = x1 := by
      rw [F2 16 (σ.I 0 9) (by omega), congrFun (congrFun p.2.2 16) (σ.I 0 9)]
      ((try simp only [at2, rg, fgX, fgM, CQF, and_false, false_and, and_true, true_and, or_false, false_or, or_true, true_or, if_false, if_true, not_false_eq_true, not_true_eq_false])  <;> (repeat' split)) <;> first | rfl | omega
    have A17 : σ2.I 17 (σ.I 0 9) = if x1 = 0 then x2 else 0 := by
      rw [F2 17 (σ.I 0 9) (by omega), congrFun (congrFun p.2.2 17) (σ.I 0 9)]
      ((try simp only [at2, rg, fgX, fgM, CQF, and_false, false_and, and_true, true_and, or_false, false_or, or_true, true_or, if_false, if_true, not_false_eq_true, not_true_eq_false])  <;> (repeat' split)) <;> first | rfl | omega
    have B27 : σ2.I 555 27 = σ.I 0 9 + 1 := by
      rw [congrFun (congrFun g.2.2 555) 27]
      ((try simp only [at2, rg, fgX, fgM, CQF, and_false, false_and, and_true, true_and, or_false, false_or, or_true, true_or, if_false, if_true, not_false_eq_true, not_true_eq_false])  <;> (repeat' split)) <;> first | rfl | omega
    have B577 : σ2.I 577 (σ.I 0 9) = x1 := by
      rw [congrFun (congrFun g.2.2 577) (σ.I 0 9)]
      ((try simp only [at2, rg, fgX, fgM, CQF, and_false, false_and, and_true, true_and, or_false, false_or, or_true, true_or, if_false, if_true, not_false_eq_true, not_true_eq_false])  <;> (repeat' split)) <;> first | rfl | omega
    have B578 : σ2.I 578 (σ.I 0 9) = if x1 = 0 then x2 else 0 := by
      rw [congrFun (congrFun g.2.2 578) (σ.I 0 9)]
      ((try simp only [at2, rg, fgX, fgM, CQF, and_false, false_and, and_true, true_and, or_false, false_or, or_true, true_or, if_false, if_true, not_false_eq_true, not_true_eq_false])  <;> (repeat' split)) <;> first | rfl | omega
    refine ⟨by rw [g.1, p.1], r.Lay.sf (s1.tr s2), RK_cg hS hN (F 0 1 (by omega) (by omega)) (F 0 41 (by omega) (by omega)) (fun i => F 211 i (by omega) (by omega)) r.RK, ?_, ?_, ?_, ?_, ?_, ?_, ?_, ?_, ?_, ?_, ?_, ?_, ?_, ?_, ?_, ?_, ?_, ?_, ?_, ?_, ?_, ?_, ?_, ?_, ?_⟩
    · exact rTP_cg (fun c i h => F c i (by unfold fTP at h; omega) (by unfold fTP at h; omega)) r.TP
    · refine ⟨by rw [A9, B27]; omega, fun f h0 h1 => ?_⟩
      rw [A9] at h1
      rw [F 0 4 (by omega) (by omega)]
      by_cases q : f = σ.I 0 9
      · rw [q, A16, A17, B577, B578]
        refine ⟨⟨rfl, rfl⟩, by omega, fun e => ?_, fun e => if_neg e⟩
        rw [if_pos e]
        omega
      · rw [F 16 f (by omega) (by omega), F 17 f (by omega) (by omega), F 577 f (by omega) (by omega), F 578 f (by omega) (by omega)]
        exact fl.2 f h0 (by omega)
    · exact rVS_cg (fun c i h => F c i (by unfold fVS at h; omega) (by unfold fVS at h; omega)) r.VS
    · exact rOB_cg (fun c i h => F c i (by unfold fOB at h; omega) (by unfold fOB at h; omega)) r.OB
    · exact VA_fl r.VA (by omega) (fun f h0 h1 => F 16 f (by omega) (by omega)) (fun i h => F 0 i (by omega) (by omega)) (fun i h => F 555 i (by omega) (by omega)) (fun c h => funext fun i => F c i (by unfold cVA at h; omega) (by unfold cVA at h; omega)) (fun c h => funext fun i => F c i (by unfold cTK at h; omega) (by unfold cTK at h; omega)) (funext fun i => F 582 i (by omega) (by omega)) (funext fun i => F 584 i (by omega) (by omega)) (funext fun i => F 35 i (by omega) (by omega)) (funext fun i => F 585 i (by omega) (by omega)) (F 18 7 (by omega) (by omega))
    · exact rBD_cg (fun c i h => F c i (by unfold fBD at h; omega) (by unfold fBD at h; omega)) r.BD
    · exact TE_pl r.TE r.VA (by rw [F 0 20 (by omega) (by omega)]; omega) (fun i h => F 0 i (by omega) (by omega)) (by omega) (fun f h0 h1 => F 16 f (by omega) (by omega)) (fun c i h q => F c i (by omega) (by omega)) (fun q => by rw [F 0 20 (by omega) (by omega)] at q; omega) (fun c h => funext fun i => F c i (by omega) (by omega)) (F 18 7 (by omega) (by omega))
    · exact rPK_cg (fun c i h => F c i (by unfold fPK at h; omega) (by unfold fPK at h; omega)) r.PK
    · exact rUS_cg (fun c i h => F c i (by unfold fUS at h; omega) (by unfold fUS at h; omega)) r.US
    · exact rFO_cg (fun c i h => F c i (by unfold fFO at h; omega) (by unfold fFO at h; omega)) r.FO
    · exact rSH_cg (fun c i h => F c i (by unfold fSH at h; omega) (by unfold fSH at h; omega)) r.SH
    · exact rSW_cg (fun c i h => F c i (by unfold fSW at h; omega) (by unfold fSW at h; omega)) r.SW
    · exact rHI_cg (fun c i h => F c i (by unfold fHI at h; omega) (by unfold fHI at h; omega)) r.HI
    · exact rLN_cg (fun c i h => F c i (by unfold fLN at h; omega) (by unfold fLN at h; omega)) r.LN
    · exact rMK_cg (fun c i h => F c i (by unfold fMK at h; omega) (by unfold fMK at h; omega)) r.MK
    · exact rGR_cg (fun c i h => F c i (by unfold fGR at h; omega) (by unfold fGR at h; omega)) r.GR
    · exact rTT_cg (fun c i h => F c i (by unfold fTT at h; omega) (by unfold fTT at h; omega)) r.TT
    · exact rMT_cg (fun c i h => F c i (by unfold fMT at h; omega) (by unfold fMT at h; omega)) r.MT
    · exact rSC_cg (fun c i h => F c i (by unfold fSC at h; omega) (by unfold fSC at h; omega)) r.SC
    · have qu := r.QU
      refine ⟨?_, ?_, fun q => ?_⟩
      · rw [F 0 48 (by omega) (by omega), F 555 66 (by omega) (by omega)]; exact qu.1
      · rw [F 51 1 (by omega) (by omega), F 51 2 (by omega) (by omega)]; exact qu.2.1
      · rw [F 0 48 (by omega) (by omega)] at q
        rw [F 51 3 (by omega) (by omega), F 555 67 (by omega) (by omega)]
        refine ⟨?_, (qu.2.2 q).2⟩
        refine QT_old (qu.2.2 q).1 (fun c i h1 h2 => F c i (by omega) (by omega)) ⟨F 555 66 (by omega) (by omega), fun k h0 h1 => ?_, ?_, fun i h0 h1 => F 603 _ (by omega) (by omega)⟩ (by show σ.I 555 27 ≤ 12; rw [← fl.1.1]; omega) qu.1.2.1.1
        · have h1 : k < σ.I 555 27 := h1
          exact F 577 k (by omega) (by omega)
        · show σ.I 555 27 ≤ σ2.I 555 27
          rw [B27]; omega
    · have kq := r.KQ
      have kq1 := kq.1
      refine ⟨by rw [F 0 51 (by omega) (by omega), F 555 71 (by omega) (by omega)]; exact kq.1, fun i h0 h1 => by rw [F 605 i (by omega) (by omega)]; exact kq.2.1 i h0 h1, fun j hj => ?_⟩
      rw [F 0 51 (by omega) (by omega)] at hj
      have y1 := kq.2.1 j (by omega) (by omega)
      have q := kq.2.2 j hj
      rw [F 605 _ (by omega) (by omega), F (275 + 14 * j) 1 (by omega) (by omega), F (275 + 14 * j) 2 (by omega) (by omega), F (275 + 14 * j) 3 (by omega) (by omega), F 606 _ (by omega) (by omega)]
      refine ⟨q.1, ?_, q.2.2⟩
      refine QT_old q.2.1 (fun c i h1 h2 => F c i (by omega) (by omega)) ⟨rfl, fun k h0 h1 => ?_, ?_, fun i h0 h1 => F 604 _ (by omega) (by omega)⟩ (by show σ.I 555 27 ≤ 12; rw [← fl.1.1]; omega) y1.1
      · have h1 : k < σ.I 555 27 := h1
        exact F 577 k (by omega) (by omega)
      · show σ.I 555 27 ≤ σ2.I 555 27
        rw [B27]; omega
    · have hq := r.HQ
      refine ⟨by rw [F 608 0 (by omega) (by omega)]; exact hq.1, by rw [F 215 1 (by omega) (by omega)]; exact hq.2.1, fun u h1 h2 => ?_⟩
      have q := hq.2.2 u h1 h2
      unfold hqU at q ⊢
      rw [F (215 + 15 * u) 1 (by omega) (by omega), F 608 _ (by omega) (by omega)]
      refine ⟨q.1, q.2.1, q.2.2.1, fun y => ?_⟩
      refine QT_old (q.2.2.2 y) (fun c i h1 h2 => F c i (by omega) (by omega)) ⟨rfl, fun k h0 h1 => ?_, ?_, fun i h0 h1 => F 607 _ (by omega) (by omega)⟩ (by show σ.I 555 27 ≤ 12; rw [← fl.1.1]; omega) q.2.1.1
      · have h1 : k < σ.I 555 27 := h1
        exact F 577 k (by omega) (by omega)
      · show σ.I 555 27 ≤ σ2.I 555 27
        rw [B27]; omega
    · exact rPP_cg (fun c i h => F c i (by unfold fPP at h; omega) (by unfold fPP at h; omega)) (by rw [hR]) (by rw [hR]) r.PP
    · exact rAN_cg (fun c i h => F c i (by unfold fAN at h; omega) (by unfold fAN at h; omega)) hR hS hN r.AN
    · exact rSE_cg r.SE
  · refine OPI.mk (sp_X0_field (by omega) r.Lay h1 h2 fl.1.2 an1.2) (fun y σ1 p s1 => by
        have S : ∀ (c : Nat) (i : Int), 555 ≤ c → σ1.I c i = σ.I c i := by
          intro c i q
          rw [congrFun (congrFun p.2.2 c) i]
          ((try simp only [at2, rg, fgX, fgM, CQF, and_false, false_and, and_true, true_and, or_false, false_or, or_true, true_or, if_false, if_true, not_false_eq_true, not_true_eq_false])  <;> (repeat' split)) <;> first | rfl | (exfalso; omega)
        exact sp_X9_field (by omega) (r.Lay.sf s1) h1 h2 (by rw [S 555 27 (by omega)]; omega) (by rw [S 555 3 (by omega)]; omega)) ?_
    intro y σ1 z σ2 p s1 g s2
    have S : ∀ (c : Nat) (i : Int), 555 ≤ c → σ1.I c i = σ.I c i := by
      intro c i q
      rw [congrFun (congrFun p.2.2 c) i]
      ((try simp only [at2, rg, fgX, fgM, CQF, and_false, false_and, and_true, true_and, or_false, false_or, or_true, true_or, if_false, if_true, not_false_eq_true, not_true_eq_false])  <;> (repeat' split)) <;> first | rfl | (exfalso; omega)
    rw [S 555 27 (by omega), S 555 3 (by omega), ← fl1.1, ← an1.1] at g
    have F1 : ∀ (c : Nat) (i : Int), ¬ (c = 0 ∧ c = 1) → σ1.I c i = σ.I c i := by
      intro c i q
      rw [congrFun (congrFun p.2.2 c) i]
      ((try simp only [at2, rg, fgX, fgM, CQF, and_false, false_and, and_true, true_and, or_false, false_or, or_true, true_or, if_false, if_true, not_false_eq_true, not_true_eq_false])  <;> (repeat' split)) <;> first | rfl | (exfalso; omega)
    have F2 : ∀ (c : Nat) (i : Int), ¬ (c = 0 ∧ c = 1) → σ2.I c i = σ1.I c i := by
      intro c i q
      rw [congrFun (congrFun g.2.2 c) i]
      ((try simp only [at2, rg, fgX, fgM, CQF, and_false, false_and, and_true, true_and, or_false, false_or, or_true, true_or, if_false, if_true, not_false_eq_true, not_true_eq_false])  <;> (repeat' split)) <;> first | rfl | (exfalso; omega)
    have F : ∀ (c : Nat) (i : Int), ¬ (c = 0 ∧ c = 1) → ¬ (c = 0 ∧ c = 1) → σ2.I c i = σ.I c i := fun c i a b => (F2 c i b).trans (F1 c i a)
    have hR : σ2.R = σ.R := g.2.1.1.trans p.2.1.1
    have hS : σ2.sh = σ.sh := g.2.1.2.1.trans p.2.1.2.1
    have hN : σ2.n = σ.n := g.2.1.2.2.trans p.2.1.2.2
    refine ⟨by rw [g.1, p.1], r.Lay.sf (s1.tr s2), RK_cg hS hN (F 0 1 (by omega) (by omega)) (F 0 41 (by omega) (by omega)) (fun i => F 211 i (by omega) (by omega)) r.RK, ?_, ?_, ?_, ?_, ?_, ?_, ?_, ?_, ?_, ?_, ?_, ?_, ?_, ?_, ?_, ?_, ?_, ?_, ?_, ?_, ?_, ?_, ?_, ?_, ?_⟩
    · exact rTP_cg (fun c i h => F c i (by unfold fTP at h; omega) (by unfold fTP at h; omega)) r.TP
    · exact rFL_cg (fun c i h => F c i (by unfold fFL at h; omega) (by unfold fFL at h; omega)) r.FL
    · exact rVS_cg (fun c i h => F c i (by unfold fVS at h; omega) (by unfold fVS at h; omega)) r.VS
    · exact rOB_cg (fun c i h => F c i (by unfold fOB at h; omega) (by unfold fOB at h; omega)) r.OB
    · exact rVA_cg (fun c i h => F c i (by unfold fVA at h; omega) (by unfold fVA at h; omega)) r.VA
    · exact rBD_cg (fun c i h => F c i (by unfold fBD at h; omega) (by unfold fBD at h; omega)) r.BD
    · exact rTE_cg (fun c i h => F c i (by unfold fTE at h; omega) (by unfold fTE at h; omega)) r.TE
    · exact rPK_cg (fun c i h => F c i (by unfold fPK at h; omega) (by unfold fPK at h; omega)) r.PK
    · exact rUS_cg (fun c i h => F c i (by unfold fUS at h; omega) (by unfold fUS at h; omega)) r.US
    · exact rFO_cg (fun c i h => F c i (by unfold fFO at h; omega) (by unfold fFO at h; omega)) r.FO
    · exact rSH_cg (fun c i h => F c i (by unfold fSH at h; omega) (by unfold fSH at h; omega)) r.SH
    · exact rSW_cg (fun c i h => F c i (by unfold fSW at h; omega) (by unfold fSW at h; omega)) r.SW
    · exact rHI_cg (fun c i h => F c i (by unfold fHI at h; omega) (by unfold fHI at h; omega)) r.HI
    · exact rLN_cg (fun c i h => F c i (by unfold fLN at h; omega) (by unfold fLN at h; omega)) r.LN
    · exact rMK_cg (fun c i h => F c i (by unfold fMK at h; omega) (by unfold fMK at h; omega)) r.MK
    · exact rGR_cg (fun c i h => F c i (by unfold fGR at h; omega) (by unfold fGR at h; omega)) r.GR
    · exact rTT_cg (fun c i h => F c i (by unfold fTT at h; omega) (by unfold fTT at h; omega)) r.TT
    · exact rMT_cg (fun c i h => F c i (by unfold fMT at h; omega) (by unfold fMT at h; omega)) r.MT
    · exact rSC_cg (fun c i h => F c i (by unfold fSC at h; omega) (by unfold fSC at h; omega)) r.SC
    · exact rQU_cg (fun c i h => F c i (by unfold fQU at h; omega) (by unfold fQU at h; omega)) r.QU
    · exact rKQ_cg (fun c i h => F c i (by unfold fKQ at h; omega) (by unfold fKQ at h; omega)) r.KQ
    · exact rHQ_cg (fun c i h => F c i (by unfold fHQ at h; omega) (by unfold fHQ at h; omega)) r.HQ
    · exact rPP_cg (fun c i h => F c i (by unfold fPP at h; omega) (by unfold fPP at h; omega)) (by rw [hR]) (by rw [hR]) r.PP
    · exact rAN_cg (fun c i h => F c i (by unfold fAN at h; omega) (by unfold fAN at h; omega)) hR hS hN r.AN
    · exact rSE_cg r.SE
end OPI2

