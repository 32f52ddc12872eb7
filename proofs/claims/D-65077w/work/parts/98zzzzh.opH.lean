/-! contracts: printed by tools/mk.py out of s98zzzzh_opH.py -/
set_option maxRecDepth 100000
set_option maxHeartbeats 3000000
/-! values that are no texts -/
theorem VA_22 {σ : Sto} (r : rVA σ) : 0 ≤ σ.I 0 22 := by
  rw [r.2.1.2.2.1]
  exact smP_n0 (fun v h0 h1 => (r.2.2.1 v h0 h1).2.2.2.1.2.2.1)
section OPH
variable {E : XE} {d : Nat}

theorem op_number (hd : 30 ≤ d) : OP_number E d RR := by
  intro k σ hk r x1 y2 h1 h2
  have va := r.VA
  have va1 := va.1
  have vb1 := va.2.1
  have v22 := VA_22 va
  have v29 := VA_29 va
  have fl := r.FL
  have fl1 := fl.1
  have wq : (0 ≤ x1 ∧ x1 < σ.I 0 9 ∧ σ.I 577 x1 = 2) ↔ (0 ≤ x1 ∧ x1 < σ.I 0 9 ∧ σ.I 16 x1 = 2) := by
    constructor
    · rintro ⟨a, b, c⟩
      have q := (fl.2 x1 a b).1.1
      exact ⟨a, b, by omega⟩
    · rintro ⟨a, b, c⟩
      have q := (fl.2 x1 a b).1.1
      exact ⟨a, b, by omega⟩
  by_cases w : (0 ≤ x1 ∧ x1 < σ.I 0 9 ∧ σ.I 16 x1 = 2) ∧ ¬ (σ.I 0 20 - σ.I 0 31 = 24 ∨ σ.I 0 20 = 6000)
  · refine OPI.mk (sp_X0_number (by omega) r.Lay ⟨va1.2.1.1, va1.2.1.2.1⟩ ⟨by omega, by omega⟩ ⟨v22, by omega⟩ v29 (by omega) fl.1.2 h1 h2) (fun y σ1 p s1 => by
        have P1 := fun (c : Nat) (i : Int) => (congrFun (congrFun p.2.2 c) i).trans (if_pos w)
        have S : ∀ (c : Nat) (i : Int), 555 ≤ c → σ1.I c i = σ.I c i := by
          intro c i q
          rw [P1 c i]
          ((try simp only [at2, rg, fgX, fgM, CQF, and_false, false_and, and_true, true_and, or_false, false_or, or_true, true_or, if_false, if_true, not_false_eq_true, not_true_eq_false])  <;> (repeat' split)) <;> first | rfl | (exfalso; omega)
        exact sp_X9_number (by omega) (r.Lay.sf s1) (by rw [S 555 45 (by omega), S 555 30 (by omega)]; omega) (by rw [S 555 45 (by omega), S 555 30 (by omega)]; omega) (by rw [S 555 38 (by omega)]; omega) (by rw [S 555 44 (by omega)]; omega) (by rw [S 555 27 (by omega)]; omega) h1 h2) ?_
    intro y σ1 z σ2 p s1 g s2
    have P1 := fun (c : Nat) (i : Int) => (congrFun (congrFun p.2.2 c) i).trans (if_pos w)
    have S : ∀ (c : Nat) (i : Int), 555 ≤ c → σ1.I c i = σ.I c i := by
      intro c i q
      rw [P1 c i]
      ((try simp only [at2, rg, fgX, fgM, CQF, and_false, false_and, and_true, true_and, or_false, false_or, or_true, true_or, if_false, if_true, not_false_eq_true, not_true_eq_false])  <;> (repeat' split)) <;> first | rfl | (exfalso; omega)
    rw [S 555 30 (by omega), S 555 45 (by omega), S 555 38 (by omega), S 555 44 (by omega), S 555 27 (by omega), S 577 x1 (by omega), ← va1.1.1, ← va1.1.2.1, ← va1.1.2.2.1, ← fl1.1] at g
    have w2 := wq.mpr w.1
    have P2 := fun (c : Nat) (i : Int) => (congrFun (congrFun g.2.2 c) i).trans (if_pos ⟨w2, w.2⟩)
    have F1 : ∀ (c : Nat) (i : Int), ¬ (((c = 26 ∨ c = 28 ∨ c = 29 ∨ c = 30 ∨ c = 31 ∨ c = 32) ∧ i = σ.I 0 20) ∨ (c = 0 ∧ i = 20)) → σ1.I c i = σ.I c i := by
      intro c i q
      rw [P1 c i]
      ((try simp only [at2, rg, fgX, fgM, CQF, and_false, false_and, and_true, true_and, or_false, false_or, or_true, true_or, if_false, if_true, not_false_eq_true, not_true_eq_false])  <;> (repeat' split)) <;> first | rfl | (exfalso; omega)
    have F2 : ∀ (c : Nat) (i : Int), ¬ (((c = 579 ∨ c = 580 ∨ c = 581 ∨ c = 583) ∧ i = σ.I 0 20) ∨ (c = 582 ∧ (i = σ.I 0 20 ∨ i = σ.I 0 20 + 1)) ∨ (c = 555 ∧ i = 30)) → σ2.I c i = σ1.I c i := by
      intro c i q
      rw [P2 c i]
      ((try simp only [at2, rg, fgX, fgM, CQF, and_false, false_and, and_true, true_and, or_false, false_or, or_true, true_or, if_false, if_true, not_false_eq_true, not_true_eq_false])  <;> (repeat' split)) <;> first | rfl | (exfalso; omega)
    have F : ∀ (c : Nat) (i : Int), ¬ (((c = 26 ∨ c = 28 ∨ c = 29 ∨ c = 30 ∨ c = 31 ∨ c = 32) ∧ i = σ.I 0 20) ∨ (c = 0 ∧ i = 20)) → ¬ (((c = 579 ∨ c = 580 ∨ c = 581 ∨ c = 583) ∧ i = σ.I 0 20) ∨ (c = 582 ∧ (i = σ.I 0 20 ∨ i = σ.I 0 20 + 1)) ∨ (c = 555 ∧ i = 30)) → σ2.I c i = σ.I c i := fun c i a b => (F2 c i b).trans (F1 c i a)
    have hR : σ2.R = σ.R := g.2.1.1.trans p.2.1.1
    have hS : σ2.sh = σ.sh := g.2.1.2.1.trans p.2.1.2.1
    have hN : σ2.n = σ.n := g.2.1.2.2.trans p.2.1.2.2
    have A20 : σ2.I 0 20 = σ.I 0 20 + 1 := by
      rw [F2 0 20 (by omega), P1 0 20]
      ((try simp only [at2, rg, fgX, fgM, CQF, and_false, false_and, and_true, true_and, or_false, false_or, or_true, true_or, if_false, if_true, not_false_eq_true, not_true_eq_false])  <;> (repeat' split)) <;> first | rfl | omega
    have A26 : σ2.I 26 (σ.I 0 20) = x1 := by
      rw [F2 26 (σ.I 0 20) (by omega), P1 26 (σ.I 0 20)]
      ((try simp only [at2, rg, fgX, fgM, CQF, and_false, false_and, and_true, true_and, or_false, false_or, or_true, true_or, if_false, if_true, not_false_eq_true, not_true_eq_false])  <;> (repeat' split)) <;> first | rfl | omega
    have A28 : σ2.I 28 (σ.I 0 20) = σ.I 0 22 := by
      rw [F2 28 (σ.I 0 20) (by omega), P1 28 (σ.I 0 20)]
      ((try simp only [at2, rg, fgX, fgM, CQF, and_false, false_and, and_true, true_and, or_false, false_or, or_true, true_or, if_false, if_true, not_false_eq_true, not_true_eq_false])  <;> (repeat' split)) <;> first | rfl | omega
    have A29 : σ2.I 29 (σ.I 0 20) = 0 := by
      rw [F2 29 (σ.I 0 20) (by omega), P1 29 (σ.I 0 20)]
      ((try simp only [at2, rg, fgX, fgM, CQF, and_false, false_and, and_true, true_and, or_false, false_or, or_true, true_or, if_false, if_true, not_false_eq_true, not_true_eq_false])  <;> (repeat' split)) <;> first | rfl | omega
    have A30 : σ2.I 30 (σ.I 0 20) = y2 := by
      rw [F2 30 (σ.I 0 20) (by omega), P1 30 (σ.I 0 20)]
      ((try simp only [at2, rg, fgX, fgM, CQF, and_false, false_and, and_true, true_and, or_false, false_or, or_true, true_or, if_false, if_true, not_false_eq_true, not_true_eq_false])  <;> (repeat' split)) <;> first | rfl | omega
    have A31 : σ2.I 31 (σ.I 0 20) = σ.I 0 29 := by
      rw [F2 31 (σ.I 0 20) (by omega), P1 31 (σ.I 0 20)]
      ((try simp only [at2, rg, fgX, fgM, CQF, and_false, false_and, and_true, true_and, or_false, false_or, or_true, true_or, if_false, if_true, not_false_eq_true, not_true_eq_false])  <;> (repeat' split)) <;> first | rfl | omega
    have A32 : σ2.I 32 (σ.I 0 20) = 0 := by
      rw [F2 32 (σ.I 0 20) (by omega), P1 32 (σ.I 0 20)]
      ((try simp only [at2, rg, fgX, fgM, CQF, and_false, false_and, and_true, true_and, or_false, false_or, or_true, true_or, if_false, if_true, not_false_eq_true, not_true_eq_false])  <;> (repeat' split)) <;> first | rfl | omega
    have B30 : σ2.I 555 30 = σ.I 0 20 + 1 := by
      rw [P2 555 30]
      ((try simp only [at2, rg, fgX, fgM, CQF, and_false, false_and, and_true, true_and, or_false, false_or, or_true, true_or, if_false, if_true, not_false_eq_true, not_true_eq_false])  <;> (repeat' split)) <;> first | rfl | omega
    have B579 : σ2.I 579 (σ.I 0 20) = x1 := by
      rw [P2 579 (σ.I 0 20)]
      ((try simp only [at2, rg, fgX, fgM, CQF, and_false, false_and, and_true, true_and, or_false, false_or, or_true, true_or, if_false, if_true, not_false_eq_true, not_true_eq_false])  <;> (repeat' split)) <;> first | rfl | omega
    have B580 : σ2.I 580 (σ.I 0 20) = σ.I 0 22 := by
      rw [P2 580 (σ.I 0 20)]
      ((try simp only [at2, rg, fgX, fgM, CQF, and_false, false_and, and_true, true_and, or_false, false_or, or_true, true_or, if_false, if_true, not_false_eq_true, not_true_eq_false])  <;> (repeat' split)) <;> first | rfl | omega
    have B581 : σ2.I 581 (σ.I 0 20) = 0 := by
      rw [P2 581 (σ.I 0 20)]
      ((try simp only [at2, rg, fgX, fgM, CQF, and_false, false_and, and_true, true_and, or_false, false_or, or_true, true_or, if_false, if_true, not_false_eq_true, not_true_eq_false])  <;> (repeat' split)) <;> first | rfl | omega
    have B582 : σ2.I 582 (σ.I 0 20) = σ.I 555 44 := by
      rw [P2 582 (σ.I 0 20)]
      ((try simp only [at2, rg, fgX, fgM, CQF, and_false, false_and, and_true, true_and, or_false, false_or, or_true, true_or, if_false, if_true, not_false_eq_true, not_true_eq_false])  <;> (repeat' split)) <;> first | rfl | omega
    have B582s : σ2.I 582 (σ.I 0 20 + 1) = σ.I 555 44 := by
      rw [P2 582 (σ.I 0 20 + 1)]
      ((try simp only [at2, rg, fgX, fgM, CQF, and_false, false_and, and_true, true_and, or_false, false_or, or_true, true_or, if_false, if_true, not_false_eq_true, not_true_eq_false])  <;> (repeat' split)) <;> first | rfl | omega
    have B583 : σ2.I 583 (σ.I 0 20) = y2 := by
      rw [P2 583 (σ.I 0 20)]
      ((try simp only [at2, rg, fgX, fgM, CQF, and_false, false_and, and_true, true_and, or_false, false_or, or_true, true_or, if_false, if_true, not_false_eq_true, not_true_eq_false])  <;> (repeat' split)) <;> first | rfl | omega
    have nv : vaE σ2 (σ.I 0 20) := by
      
      have k1 : σ2.I 16 (σ2.I 26 (σ.I 0 20)) = 2 := by rw [A26, F 16 x1 (by omega) (by omega)]; exact w.1.2.2
      refine ⟨⟨by rw [A26, B579], by rw [A26]; exact w.1.1, by rw [A26, F 0 9 (by omega) (by omega)]; exact w.1.2.1⟩, ⟨by rw [A28, B580], by rw [A29, B581], by rw [A29]; omega, by rw [A29]; omega⟩, by rw [A32]; omega, fun q => by omega, fun q => by omega, fun _ => ⟨by rw [B582s, B582], A32, A29⟩, fun _ => A30.trans B583.symm, fun q => by omega, fun q => by omega⟩
    refine ⟨by rw [g.1, p.1, if_neg (show ¬ ¬ (0 ≤ x1 ∧ x1 < σ.I 0 9 ∧ σ.I 16 x1 = 2) from fun z => z w.1), if_neg w.2, if_neg (show ¬ ¬ (0 ≤ x1 ∧ x1 < σ.I 0 9 ∧ σ.I 577 x1 = 2) from fun z => z (wq.mpr w.1))], r.Lay.sf (s1.tr s2), RK_cg hS hN (F 0 1 (by omega) (by omega)) (F 0 41 (by omega) (by omega)) (fun i => F 211 i (by omega) (by omega)) r.RK, ?_, ?_, ?_, ?_, ?_, ?_, ?_, ?_, ?_, ?_, ?_, ?_, ?_, ?_, ?_, ?_, ?_, ?_, ?_, ?_, ?_, ?_, ?_, ?_, ?_⟩
    · exact rTP_cg (fun c i h => F c i (by unfold fTP at h; omega) (by unfold fTP at h; omega)) r.TP
    · exact rFL_cg (fun c i h => F c i (by unfold fFL at h; omega) (by unfold fFL at h; omega)) r.FL
    · exact rVS_cg (fun c i h => F c i (by unfold fVS at h; omega) (by unfold fVS at h; omega)) r.VS
    · exact rOB_cg (fun c i h => F c i (by unfold fOB at h; omega) (by unfold fOB at h; omega)) r.OB
    · exact VA_pl va A20 B30 (fun i h => F 0 i (by omega) (by omega)) (fun i h => F 555 i (by omega) (by omega)) (funext fun i => F 16 i (by omega) (by omega)) (by omega) (fun c i h q => F c i (by unfold cVA at h; omega) (by unfold cVA at h; omega)) (fun i q => by
        by_cases e : i = σ.I 0 20
        · rw [e, B582, ← vb1.2.1, va1.1.1]
        · exact F 582 i (by omega) (by omega)) (fun i q => F 584 i (by omega) (by omega)) (fun c h => funext fun i => F c i (by unfold cTK at h; omega) (by unfold cTK at h; omega)) (F 18 7 (by omega) (by omega)) (funext fun i => F 35 i (by omega) (by omega)) (funext fun i => F 585 i (by omega) (by omega)) ⟨A28, A29, A31, A32⟩ B582s (by rw [A26, w.1.2.2]; omega) nv
    · have bd := r.BD
      refine ⟨⟨fun i h0 h1 => by rw [F 39 i (by omega) (by omega)]; exact bd.1.1 i h0 h1, fun i h0 h1 => by rw [F 40 i (by omega) (by omega)]; exact bd.1.2.1 i h0 h1, fun i h0 h1 => by rw [F 41 i (by omega) (by omega)]; exact bd.1.2.2.1 i h0 h1, fun i h0 h1 => ?_⟩, fun i h0 h1 => by rw [F 587 i (by omega) (by omega)]; exact bd.2.1 i h0 h1, fun i h0 h1 => by rw [F 590 i (by omega) (by omega)]; exact bd.2.2.1 i h0 h1, fun i h0 h1 => ?_, fun i h0 h1 => by rw [F 21 i (by omega) (by omega)]; exact bd.2.2.2.2.1 i h0 h1, fun i h0 h1 => by rw [F 20 i (by omega) (by omega)]; exact bd.2.2.2.2.2 i h0 h1⟩
      · by_cases e : i = σ.I 0 20
        · rw [e, A32]; omega
        · rw [F 32 i (by omega) (by omega)]; exact bd.1.2.2.2 i h0 h1
      · rw [F 584 i (by omega) (by omega)]; exact bd.2.2.2.1 i h0 h1
    · exact TE_pl r.TE va (by omega) (fun i h => F 0 i (by omega) (by omega)) (by rw [F 0 9 (by omega) (by omega)]; omega) (fun f _ _ => F 16 f (by omega) (by omega)) (fun c i h q => F c i (by omega) (by omega)) (fun _ => A31) (fun c h => funext fun i => F c i (by omega) (by omega)) (F 18 7 (by omega) (by omega))
    · exact PK_pl r.PK (by omega) (F 0 31 (by omega) (by omega)) (F 0 39 (by omega) (by omega)) (fun c h => funext fun i => F c i (by omega) (by omega))
    · exact rUS_cg (fun c i h => F c i (by unfold fUS at h; omega) (by unfold fUS at h; omega)) r.US
    · exact rFO_cg (fun c i h => F c i (by unfold fFO at h; omega) (by unfold fFO at h; omega)) r.FO
    · exact rSH_cg (fun c i h => F c i (by unfold fSH at h; omega) (by unfold fSH at h; omega)) r.SH
    · exact rSW_cg (fun c i h => F c i (by unfold fSW at h; omega) (by unfold fSW at h; omega)) r.SW
    · exact rHI_cg (fun c i h => F c i (by unfold fHI at h; omega) (by unfold fHI at h; omega)) r.HI
    · exact rLN_cg (fun c i h => F c i (by unfold fLN at h; omega) (by unfold fLN at h; omega)) r.LN
    · exact rMK_cg (fun c i h => F c i (by unfold fMK at h; omega) (by unfold fMK at h; omega)) r.MK
    · exact GR_pl r.GR (fun i h => F 0 i (by omega) (by omega)) (fun i h => F 555 i (by omega) (by omega)) (fun c h => funext fun i => F c i (by omega) (by omega)) (by
        by_cases e : σ.I 0 31 = σ.I 0 20
        · rw [e, B582, ← vb1.2.1, va1.1.1]
        · exact F 582 _ (by omega) (by omega))
    · exact rTT_cg (fun c i h => F c i (by unfold fTT at h; omega) (by unfold fTT at h; omega)) r.TT
    · exact rMT_cg (fun c i h => F c i (by unfold fMT at h; omega) (by unfold fMT at h; omega)) r.MT
    · exact rSC_cg (fun c i h => F c i (by unfold fSC at h; omega) (by unfold fSC at h; omega)) r.SC
    · exact rQU_cg (fun c i h => F c i (by unfold fQU at h; omega) (by unfold fQU at h; omega)) r.QU
    · exact rKQ_cg (fun c i h => F c i (by unfold fKQ at h; omega) (by unfold fKQ at h; omega)) r.KQ
    · exact rHQ_cg (fun c i h => F c i (by unfold fHQ at h; omega) (by unfold fHQ at h; omega)) r.HQ
    · exact rPP_cg (fun c i h => F c i (by unfold fPP at h; omega) (by unfold fPP at h; omega)) (by rw [hR]) (by rw [hR]) r.PP
    · exact rAN_cg (fun c i h => F c i (by unfold fAN at h; omega) (by unfold fAN at h; omega)) hR hS hN r.AN
    · exact rSE_cg r.SE
  · refine OPI.mk (sp_X0_number (by omega) r.Lay ⟨va1.2.1.1, va1.2.1.2.1⟩ ⟨by omega, by omega⟩ ⟨v22, by omega⟩ v29 (by omega) fl.1.2 h1 h2) (fun y σ1 p s1 => by
        have S : ∀ (c : Nat) (i : Int), 555 ≤ c → σ1.I c i = σ.I c i := fun c i _ => (congrFun (congrFun p.2.2 c) i).trans (if_neg w)
        exact sp_X9_number (by omega) (r.Lay.sf s1) (by rw [S 555 45 (by omega), S 555 30 (by omega)]; omega) (by rw [S 555 45 (by omega), S 555 30 (by omega)]; omega) (by rw [S 555 38 (by omega)]; omega) (by rw [S 555 44 (by omega)]; omega) (by rw [S 555 27 (by omega)]; omega) h1 h2) ?_
    intro y σ1 z σ2 p s1 g s2
    have S : ∀ (c : Nat) (i : Int), 555 ≤ c → σ1.I c i = σ.I c i := fun c i _ => (congrFun (congrFun p.2.2 c) i).trans (if_neg w)
    rw [S 555 30 (by omega), S 555 45 (by omega), S 555 38 (by omega), S 555 44 (by omega), S 555 27 (by omega), S 577 x1 (by omega), ← va1.1.1, ← va1.1.2.1, ← va1.1.2.2.1, ← fl1.1] at g
    have w2 : ¬ ((0 ≤ x1 ∧ x1 < σ.I 0 9 ∧ σ.I 577 x1 = 2) ∧ ¬ (σ.I 0 20 - σ.I 0 31 = 24 ∨ σ.I 0 20 = 6000)) := fun z => w ⟨wq.mp z.1, z.2⟩
    have F1 : ∀ (c : Nat) (i : Int), ¬ (c = 0 ∧ c = 1) → σ1.I c i = σ.I c i := by
      intro c i q
      rw [congrFun (congrFun p.2.2 c) i]
      exact if_neg w
    have F2 : ∀ (c : Nat) (i : Int), ¬ (c = 0 ∧ c = 1) → σ2.I c i = σ1.I c i := by
      intro c i q
      rw [congrFun (congrFun g.2.2 c) i]
      exact if_neg w2
    have F : ∀ (c : Nat) (i : Int), ¬ (c = 0 ∧ c = 1) → ¬ (c = 0 ∧ c = 1) → σ2.I c i = σ.I c i := fun c i a b => (F2 c i b).trans (F1 c i a)
    have hR : σ2.R = σ.R := g.2.1.1.trans p.2.1.1
    have hS : σ2.sh = σ.sh := g.2.1.2.1.trans p.2.1.2.1
    have hN : σ2.n = σ.n := g.2.1.2.2.trans p.2.1.2.2
    refine ⟨by
      rw [g.1, p.1]
      by_cases q : (0 ≤ x1 ∧ x1 < σ.I 0 9 ∧ σ.I 16 x1 = 2)
      · have q2 : (σ.I 0 20 - σ.I 0 31 = 24 ∨ σ.I 0 20 = 6000) := Classical.byContradiction fun z => w ⟨q, z⟩
        rw [if_neg (show ¬ ¬ (0 ≤ x1 ∧ x1 < σ.I 0 9 ∧ σ.I 16 x1 = 2) from fun z => z q), if_neg (show ¬ ¬ (0 ≤ x1 ∧ x1 < σ.I 0 9 ∧ σ.I 577 x1 = 2) from fun z => z (wq.mpr q))]
      · rw [if_pos q, if_pos (show ¬ (0 ≤ x1 ∧ x1 < σ.I 0 9 ∧ σ.I 577 x1 = 2) from fun z => q (wq.mp z))], r.Lay.sf (s1.tr s2), RK_cg hS hN (F 0 1 (by omega) (by omega)) (F 0 41 (by omega) (by omega)) (fun i => F 211 i (by omega) (by omega)) r.RK, ?_, ?_, ?_, ?_, ?_, ?_, ?_, ?_, ?_, ?_, ?_, ?_, ?_, ?_, ?_, ?_, ?_, ?_, ?_, ?_, ?_, ?_, ?_, ?_, ?_⟩
    · exact rTP_cg (fun c i h => F c i (by unfold fTP at h; omega) (by unfold fTP at h; omega)) r.TP
    · exact rFL_cg (fun c i h => F c i (by unfold fFL at h; omega) (by unfold fFL at h; omega)) r.FL
    · exact rVS_cg (fun c i h => F c i (by unfold fVS at h; omega) (by unfold fVS at h; omega)) r.VS
    · exact rOB_cg (fun c i h => F c i (by unfold fOB at h; omega) (by unfold fOB at h; omega)) r.OB
    · exact rVA_cg (fun c i h => F c i (by unfold fVA at h; omega) (by unfold fVA at h; omega)) r.VA
    · exact rBD_cg (fun c i h => F c i (by unfold fBD at h; omega) (by unfold fBD at h; omega)) r.BD
    · exact rTE_cg (fun c i h => F c i (by unfold fTE at h; omega) (by unfold fTE at h; omega)) r.TE
    · exact rPK_cg (fun c i h => F c i (by unfold fPK at h; omega) (by unfold fPK at h; omega)) r.PK
    · exact rUS_cg (fun c i h => F c i (by unfold fUS at h; omega) (by unfold fUS at h; omega)) r.US
    · exact rFO_cg (fun c i h => F c i (by unfold fFO at h; omega) (by unfold fFO at h; omega)) r.FO
    · exact rSH_cg (fun c i h => F c i (by unfold fSH at h; omega) (by unfold fSH at h; omega)) r.SH
    · exact rSW_cg (fun c i h => F c i (by unfold fSW at h; omega) (by unfold fSW at h; omega)) r.SW
    · exact rHI_cg (fun c i h => F c i (by unfold fHI at h; omega) (by unfold fHI at h; omega)) r.HI
    · exact rLN_cg (fun c i h => F c i (by unfold fLN at h; omega) (by unfold fLN at h; omega)) r.LN
    · exact rMK_cg (fun c i h => F c i (by unfold fMK at h; omega) (by unfold fMK at h; omega)) r.MK
    · exact rGR_cg (fun c i h => F c i (by unfold fGR at h; omega) (by unfold fGR at h; omega)) r.GR
    · exact rTT_cg (fun c i h => F c i (by unfold fTT at h; omega) (by unfold fTT at h; omega)) r.TT
    · exact rMT_cg (fun c i h => F c i (by unfold fMT at h; omega) (by unfold fMT at h; omega)) r.MT
    · exact rSC_cg (fun c i h => F c i (by unfold fSC at h; omega) (by unfold fSC at h; omega)) r.SC
    · exact rQU_cg (fun c i h => F c i (by unfold fQU at h; omega) (by unfold fQU at h; omega)) r.QU
    · exact rKQ_cg (fun c i h => F c i (by unfold fKQ at h; omega) (by unfold fKQ at h; omega)) r.KQ
    · exact rHQ_cg (fun c i h => F c i (by unfold fHQ at h; omega) (by unfold fHQ at h; omega)) r.HQ
    · exact rPP_cg (fun c i h => F c i (by unfold fPP at h; omega) (by unfold fPP at h; omega)) (by rw [hR]) (by rw [hR]) r.PP
    · exact rAN_cg (fun c i h => F c i (by unfold fAN at h; omega) (by unfold fAN at h; omega)) hR hS hN r.AN
    · exact rSE_cg r.SE

theorem op_place (hd : 30 ≤ d) : OP_place E d RR := by
  intro k σ hk r x1 x2 x3 h1 h2 h3
  have va := r.VA
  have va1 := va.1
  have vb1 := va.2.1
  have v22 := VA_22 va
  have v29 := VA_29 va
  have fl := r.FL
  have fl1 := fl.1
  have wq : ((0 ≤ x1 ∧ x1 < σ.I 0 9 ∧ σ.I 577 x1 = 3) ∧ (-1000000 ≤ x2 ∧ x2 ≤ 1000000) ∧ (-1000000 ≤ x3 ∧ x3 ≤ 1000000)) ↔ ((0 ≤ x1 ∧ x1 < σ.I 0 9 ∧ σ.I 16 x1 = 3) ∧ (-1000000 ≤ x2 ∧ x2 ≤ 1000000) ∧ (-1000000 ≤ x3 ∧ x3 ≤ 1000000)) := by
    constructor
    · rintro ⟨⟨a, b, c⟩, e⟩
      have q := (fl.2 x1 a b).1.1
      exact ⟨⟨a, b, by omega⟩, e⟩
    · rintro ⟨⟨a, b, c⟩, e⟩
      have q := (fl.2 x1 a b).1.1
      exact ⟨⟨a, b, by omega⟩, e⟩
  by_cases w : ((0 ≤ x1 ∧ x1 < σ.I 0 9 ∧ σ.I 16 x1 = 3) ∧ (-1000000 ≤ x2 ∧ x2 ≤ 1000000) ∧ (-1000000 ≤ x3 ∧ x3 ≤ 1000000)) ∧ ¬ (σ.I 0 20 - σ.I 0 31 = 24 ∨ σ.I 0 20 = 6000)
  · refine OPI.mk (sp_X0_place (by omega) r.Lay ⟨va1.2.1.1, va1.2.1.2.1⟩ ⟨by omega, by omega⟩ ⟨v22, by omega⟩ v29 (by omega) fl.1.2 h1 h2 h3) (fun y σ1 p s1 => by
        have P1 := fun (c : Nat) (i : Int) => (congrFun (congrFun p.2.2 c) i).trans (if_pos w)
        have S : ∀ (c : Nat) (i : Int), 555 ≤ c → σ1.I c i = σ.I c i := by
          intro c i q
          rw [P1 c i]
          ((try simp only [at2, rg, fgX, fgM, CQF, and_false, false_and, and_true, true_and, or_false, false_or, or_true, true_or, if_false, if_true, not_false_eq_true, not_true_eq_false])  <;> (repeat' split)) <;> first | rfl | (exfalso; omega)
        exact sp_X9_place (by omega) (r.Lay.sf s1) (by rw [S 555 45 (by omega), S 555 30 (by omega)]; omega) (by rw [S 555 45 (by omega), S 555 30 (by omega)]; omega) (by rw [S 555 38 (by omega)]; omega) (by rw [S 555 44 (by omega)]; omega) (by rw [S 555 27 (by omega)]; omega) h1 h2 h3) ?_
    intro y σ1 z σ2 p s1 g s2
    have P1 := fun (c : Nat) (i : Int) => (congrFun (congrFun p.2.2 c) i).trans (if_pos w)
    have S : ∀ (c : Nat) (i : Int), 555 ≤ c → σ1.I c i = σ.I c i := by
      intro c i q
      rw [P1 c i]
      ((try simp only [at2, rg, fgX, fgM, CQF, and_false, false_and, and_true, true_and, or_false, false_or, or_true, true_or, if_false, if_true, not_false_eq_true, not_true_eq_false])  <;> (repeat' split)) <;> first | rfl | (exfalso; omega)
    rw [S 555 30 (by omega), S 555 45 (by omega), S 555 38 (by omega), S 555 44 (by omega), S 555 27 (by omega), S 577 x1 (by omega), ← va1.1.1, ← va1.1.2.1, ← va1.1.2.2.1, ← fl1.1] at g
    have w2 := wq.mpr w.1
    have P2 := fun (c : Nat) (i : Int) => (congrFun (congrFun g.2.2 c) i).trans (if_pos ⟨w2, w.2⟩)
    have F1 : ∀ (c : Nat) (i : Int), ¬ (((c = 26 ∨ c = 28 ∨ c = 29 ∨ c = 30 ∨ c = 31 ∨ c = 32) ∧ i = σ.I 0 20) ∨ (c = 0 ∧ i = 20)) → σ1.I c i = σ.I c i := by
      intro c i q
      rw [P1 c i]
      ((try simp only [at2, rg, fgX, fgM, CQF, and_false, false_and, and_true, true_and, or_false, false_or, or_true, true_or, if_false, if_true, not_false_eq_true, not_true_eq_false])  <;> (repeat' split)) <;> first | rfl | (exfalso; omega)
    have F2 : ∀ (c : Nat) (i : Int), ¬ (((c = 579 ∨ c = 580 ∨ c = 581 ∨ c = 583) ∧ i = σ.I 0 20) ∨ (c = 582 ∧ (i = σ.I 0 20 ∨ i = σ.I 0 20 + 1)) ∨ (c = 555 ∧ i = 30) ∨ (c = 584 ∧ 4 * σ.I 0 20 ≤ i ∧ i < 4 * σ.I 0 20 + 4)) → σ2.I c i = σ1.I c i := by
      intro c i q
      rw [P2 c i]
      ((try simp only [at2, rg, fgX, fgM, CQF, and_false, false_and, and_true, true_and, or_false, false_or, or_true, true_or, if_false, if_true, not_false_eq_true, not_true_eq_false])  <;> (repeat' split)) <;> first | rfl | (exfalso; omega)
    have F : ∀ (c : Nat) (i : Int), ¬ (((c = 26 ∨ c = 28 ∨ c = 29 ∨ c = 30 ∨ c = 31 ∨ c = 32) ∧ i = σ.I 0 20) ∨ (c = 0 ∧ i = 20)) → ¬ (((c = 579 ∨ c = 580 ∨ c = 581 ∨ c = 583) ∧ i = σ.I 0 20) ∨ (c = 582 ∧ (i = σ.I 0 20 ∨ i = σ.I 0 20 + 1)) ∨ (c = 555 ∧ i = 30) ∨ (c = 584 ∧ 4 * σ.I 0 20 ≤ i ∧ i < 4 * σ.I 0 20 + 4)) → σ2.I c i = σ.I c i := fun c i a b => (F2 c i b).trans (F1 c i a)
    have hR : σ2.R = σ.R := g.2.1.1.trans p.2.1.1
    have hS : σ2.sh = σ.sh := g.2.1.2.1.trans p.2.1.2.1
    have hN : σ2.n = σ.n := g.2.1.2.2.trans p.2.1.2.2
    have A20 : σ2.I 0 20 = σ.I 0 20 + 1 := by
      rw [F2 0 20 (by omega), P1 0 20]
      ((try simp only [at2, rg, fgX, fgM, CQF, and_false, false_and, and_true, true_and, or_false, false_or, or_true, true_or, if_false, if_true, not_false_eq_true, not_true_eq_false])  <;> (repeat' split)) <;> first | rfl | omega
    have A26 : σ2.I 26 (σ.I 0 20) = x1 := by
      rw [F2 26 (σ.I 0 20) (by omega), P1 26 (σ.I 0 20)]
      ((try simp only [at2, rg, fgX, fgM, CQF, and_false, false_and, and_true, true_and, or_false, false_or, or_true, true_or, if_false, if_true, not_false_eq_true, not_true_eq_false])  <;> (repeat' split)) <;> first | rfl | omega
    have A28 : σ2.I 28 (σ.I 0 20) = σ.I 0 22 := by
      rw [F2 28 (σ.I 0 20) (by omega), P1 28 (σ.I 0 20)]
      ((try simp only [at2, rg, fgX, fgM, CQF, and_false, false_and, and_true, true_and, or_false, false_or, or_true, true_or, if_false, if_true, not_false_eq_true, not_true_eq_false])  <;> (repeat' split)) <;> first | rfl | omega
    have A29 : σ2.I 29 (σ.I 0 20) = 0 := by
      rw [F2 29 (σ.I 0 20) (by omega), P1 29 (σ.I 0 20)]
      ((try simp only [at2, rg, fgX, fgM, CQF, and_false, false_and, and_true, true_and, or_false, false_or, or_true, true_or, if_false, if_true, not_false_eq_true, not_true_eq_false])  <;> (repeat' split)) <;> first | rfl | omega
    have A30 : σ2.I 30 (σ.I 0 20) = pk2 x2 x3 := by
      rw [F2 30 (σ.I 0 20) (by omega), P1 30 (σ.I 0 20)]
      ((try simp only [at2, rg, fgX, fgM, CQF, and_false, false_and, and_true, true_and, or_false, false_or, or_true, true_or, if_false, if_true, not_false_eq_true, not_true_eq_false])  <;> (repeat' split)) <;> first | rfl | omega
    have A31 : σ2.I 31 (σ.I 0 20) = σ.I 0 29 := by
      rw [F2 31 (σ.I 0 20) (by omega), P1 31 (σ.I 0 20)]
      ((try simp only [at2, rg, fgX, fgM, CQF, and_false, false_and, and_true, true_and, or_false, false_or, or_true, true_or, if_false, if_true, not_false_eq_true, not_true_eq_false])  <;> (repeat' split)) <;> first | rfl | omega
    have A32 : σ2.I 32 (σ.I 0 20) = 0 := by
      rw [F2 32 (σ.I 0 20) (by omega), P1 32 (σ.I 0 20)]
      ((try simp only [at2, rg, fgX, fgM, CQF, and_false, false_and, and_true, true_and, or_false, false_or, or_true, true_or, if_false, if_true, not_false_eq_true, not_true_eq_false])  <;> (repeat' split)) <;> first | rfl | omega
    have B30 : σ2.I 555 30 = σ.I 0 20 + 1 := by
      rw [P2 555 30]
      ((try simp only [at2, rg, fgX, fgM, CQF, and_false, false_and, and_true, true_and, or_false, false_or, or_true, true_or, if_false, if_true, not_false_eq_true, not_true_eq_false])  <;> (repeat' split)) <;> first | rfl | omega
    have B579 : σ2.I 579 (σ.I 0 20) = x1 := by
      rw [P2 579 (σ.I 0 20)]
      ((try simp only [at2, rg, fgX, fgM, CQF, and_false, false_and, and_true, true_and, or_false, false_or, or_true, true_or, if_false, if_true, not_false_eq_true, not_true_eq_false])  <;> (repeat' split)) <;> first | rfl | omega
    have B580 : σ2.I 580 (σ.I 0 20) = σ.I 0 22 := by
      rw [P2 580 (σ.I 0 20)]
      ((try simp only [at2, rg, fgX, fgM, CQF, and_false, false_and, and_true, true_and, or_false, false_or, or_true, true_or, if_false, if_true, not_false_eq_true, not_true_eq_false])  <;> (repeat' split)) <;> first | rfl | omega
    have B581 : σ2.I 581 (σ.I 0 20) = 0 := by
      rw [P2 581 (σ.I 0 20)]
      ((try simp only [at2, rg, fgX, fgM, CQF, and_false, false_and, and_true, true_and, or_false, false_or, or_true, true_or, if_false, if_true, not_false_eq_true, not_true_eq_false])  <;> (repeat' split)) <;> first | rfl | omega
    have B582 : σ2.I 582 (σ.I 0 20) = σ.I 555 44 := by
      rw [P2 582 (σ.I 0 20)]
      ((try simp only [at2, rg, fgX, fgM, CQF, and_false, false_and, and_true, true_and, or_false, false_or, or_true, true_or, if_false, if_true, not_false_eq_true, not_true_eq_false])  <;> (repeat' split)) <;> first | rfl | omega
    have B582s : σ2.I 582 (σ.I 0 20 + 1) = σ.I 555 44 := by
      rw [P2 582 (σ.I 0 20 + 1)]
      ((try simp only [at2, rg, fgX, fgM, CQF, and_false, false_and, and_true, true_and, or_false, false_or, or_true, true_or, if_false, if_true, not_false_eq_true, not_true_eq_false])  <;> (repeat' split)) <;> first | rfl | omega
    have B583 : σ2.I 583 (σ.I 0 20) = 0 := by
      rw [P2 583 (σ.I 0 20)]
      ((try simp only [at2, rg, fgX, fgM, CQF, and_false, false_and, and_true, true_and, or_false, false_or, or_true, true_or, if_false, if_true, not_false_eq_true, not_true_eq_false])  <;> (repeat' split)) <;> first | rfl | omega
    have B584_0 : σ2.I 584 (4 * σ.I 0 20 + 0) = x2 := by
      rw [P2 584 (4 * σ.I 0 20 + 0)]
      ((try simp only [at2, rg, fgX, fgM, CQF, and_false, false_and, and_true, true_and, or_false, false_or, or_true, true_or, if_false, if_true, not_false_eq_true, not_true_eq_false])  <;> (repeat' split)) <;> first | rfl | omega
    have B584_1 : σ2.I 584 (4 * σ.I 0 20 + 1) = x3 := by
      rw [P2 584 (4 * σ.I 0 20 + 1)]
      ((try simp only [at2, rg, fgX, fgM, CQF, and_false, false_and, and_true, true_and, or_false, false_or, or_true, true_or, if_false, if_true, not_false_eq_true, not_true_eq_false])  <;> (repeat' split)) <;> first | rfl | omega
    have B584_2 : σ2.I 584 (4 * σ.I 0 20 + 2) = 0 := by
      rw [P2 584 (4 * σ.I 0 20 + 2)]
      ((try simp only [at2, rg, fgX, fgM, CQF, and_false, false_and, and_true, true_and, or_false, false_or, or_true, true_or, if_false, if_true, not_false_eq_true, not_true_eq_false])  <;> (repeat' split)) <;> first | rfl | omega
    have B584_3 : σ2.I 584 (4 * σ.I 0 20 + 3) = 0 := by
      rw [P2 584 (4 * σ.I 0 20 + 3)]
      ((try simp only [at2, rg, fgX, fgM, CQF, and_false, false_and, and_true, true_and, or_false, false_or, or_true, true_or, if_false, if_true, not_false_eq_true, not_true_eq_false])  <;> (repeat' split)) <;> first | rfl | omega
    have nv : vaE σ2 (σ.I 0 20) := by
      have b0 := B584_0
      rw [Int.add_zero] at b0
      have k1 : σ2.I 16 (σ2.I 26 (σ.I 0 20)) = 3 := by rw [A26, F 16 x1 (by omega) (by omega)]; exact w.1.1.2.2
      refine ⟨⟨by rw [A26, B579], by rw [A26]; exact w.1.1.1, by rw [A26, F 0 9 (by omega) (by omega)]; exact w.1.1.2.1⟩, ⟨by rw [A28, B580], by rw [A29, B581], by rw [A29]; omega, by rw [A29]; omega⟩, by rw [A32]; omega, fun q => by omega, fun q => by omega, fun _ => ⟨by rw [B582s, B582], A32, A29⟩, fun q => by omega, fun _ => ⟨by rw [A30, b0, B584_1], by rw [b0]; omega, by rw [B584_1]; omega⟩, fun q => by omega⟩
    refine ⟨by rw [g.1, p.1, if_neg (show ¬ ¬ ((0 ≤ x1 ∧ x1 < σ.I 0 9 ∧ σ.I 16 x1 = 3) ∧ (-1000000 ≤ x2 ∧ x2 ≤ 1000000) ∧ (-1000000 ≤ x3 ∧ x3 ≤ 1000000)) from fun z => z w.1), if_neg w.2, if_neg (show ¬ ¬ ((0 ≤ x1 ∧ x1 < σ.I 0 9 ∧ σ.I 577 x1 = 3) ∧ (-1000000 ≤ x2 ∧ x2 ≤ 1000000) ∧ (-1000000 ≤ x3 ∧ x3 ≤ 1000000)) from fun z => z (wq.mpr w.1))], r.Lay.sf (s1.tr s2), RK_cg hS hN (F 0 1 (by omega) (by omega)) (F 0 41 (by omega) (by omega)) (fun i => F 211 i (by omega) (by omega)) r.RK, ?_, ?_, ?_, ?_, ?_, ?_, ?_, ?_, ?_, ?_, ?_, ?_, ?_, ?_, ?_, ?_, ?_, ?_, ?_, ?_, ?_, ?_, ?_, ?_, ?_⟩
    · exact rTP_cg (fun c i h => F c i (by unfold fTP at h; omega) (by unfold fTP at h; omega)) r.TP
    · exact rFL_cg (fun c i h => F c i (by unfold fFL at h; omega) (by unfold fFL at h; omega)) r.FL
    · exact rVS_cg (fun c i h => F c i (by unfold fVS at h; omega) (by unfold fVS at h; omega)) r.VS
    · exact rOB_cg (fun c i h => F c i (by unfold fOB at h; omega) (by unfold fOB at h; omega)) r.OB
    · exact VA_pl va A20 B30 (fun i h => F 0 i (by omega) (by omega)) (fun i h => F 555 i (by omega) (by omega)) (funext fun i => F 16 i (by omega) (by omega)) (by omega) (fun c i h q => F c i (by unfold cVA at h; omega) (by unfold cVA at h; omega)) (fun i q => by
        by_cases e : i = σ.I 0 20
        · rw [e, B582, ← vb1.2.1, va1.1.1]
        · exact F 582 i (by omega) (by omega)) (fun i q => F 584 i (by omega) (by omega)) (fun c h => funext fun i => F c i (by unfold cTK at h; omega) (by unfold cTK at h; omega)) (F 18 7 (by omega) (by omega)) (funext fun i => F 35 i (by omega) (by omega)) (funext fun i => F 585 i (by omega) (by omega)) ⟨A28, A29, A31, A32⟩ B582s (by rw [A26, w.1.1.2.2]; omega) nv
    · have bd := r.BD
      refine ⟨⟨fun i h0 h1 => by rw [F 39 i (by omega) (by omega)]; exact bd.1.1 i h0 h1, fun i h0 h1 => by rw [F 40 i (by omega) (by omega)]; exact bd.1.2.1 i h0 h1, fun i h0 h1 => by rw [F 41 i (by omega) (by omega)]; exact bd.1.2.2.1 i h0 h1, fun i h0 h1 => ?_⟩, fun i h0 h1 => by rw [F 587 i (by omega) (by omega)]; exact bd.2.1 i h0 h1, fun i h0 h1 => by rw [F 590 i (by omega) (by omega)]; exact bd.2.2.1 i h0 h1, fun i h0 h1 => ?_, fun i h0 h1 => by rw [F 21 i (by omega) (by omega)]; exact bd.2.2.2.2.1 i h0 h1, fun i h0 h1 => by rw [F 20 i (by omega) (by omega)]; exact bd.2.2.2.2.2 i h0 h1⟩
      · by_cases e : i = σ.I 0 20
        · rw [e, A32]; omega
        · rw [F 32 i (by omega) (by omega)]; exact bd.1.2.2.2 i h0 h1
      · by_cases e : 4 * σ.I 0 20 ≤ i ∧ i < 4 * σ.I 0 20 + 4
        · have : i = 4 * σ.I 0 20 + 0 ∨ i = 4 * σ.I 0 20 + 1 ∨ i = 4 * σ.I 0 20 + 2 ∨ i = 4 * σ.I 0 20 + 3 := by omega
          rcases this with q | q | q | q
          · rw [q, B584_0]; omega
          · rw [q, B584_1]; omega
          · rw [q, B584_2]; omega
          · rw [q, B584_3]; omega
        · rw [F 584 i (by omega) (by omega)]; exact bd.2.2.2.1 i h0 h1
    · exact TE_pl r.TE va (by omega) (fun i h => F 0 i (by omega) (by omega)) (by rw [F 0 9 (by omega) (by omega)]; omega) (fun f _ _ => F 16 f (by omega) (by omega)) (fun c i h q => F c i (by omega) (by omega)) (fun _ => A31) (fun c h => funext fun i => F c i (by omega) (by omega)) (F 18 7 (by omega) (by omega))
    · exact PK_pl r.PK (by omega) (F 0 31 (by omega) (by omega)) (F 0 39 (by omega) (by omega)) (fun c h => funext fun i => F c i (by omega) (by omega))
    · exact rUS_cg (fun c i h => F c i (by unfold fUS at h; omega) (by unfold fUS at h; omega)) r.US
    · exact rFO_cg (fun c i h => F c i (by unfold fFO at h; omega) (by unfold fFO at h; omega)) r.FO
    · exact rSH_cg (fun c i h => F c i (by unfold fSH at h; omega) (by unfold fSH at h; omega)) r.SH
    · exact rSW_cg (fun c i h => F c i (by unfold fSW at h; omega) (by unfold fSW at h; omega)) r.SW
    · exact rHI_cg (fun c i h => F c i (by unfold fHI at h; omega) (by unfold fHI at h; omega)) r.HI
    · exact rLN_cg (fun c i h => F c i (by unfold fLN at h; omega) (by unfold fLN at h; omega)) r.LN
    · exact rMK_cg (fun c i h => F c i (by unfold fMK at h; omega) (by unfold fMK at h; omega)) r.MK
    · exact GR_pl r.GR (fun i h => F 0 i (by omega) (by omega)) (fun i h => F 555 i (by omega) (by omega)) (fun c h => funext fun i => F c i (by omega) (by omega)) (by
        by_cases e : σ.I 0 31 = σ.I 0 20
        · rw [e, B582, ← vb1.2.1, va1.1.1]
        · exact F 582 _ (by omega) (by omega))
    · exact rTT_cg (fun c i h => F c i (by unfold fTT at h; omega) (by unfold fTT at h; omega)) r.TT
    · exact rMT_cg (fun c i h => F c i (by unfold fMT at h; omega) (by unfold fMT at h; omega)) r.MT
    · exact rSC_cg (fun c i h => F c i (by unfold fSC at h; omega) (by unfold fSC at h; omega)) r.SC
    · exact rQU_cg (fun c i h => F c i (by unfold fQU at h; omega) (by unfold fQU at h; omega)) r.QU
    · exact rKQ_cg (fun c i h => F c i (by unfold fKQ at h; omega) (by unfold fKQ at h; omega)) r.KQ
    · exact rHQ_cg (fun c i h => F c i (by unfold fHQ at h; omega) (by unfold fHQ at h; omega)) r.HQ
    · exact rPP_cg (fun c i h => F c i (by unfold fPP at h; omega) (by unfold fPP at h; omega)) (by rw [hR]) (by rw [hR]) r.PP
    · exact rAN_cg (fun c i h => F c i (by unfold fAN at h; omega) (by unfold fAN at h; omega)) hR hS hN r.AN
    · exact rSE_cg r.SE
  · refine OPI.mk (sp_X0_place (by omega) r.Lay ⟨va1.2.1.1, va1.2.1.2.1⟩ ⟨by omega, by omega⟩ ⟨v22, by omega⟩ v29 (by omega) fl.1.2 h1 h2 h3) (fun y σ1 p s1 => by
        have S : ∀ (c : Nat) (i : Int), 555 ≤ c → σ1.I c i = σ.I c i := fun c i _ => (congrFun (congrFun p.2.2 c) i).trans (if_neg w)
        exact sp_X9_place (by omega) (r.Lay.sf s1) (by rw [S 555 45 (by omega), S 555 30 (by omega)]; omega) (by rw [S 555 45 (by omega), S 555 30 (by omega)]; omega) (by rw [S 555 38 (by omega)]; omega) (by rw [S 555 44 (by omega)]; omega) (by rw [S 555 27 (by omega)]; omega) h1 h2 h3) ?_
    intro y σ1 z σ2 p s1 g s2
    have S : ∀ (c : Nat) (i : Int), 555 ≤ c → σ1.I c i = σ.I c i := fun c i _ => (congrFun (congrFun p.2.2 c) i).trans (if_neg w)
    rw [S 555 30 (by omega), S 555 45 (by omega), S 555 38 (by omega), S 555 44 (by omega), S 555 27 (by omega), S 577 x1 (by omega), ← va1.1.1, ← va1.1.2.1, ← va1.1.2.2.1, ← fl1.1] at g
    have w2 : ¬ (((0 ≤ x1 ∧ x1 < σ.I 0 9 ∧ σ.I 577 x1 = 3) ∧ (-1000000 ≤ x2 ∧ x2 ≤ 1000000) ∧ (-1000000 ≤ x3 ∧ x3 ≤ 1000000)) ∧ ¬ (σ.I 0 20 - σ.I 0 31 = 24 ∨ σ.I 0 20 = 6000)) := fun z => w ⟨wq.mp z.1, z.2⟩
    have F1 : ∀ (c : Nat) (i : Int), ¬ (c = 0 ∧ c = 1) → σ1.I c i = σ.I c i := by
      intro c i q
      rw [congrFun (congrFun p.2.2 c) i]
      exact if_neg w
    have F2 : ∀ (c : Nat) (i : Int), ¬ (c = 0 ∧ c = 1) → σ2.I c i = σ1.I c i := by
      intro c i q
      rw [congrFun (congrFun g.2.2 c) i]
      exact if_neg w2
    have F : ∀ (c : Nat) (i : Int), ¬ (c = 0 ∧ c = 1) → ¬ (c = 0 ∧ c = 1) → σ2.I c i = σ.I c i := fun c i a b => (F2 c i b).trans (F1 c i a)
    have hR : σ2.R = σ.R := g.2.1.1.trans p.2.1.1
    have hS : σ2.sh = σ.sh := g.2.1.2.1.trans p.2.1.2.1
    have hN : σ2.n = σ.n := g.2.1.2.2.trans p.2.1.2.2
    refine ⟨by
      rw [g.1, p.1]
      by_cases q : ((0 ≤ x1 ∧ x1 < σ.I 0 9 ∧ σ.I 16 x1 = 3) ∧ (-1000000 ≤ x2 ∧ x2 ≤ 1000000) ∧ (-1000000 ≤ x3 ∧ x3 ≤ 1000000))
      · have q2 : (σ.I 0 20 - σ.I 0 31 = 24 ∨ σ.I 0 20 = 6000) := Classical.byContradiction fun z => w ⟨q, z⟩
        rw [if_neg (show ¬ ¬ ((0 ≤ x1 ∧ x1 < σ.I 0 9 ∧ σ.I 16 x1 = 3) ∧ (-1000000 ≤ x2 ∧ x2 ≤ 1000000) ∧ (-1000000 ≤ x3 ∧ x3 ≤ 1000000)) from fun z => z q), if_neg (show ¬ ¬ ((0 ≤ x1 ∧ x1 < σ.I 0 9 ∧ σ.I 577 x1 = 3) ∧ (-1000000 ≤ x2 ∧ x2 ≤ 1000000) ∧ (-1000000 ≤ x3 ∧ x3 ≤ 1000000)) from fun z => z (wq.mpr q))]
      · rw [if_pos q, if_pos (show ¬ ((0 ≤ x1 ∧ x1 < σ.I 0 9 ∧ σ.I 577 x1 = 3) ∧ (-1000000 ≤ x2 ∧ x2 ≤ 1000000) ∧ (-1000000 ≤ x3 ∧ x3 ≤ 1000000)) from fun z => q (wq.mp z))], r.Lay.sf (s1.tr s2), RK_cg hS hN (F 0 1 (by omega) (by omega)) (F 0 41 (by omega) (by omega)) (fun i => F 211 i (by omega) (by omega)) r.RK, ?_, ?_, ?_, ?_, ?_, ?_, ?_, ?_, ?_, ?_, ?_, ?_, ?_, ?_, ?_, ?_, ?_, ?_, ?_, ?_, ?_, ?_, ?_, ?_, ?_⟩
    · exact rTP_cg (fun c i h => F c i (by unfold fTP at h; omega) (by unfold fTP at h; omega)) r.TP
    · exact rFL_cg (fun c i h => F c i (by unfold fFL at h; omega) (by unfold fFL at h; omega)) r.FL
    · exact rVS_cg (fun c i h => F c i (by unfold fVS at h; omega) (by unfold fVS at h; omega)) r.VS
    · exact rOB_cg (fun c i h => F c i (by unfold fOB at h; omega) (by unfold fOB at h; omega)) r.OB
    · exact rVA_cg (fun c i h => F c i (by unfold fVA at h; omega) (by unfold fVA at h; omega)) r.VA
    · exact rBD_cg (fun c i h => F c i (by unfold fBD at h; omega) (by unfold fBD at h; omega)) r.BD
    · exact rTE_cg (fun c i h => F c i (by unfold fTE at h; omega) (by unfold fTE at h; omega)) r.TE
    · exact rPK_cg (fun c i h => F c i (by unfold fPK at h; omega) (by unfold fPK at h; omega)) r.PK
    · exact rUS_cg (fun c i h => F c i (by unfold fUS at h; omega) (by unfold fUS at h; omega)) r.US
    · exact rFO_cg (fun c i h => F c i (by unfold fFO at h; omega) (by unfold fFO at h; omega)) r.FO
    · exact rSH_cg (fun c i h => F c i (by unfold fSH at h; omega) (by unfold fSH at h; omega)) r.SH
    · exact rSW_cg (fun c i h => F c i (by unfold fSW at h; omega) (by unfold fSW at h; omega)) r.SW
    · exact rHI_cg (fun c i h => F c i (by unfold fHI at h; omega) (by unfold fHI at h; omega)) r.HI
    · exact rLN_cg (fun c i h => F c i (by unfold fLN at h; omega) (by unfold fLN at h; omega)) r.LN
    · exact rMK_cg (fun c i h => F c i (by unfold fMK at h; omega) (by unfold fMK at h; omega)) r.MK
    · exact rGR_cg (fun c i h => F c i (by unfold fGR at h; omega) (by unfold fGR at h; omega)) r.GR
    · exact rTT_cg (fun c i h => F c i (by unfold fTT at h; omega) (by unfold fTT at h; omega)) r.TT
    · exact rMT_cg (fun c i h => F c i (by unfold fMT at h; omega) (by unfold fMT at h; omega)) r.MT
    · exact rSC_cg (fun c i h => F c i (by unfold fSC at h; omega) (by unfold fSC at h; omega)) r.SC
    · exact rQU_cg (fun c i h => F c i (by unfold fQU at h; omega) (by unfold fQU at h; omega)) r.QU
    · exact rKQ_cg (fun c i h => F c i (by unfold fKQ at h; omega) (by unfold fKQ at h; omega)) r.KQ
    · exact rHQ_cg (fun c i h => F c i (by unfold fHQ at h; omega) (by unfold fHQ at h; omega)) r.HQ
    · exact rPP_cg (fun c i h => F c i (by unfold fPP at h; omega) (by unfold fPP at h; omega)) (by rw [hR]) (by rw [hR]) r.PP
    · exact rAN_cg (fun c i h => F c i (by unfold fAN at h; omega) (by unfold fAN at h; omega)) hR hS hN r.AN
    · exact rSE_cg r.SE

theorem op_row (hd : 30 ≤ d) : OP_row E d RR := by
  intro k σ hk r x1 x2 x3 x4 x5 h1 h2 h3 h4 h5
  have va := r.VA
  have va1 := va.1
  have vb1 := va.2.1
  have v22 := VA_22 va
  have v29 := VA_29 va
  have fl := r.FL
  have fl1 := fl.1
  have wq : ((0 ≤ x1 ∧ x1 < σ.I 0 9 ∧ σ.I 577 x1 = 4) ∧ (-1000 ≤ x2 ∧ x2 ≤ 1000) ∧ (-1000 ≤ x3 ∧ x3 ≤ 1000) ∧ (-1000 ≤ x4 ∧ x4 ≤ 1000) ∧ (-1000 ≤ x5 ∧ x5 ≤ 1000)) ↔ ((0 ≤ x1 ∧ x1 < σ.I 0 9 ∧ σ.I 16 x1 = 4) ∧ (-1000 ≤ x2 ∧ x2 ≤ 1000) ∧ (-1000 ≤ x3 ∧ x3 ≤ 1000) ∧ (-1000 ≤ x4 ∧ x4 ≤ 1000) ∧ (-1000 ≤ x5 ∧ x5 ≤ 1000)) := by
    constructor
    · rintro ⟨⟨a, b, c⟩, e⟩
      have q := (fl.2 x1 a b).1.1
      exact ⟨⟨a, b, by omega⟩, e⟩
    · rintro ⟨⟨a, b, c⟩, e⟩
      have q := (fl.2 x1 a b).1.1
      exact ⟨⟨a, b, by omega⟩, e⟩
  by_cases w : ((0 ≤ x1 ∧ x1 < σ.I 0 9 ∧ σ.I 16 x1 = 4) ∧ (-1000 ≤ x2 ∧ x2 ≤ 1000) ∧ (-1000 ≤ x3 ∧ x3 ≤ 1000) ∧ (-1000 ≤ x4 ∧ x4 ≤ 1000) ∧ (-1000 ≤ x5 ∧ x5 ≤ 1000)) ∧ ¬ (σ.I 0 20 - σ.I 0 31 = 24 ∨ σ.I 0 20 = 6000)
  · refine OPI.mk (sp_X0_row (by omega) r.Lay ⟨va1.2.1.1, va1.2.1.2.1⟩ ⟨by omega, by omega⟩ ⟨v22, by omega⟩ v29 (by omega) fl.1.2 h1 h2 h3 h4 h5) (fun y σ1 p s1 => by
        have P1 := fun (c : Nat) (i : Int) => (congrFun (congrFun p.2.2 c) i).trans (if_pos w)
        have S : ∀ (c : Nat) (i : Int), 555 ≤ c → σ1.I c i = σ.I c i := by
          intro c i q
          rw [P1 c i]
          ((try simp only [at2, rg, fgX, fgM, CQF, and_false, false_and, and_true, true_and, or_false, false_or, or_true, true_or, if_false, if_true, not_false_eq_true, not_true_eq_false])  <;> (repeat' split)) <;> first | rfl | (exfalso; omega)
        exact sp_X9_row (by omega) (r.Lay.sf s1) (by rw [S 555 45 (by omega), S 555 30 (by omega)]; omega) (by rw [S 555 45 (by omega), S 555 30 (by omega)]; omega) (by rw [S 555 38 (by omega)]; omega) (by rw [S 555 44 (by omega)]; omega) (by rw [S 555 27 (by omega)]; omega) h1 h2 h3 h4 h5) ?_
    intro y σ1 z σ2 p s1 g s2
    have P1 := fun (c : Nat) (i : Int) => (congrFun (congrFun p.2.2 c) i).trans (if_pos w)
    have S : ∀ (c : Nat) (i : Int), 555 ≤ c → σ1.I c i = σ.I c i := by
      intro c i q
      rw [P1 c i]
      ((try simp only [at2, rg, fgX, fgM, CQF, and_false, false_and, and_true, true_and, or_false, false_or, or_true, true_or, if_false, if_true, not_false_eq_true, not_true_eq_false])  <;> (repeat' split)) <;> first | rfl | (exfalso; omega)
    rw [S 555 30 (by omega), S 555 45 (by omega), S 555 38 (by omega), S 555 44 (by omega), S 555 27 (by omega), S 577 x1 (by omega), ← va1.1.1, ← va1.1.2.1, ← va1.1.2.2.1, ← fl1.1] at g
    have w2 := wq.mpr w.1
    have P2 := fun (c : Nat) (i : Int) => (congrFun (congrFun g.2.2 c) i).trans (if_pos ⟨w2, w.2⟩)
    have F1 : ∀ (c : Nat) (i : Int), ¬ (((c = 26 ∨ c = 28 ∨ c = 29 ∨ c = 30 ∨ c = 31 ∨ c = 32) ∧ i = σ.I 0 20) ∨ (c = 0 ∧ i = 20)) → σ1.I c i = σ.I c i := by
      intro c i q
      rw [P1 c i]
      ((try simp only [at2, rg, fgX, fgM, CQF, and_false, false_and, and_true, true_and, or_false, false_or, or_true, true_or, if_false, if_true, not_false_eq_true, not_true_eq_false])  <;> (repeat' split)) <;> first | rfl | (exfalso; omega)
    have F2 : ∀ (c : Nat) (i : Int), ¬ (((c = 579 ∨ c = 580 ∨ c = 581 ∨ c = 583) ∧ i = σ.I 0 20) ∨ (c = 582 ∧ (i = σ.I 0 20 ∨ i = σ.I 0 20 + 1)) ∨ (c = 555 ∧ i = 30) ∨ (c = 584 ∧ 4 * σ.I 0 20 ≤ i ∧ i < 4 * σ.I 0 20 + 4)) → σ2.I c i = σ1.I c i := by
      intro c i q
      rw [P2 c i]
      ((try simp only [at2, rg, fgX, fgM, CQF, and_false, false_and, and_true, true_and, or_false, false_or, or_true, true_or, if_false, if_true, not_false_eq_true, not_true_eq_false])  <;> (repeat' split)) <;> first | rfl | (exfalso; omega)
    have F : ∀ (c : Nat) (i : Int), ¬ (((c = 26 ∨ c = 28 ∨ c = 29 ∨ c = 30 ∨ c = 31 ∨ c = 32) ∧ i = σ.I 0 20) ∨ (c = 0 ∧ i = 20)) → ¬ (((c = 579 ∨ c = 580 ∨ c = 581 ∨ c = 583) ∧ i = σ.I 0 20) ∨ (c = 582 ∧ (i = σ.I 0 20 ∨ i = σ.I 0 20 + 1)) ∨ (c = 555 ∧ i = 30) ∨ (c = 584 ∧ 4 * σ.I 0 20 ≤ i ∧ i < 4 * σ.I 0 20 + 4)) → σ2.I c i = σ.I c i := fun c i a b => (F2 c i b).trans (F1 c i a)
    have hR : σ2.R = σ.R := g.2.1.1.trans p.2.1.1
    have hS : σ2.sh = σ.sh := g.2.1.2.1.trans p.2.1.2.1
    have hN : σ2.n = σ.n := g.2.1.2.2.trans p.2.1.2.2
    have A20 : σ2.I 0 20 = σ.I 0 20 + 1 := by
      rw [F2 0 20 (by omega), P1 0 20]
      ((try simp only [at2, rg, fgX, fgM, CQF, and_false, false_and, and_true, true_and, or_false, false_or, or_true, true_or, if_false, if_true, not_false_eq_true, not_true_eq_false])  <;> (repeat' split)) <;> first | rfl | omega
    have A26 : σ2.I 26 (σ.I 0 20) = x1 := by
      rw [F2 26 (σ.I 0 20) (by omega), P1 26 (σ.I 0 20)]
      ((try simp only [at2, rg, fgX, fgM, CQF, and_false, false_and, and_true, true_and, or_false, false_or, or_true, true_or, if_false, if_true, not_false_eq_true, not_true_eq_false])  <;> (repeat' split)) <;> first | rfl | omega
    have A28 : σ2.I 28 (σ.I 0 20) = σ.I 0 22 := by
      rw [F2 28 (σ.I 0 20) (by omega), P1 28 (σ.I 0 20)]
      ((try simp only [at2, rg, fgX, fgM, CQF, and_false, false_and, and_true, true_and, or_false, false_or, or_true, true_or, if_false, if_true, not_false_eq_true, not_true_eq_false])  <;> (repeat' split)) <;> first | rfl | omega
    have A29 : σ2.I 29 (σ.I 0 20) = 0 := by
      rw [F2 29 (σ.I 0 20) (by omega), P1 29 (σ.I 0 20)]
      ((try simp only [at2, rg, fgX, fgM, CQF, and_false, false_and, and_true, true_and, or_false, false_or, or_true, true_or, if_false, if_true, not_false_eq_true, not_true_eq_false])  <;> (repeat' split)) <;> first | rfl | omega
    have A30 : σ2.I 30 (σ.I 0 20) = pk4 x2 x3 x4 x5 := by
      rw [F2 30 (σ.I 0 20) (by omega), P1 30 (σ.I 0 20)]
      ((try simp only [at2, rg, fgX, fgM, CQF, and_false, false_and, and_true, true_and, or_false, false_or, or_true, true_or, if_false, if_true, not_false_eq_true, not_true_eq_false])  <;> (repeat' split)) <;> first | rfl | omega
    have A31 : σ2.I 31 (σ.I 0 20) = σ.I 0 29 := by
      rw [F2 31 (σ.I 0 20) (by omega), P1 31 (σ.I 0 20)]
      ((try simp only [at2, rg, fgX, fgM, CQF, and_false, false_and, and_true, true_and, or_false, false_or, or_true, true_or, if_false, if_true, not_false_eq_true, not_true_eq_false])  <;> (repeat' split)) <;> first | rfl | omega
    have A32 : σ2.I 32 (σ.I 0 20) = 0 := by
      rw [F2 32 (σ.I 0 20) (by omega), P1 32 (σ.I 0 20)]
      ((try simp only [at2, rg, fgX, fgM, CQF, and_false, false_and, and_true, true_and, or_false, false_or, or_true, true_or, if_false, if_true, not_false_eq_true, not_true_eq_false])  <;> (repeat' split)) <;> first | rfl | omega
    have B30 : σ2.I 555 30 = σ.I 0 20 + 1 := by
      rw [P2 555 30]
      ((try simp only [at2, rg, fgX, fgM, CQF, and_false, false_and, and_true, true_and, or_false, false_or, or_true, true_or, if_false, if_true, not_false_eq_true, not_true_eq_false])  <;> (repeat' split)) <;> first | rfl | omega
    have B579 : σ2.I 579 (σ.I 0 20) = x1 := by
      rw [P2 579 (σ.I 0 20)]
      ((try simp only [at2, rg, fgX, fgM, CQF, and_false, false_and, and_true, true_and, or_false, false_or, or_true, true_or, if_false, if_true, not_false_eq_true, not_true_eq_false])  <;> (repeat' split)) <;> first | rfl | omega
    have B580 : σ2.I 580 (σ.I 0 20) = σ.I 0 22 := by
      rw [P2 580 (σ.I 0 20)]
      ((try simp only [at2, rg, fgX, fgM, CQF, and_false, false_and, and_true, true_and, or_false, false_or, or_true, true_or, if_false, if_true, not_false_eq_true, not_true_eq_false])  <;> (repeat' split)) <;> first | rfl | omega
    have B581 : σ2.I 581 (σ.I 0 20) = 0 := by
      rw [P2 581 (σ.I 0 20)]
      ((try simp only [at2, rg, fgX, fgM, CQF, and_false, false_and, and_true, true_and, or_false, false_or, or_true, true_or, if_false, if_true, not_false_eq_true, not_true_eq_false])  <;> (repeat' split)) <;> first | rfl | omega
    have B582 : σ2.I 582 (σ.I 0 20) = σ.I 555 44 := by
      rw [P2 582 (σ.I 0 20)]
      ((try simp only [at2, rg, fgX, fgM, CQF, and_false, false_and, and_true, true_and, or_false, false_or, or_true, true_or, if_false, if_true, not_false_eq_true, not_true_eq_false])  <;> (repeat' split)) <;> first | rfl | omega
    have B582s : σ2.I 582 (σ.I 0 20 + 1) = σ.I 555 44 := by
      rw [P2 582 (σ.I 0 20 + 1)]
      ((try simp only [at2, rg, fgX, fgM, CQF, and_false, false_and, and_true, true_and, or_false, false_or, or_true, true_or, if_false, if_true, not_false_eq_true, not_true_eq_false])  <;> (repeat' split)) <;> first | rfl | omega
    have B583 : σ2.I 583 (σ.I 0 20) = 0 := by
      rw [P2 583 (σ.I 0 20)]
      ((try simp only [at2, rg, fgX, fgM, CQF, and_false, false_and, and_true, true_and, or_false, false_or, or_true, true_or, if_false, if_true, not_false_eq_true, not_true_eq_false])  <;> (repeat' split)) <;> first | rfl | omega
    have B584_0 : σ2.I 584 (4 * σ.I 0 20 + 0) = x2 := by
      rw [P2 584 (4 * σ.I 0 20 + 0)]
      ((try simp only [at2, rg, fgX, fgM, CQF, and_false, false_and, and_true, true_and, or_false, false_or, or_true, true_or, if_false, if_true, not_false_eq_true, not_true_eq_false])  <;> (repeat' split)) <;> first | rfl | omega
    have B584_1 : σ2.I 584 (4 * σ.I 0 20 + 1) = x3 := by
      rw [P2 584 (4 * σ.I 0 20 + 1)]
      ((try simp only [at2, rg, fgX, fgM, CQF, and_false, false_and, and_true, true_and, or_false, false_or, or_true, true_or, if_false, if_true, not_false_eq_true, not_true_eq_false])  <;> (repeat' split)) <;> first | rfl | omega
    have B584_2 : σ2.I 584 (4 * σ.I 0 20 + 2) = x4 := by
      rw [P2 584 (4 * σ.I 0 20 + 2)]
      ((try simp only [at2, rg, fgX, fgM, CQF, and_false, false_and, and_true, true_and, or_false, false_or, or_true, true_or, if_false, if_true, not_false_eq_true, not_true_eq_false])  <;> (repeat' split)) <;> first | rfl | omega
    have B584_3 : σ2.I 584 (4 * σ.I 0 20 + 3) = x5 := by
      rw [P2 584 (4 * σ.I 0 20 + 3)]
      ((try simp only [at2, rg, fgX, fgM, CQF, and_false, false_and, and_true, true_and, or_false, false_or, or_true, true_or, if_false, if_true, not_false_eq_true, not_true_eq_false])  <;> (repeat' split)) <;> first | rfl | omega
    have nv : vaE σ2 (σ.I 0 20) := by
      have b0 := B584_0
      rw [Int.add_zero] at b0
      have k1 : σ2.I 16 (σ2.I 26 (σ.I 0 20)) = 4 := by rw [A26, F 16 x1 (by omega) (by omega)]; exact w.1.1.2.2
      refine ⟨⟨by rw [A26, B579], by rw [A26]; exact w.1.1.1, by rw [A26, F 0 9 (by omega) (by omega)]; exact w.1.1.2.1⟩, ⟨by rw [A28, B580], by rw [A29, B581], by rw [A29]; omega, by rw [A29]; omega⟩, by rw [A32]; omega, fun q => by omega, fun q => by omega, fun _ => ⟨by rw [B582s, B582], A32, A29⟩, fun q => by omega, fun q => by omega, fun _ => ⟨by rw [A30, b0, B584_1, B584_2, B584_3], fun j p0 p1 => ?_⟩⟩
      have : j = 0 ∨ j = 1 ∨ j = 2 ∨ j = 3 := by omega
      rcases this with rfl | rfl | rfl | rfl
      · rw [B584_0]; omega
      · rw [B584_1]; omega
      · rw [B584_2]; omega
      · rw [B584_3]; omega
    refine ⟨by rw [g.1, p.1, if_neg (show ¬ ¬ ((0 ≤ x1 ∧ x1 < σ.I 0 9 ∧ σ.I 16 x1 = 4) ∧ (-1000 ≤ x2 ∧ x2 ≤ 1000) ∧ (-1000 ≤ x3 ∧ x3 ≤ 1000) ∧ (-1000 ≤ x4 ∧ x4 ≤ 1000) ∧ (-1000 ≤ x5 ∧ x5 ≤ 1000)) from fun z => z w.1), if_neg w.2, if_neg (show ¬ ¬ ((0 ≤ x1 ∧ x1 < σ.I 0 9 ∧ σ.I 577 x1 = 4) ∧ (-1000 ≤ x2 ∧ x2 ≤ 1000) ∧ (-1000 ≤ x3 ∧ x3 ≤ 1000) ∧ (-1000 ≤ x4 ∧ x4 ≤ 1000) ∧ (-1000 ≤ x5 ∧ x5 ≤ 1000)) from fun z => z (wq.mpr w.1))], r.Lay.sf (s1.tr s2), RK_cg hS hN (F 0 1 (by omega) (by omega)) (F 0 41 (by omega) (by omega)) (fun i => F 211 i (by omega) (by omega)) r.RK, ?_, ?_, ?_, ?_, ?_, ?_, ?_, ?_, ?_, ?_, ?_, ?_, ?_, ?_, ?_, ?_, ?_, ?_, ?_, ?_, ?_, ?_, ?_, ?_, ?_⟩
    · exact rTP_cg (fun c i h => F c i (by unfold fTP at h; omega) (by unfold fTP at h; omega)) r.TP
    · exact rFL_cg (fun c i h => F c i (by unfold fFL at h; omega) (by unfold fFL at h; omega)) r.FL
    · exact rVS_cg (fun c i h => F c i (by unfold fVS at h; omega) (by unfold fVS at h; omega)) r.VS
    · exact rOB_cg (fun c i h => F c i (by unfold fOB at h; omega) (by unfold fOB at h; omega)) r.OB
    · exact VA_pl va A20 B30 (fun i h => F 0 i (by omega) (by omega)) (fun i h => F 555 i (by omega) (by omega)) (funext fun i => F 16 i (by omega) (by omega)) (by omega) (fun c i h q => F c i (by unfold cVA at h; omega) (by unfold cVA at h; omega)) (fun i q => by
        by_cases e : i = σ.I 0 20
        · rw [e, B582, ← vb1.2.1, va1.1.1]
        · exact F 582 i (by omega) (by omega)) (fun i q => F 584 i (by omega) (by omega)) (fun c h => funext fun i => F c i (by unfold cTK at h; omega) (by unfold cTK at h; omega)) (F 18 7 (by omega) (by omega)) (funext fun i => F 35 i (by omega) (by omega)) (funext fun i => F 585 i (by omega) (by omega)) ⟨A28, A29, A31, A32⟩ B582s (by rw [A26, w.1.1.2.2]; omega) nv
    · have bd := r.BD
      refine ⟨⟨fun i h0 h1 => by rw [F 39 i (by omega) (by omega)]; exact bd.1.1 i h0 h1, fun i h0 h1 => by rw [F 40 i (by omega) (by omega)]; exact bd.1.2.1 i h0 h1, fun i h0 h1 => by rw [F 41 i (by omega) (by omega)]; exact bd.1.2.2.1 i h0 h1, fun i h0 h1 => ?_⟩, fun i h0 h1 => by rw [F 587 i (by omega) (by omega)]; exact bd.2.1 i h0 h1, fun i h0 h1 => by rw [F 590 i (by omega) (by omega)]; exact bd.2.2.1 i h0 h1, fun i h0 h1 => ?_, fun i h0 h1 => by rw [F 21 i (by omega) (by omega)]; exact bd.2.2.2.2.1 i h0 h1, fun i h0 h1 => by rw [F 20 i (by omega) (by omega)]; exact bd.2.2.2.2.2 i h0 h1⟩
      · by_cases e : i = σ.I 0 20
        · rw [e, A32]; omega
        · rw [F 32 i (by omega) (by omega)]; exact bd.1.2.2.2 i h0 h1
      · by_cases e : 4 * σ.I 0 20 ≤ i ∧ i < 4 * σ.I 0 20 + 4
        · have : i = 4 * σ.I 0 20 + 0 ∨ i = 4 * σ.I 0 20 + 1 ∨ i = 4 * σ.I 0 20 + 2 ∨ i = 4 * σ.I 0 20 + 3 := by omega
          rcases this with q | q | q | q
          · rw [q, B584_0]; omega
          · rw [q, B584_1]; omega
          · rw [q, B584_2]; omega
          · rw [q, B584_3]; omega
        · rw [F 584 i (by omega) (by omega)]; exact bd.2.2.2.1 i h0 h1
    · exact TE_pl r.TE va (by omega) (fun i h => F 0 i (by omega) (by omega)) (by rw [F 0 9 (by omega) (by omega)]; omega) (fun f _ _ => F 16 f (by omega) (by omega)) (fun c i h q => F c i (by omega) (by omega)) (fun _ => A31) (fun c h => funext fun i => F c i (by omega) (by omega)) (F 18 7 (by omega) (by omega))
    · exact PK_pl r.PK (by omega) (F 0 31 (by omega) (by omega)) (F 0 39 (by omega) (by omega)) (fun c h => funext fun i => F c i (by omega) (by omega))
    · exact rUS_cg (fun c i h => F c i (by unfold fUS at h; omega) (by unfold fUS at h; omega)) r.US
    · exact rFO_cg (fun c i h => F c i (by unfold fFO at h; omega) (by unfold fFO at h; omega)) r.FO
    · exact rSH_cg (fun c i h => F c i (by unfold fSH at h; omega) (by unfold fSH at h; omega)) r.SH
    · exact rSW_cg (fun c i h => F c i (by unfold fSW at h; omega) (by unfold fSW at h; omega)) r.SW
    · exact rHI_cg (fun c i h => F c i (by unfold fHI at h; omega) (by unfold fHI at h; omega)) r.HI
    · exact rLN_cg (fun c i h => F c i (by unfold fLN at h; omega) (by unfold fLN at h; omega)) r.LN
    · exact rMK_cg (fun c i h => F c i (by unfold fMK at h; omega) (by unfold fMK at h; omega)) r.MK
    · exact GR_pl r.GR (fun i h => F 0 i (by omega) (by omega)) (fun i h => F 555 i (by omega) (by omega)) (fun c h => funext fun i => F c i (by omega) (by omega)) (by
        by_cases e : σ.I 0 31 = σ.I 0 20
        · rw [e, B582, ← vb1.2.1, va1.1.1]
        · exact F 582 _ (by omega) (by omega))
    · exact rTT_cg (fun c i h => F c i (by unfold fTT at h; omega) (by unfold fTT at h; omega)) r.TT
    · exact rMT_cg (fun c i h => F c i (by unfold fMT at h; omega) (by unfold fMT at h; omega)) r.MT
    · exact rSC_cg (fun c i h => F c i (by unfold fSC at h; omega) (by unfold fSC at h; omega)) r.SC
    · exact rQU_cg (fun c i h => F c i (by unfold fQU at h; omega) (by unfold fQU at h; omega)) r.QU
    · exact rKQ_cg (fun c i h => F c i (by unfold fKQ at h; omega) (by unfold fKQ at h; omega)) r.KQ
    · exact rHQ_cg (fun c i h => F c i (by unfold fHQ at h; omega) (by unfold fHQ at h; omega)) r.HQ
    · exact rPP_cg (fun c i h => F c i (by unfold fPP at h; omega) (by unfold fPP at h; omega)) (by rw [hR]) (by rw [hR]) r.PP
    · exact rAN_cg (fun c i h => F c i (by unfold fAN at h; omega) (by unfold fAN at h; omega)) hR hS hN r.AN
    · exact rSE_cg r.SE
  · refine OPI.mk (sp_X0_row (by omega) r.Lay ⟨va1.2.1.1, va1.2.1.2.1⟩ ⟨by omega, by omega⟩ ⟨v22, by omega⟩ v29 (by omega) fl.1.2 h1 h2 h3 h4 h5) (fun y σ1 p s1 => by
        have S : ∀ (c : Nat) (i : Int), 555 ≤ c → σ1.I c i = σ.I c i := fun c i _ => (congrFun (congrFun p.2.2 c) i).trans (if_neg w)
        exact sp_X9_row (by omega) (r.Lay.sf s1) (by rw [S 555 45 (by omega), S 555 30 (by omega)]; omega) (by rw [S 555 45 (by omega), S 555 30 (by omega)]; omega) (by rw [S 555 38 (by omega)]; omega) (by rw [S 555 44 (by omega)]; omega) (by rw [S 555 27 (by omega)]; omega) h1 h2 h3 h4 h5) ?_
    intro y σ1 z σ2 p s1 g s2
    have S : ∀ (c : Nat) (i : Int), 555 ≤ c → σ1.I c i = σ.I c i := fun c i _ => (congrFun (congrFun p.2.2 c) i).trans (if_neg w)
    rw [S 555 30 (by omega), S 555 45 (by omega), S 555 38 (by omega), S 555 44 (by omega), S 555 27 (by omega), S 577 x1 (by omega), ← va1.1.1, ← va1.1.2.1, ← va1.1.2.2.1, ← fl1.1] at g
    have w2 : ¬ (((0 ≤ x1 ∧ x1 < σ.I 0 9 ∧ σ.I 577 x1 = 4) ∧ (-1000 ≤ x2 ∧ x2 ≤ 1000) ∧ (-1000 ≤ x3 ∧ x3 ≤ 1000) ∧ (-1000 ≤ x4 ∧ x4 ≤ 1000) ∧ (-1000 ≤ x5 ∧ x5 ≤ 1000)) ∧ ¬ (σ.I 0 20 - σ.I 0 31 = 24 ∨ σ.I 0 20 = 6000)) := fun z => w ⟨wq.mp z.1, z.2⟩
    have F1 : ∀ (c : Nat) (i : Int), ¬ (c = 0 ∧ c = 1) → σ1.I c i = σ.I c i := by
      intro c i q
      rw [congrFun (congrFun p.2.2 c) i]
      exact if_neg w
    have F2 : ∀ (c : Nat) (i : Int), ¬ (c = 0 ∧ c = 1) → σ2.I c i = σ1.I c i := by
      intro c i q
      rw [congrFun (congrFun g.2.2 c) i]
      exact if_neg w2
    have F : ∀ (c : Nat) (i : Int), ¬ (c = 0 ∧ c = 1) → ¬ (c = 0 ∧ c = 1) → σ2.I c i = σ.I c i := fun c i a b => (F2 c i b).trans (F1 c i a)
    have hR : σ2.R = σ.R := g.2.1.1.trans p.2.1.1
    have hS : σ2.sh = σ.sh := g.2.1.2.1.trans p.2.1.2.1
    have hN : σ2.n = σ.n := g.2.1.2.2.trans p.2.1.2.2
    refine ⟨by
      rw [g.1, p.1]
      by_cases q : ((0 ≤ x1 ∧ x1 < σ.I 0 9 ∧ σ.I 16 x1 = 4) ∧ (-1000 ≤ x2 ∧ x2 ≤ 1000) ∧ (-1000 ≤ x3 ∧ x3 ≤ 1000) ∧ (-1000 ≤ x4 ∧ x4 ≤ 1000) ∧ (-1000 ≤ x5 ∧ x5 ≤ 1000))
      · have q2 : (σ.I 0 20 - σ.I 0 31 = 24 ∨ σ.I 0 20 = 6000) := Classical.byContradiction fun z => w ⟨q, z⟩
        rw [if_neg (show ¬ ¬ ((0 ≤ x1 ∧ x1 < σ.I 0 9 ∧ σ.I 16 x1 = 4) ∧ (-1000 ≤ x2 ∧ x2 ≤ 1000) ∧ (-1000 ≤ x3 ∧ x3 ≤ 1000) ∧ (-1000 ≤ x4 ∧ x4 ≤ 1000) ∧ (-1000 ≤ x5 ∧ x5 ≤ 1000)) from fun z => z q), if_neg (show ¬ ¬ ((0 ≤ x1 ∧ x1 < σ.I 0 9 ∧ σ.I 577 x1 = 4) ∧ (-1000 ≤ x2 ∧ x2 ≤ 1000) ∧ (-1000 ≤ x3 ∧ x3 ≤ 1000) ∧ (-1000 ≤ x4 ∧ x4 ≤ 1000) ∧ (-1000 ≤ x5 ∧ x5 ≤ 1000)) from fun z => z (wq.mpr q))]
      · rw [if_pos q, if_pos (show ¬ ((0 ≤ x1 ∧ x1 < σ.I 0 9 ∧ σ.I 577 x1 = 4) ∧ (-1000 ≤ x2 ∧ x2 ≤ 1000) ∧ (-1000 ≤ x3 ∧ x3 ≤ 1000) ∧ (-1000 ≤ x4 ∧ x4 ≤ 1000) ∧ (-1000 ≤ x5 ∧ x5 ≤ 1000)) from fun z => q (wq.mp z))], r.Lay.sf (s1.tr s2), RK_cg hS hN (F 0 1 (by omega) (by omega)) (F 0 41 (by omega) (by omega)) (fun i => F 211 i (by omega) (by omega)) r.RK, ?_, ?_, ?_, ?_, ?_, ?_, ?_, ?_, ?_, ?_, ?_, ?_, ?_, ?_, ?_, ?_, ?_, ?_, ?_, ?_, ?_, ?_, ?_, ?_, ?_⟩
    · exact rTP_cg (fun c i h => F c i (by unfold fTP at h; omega) (by unfold fTP at h; omega)) r.TP
    · exact rFL_cg (fun c i h => F c i (by unfold fFL at h; omega) (by unfold fFL at h; omega)) r.FL
    · exact rVS_cg (fun c i h => F c i (by unfold fVS at h; omega) (by unfold fVS at h; omega)) r.VS
    · exact rOB_cg (fun c i h => F c i (by unfold fOB at h; omega) (by unfold fOB at h; omega)) r.OB
    · exact rVA_cg (fun c i h => F c i (by unfold fVA at h; omega) (by unfold fVA at h; omega)) r.VA
    · exact rBD_cg (fun c i h => F c i (by unfold fBD at h; omega) (by unfold fBD at h; omega)) r.BD
    · exact rTE_cg (fun c i h => F c i (by unfold fTE at h; omega) (by unfold fTE at h; omega)) r.TE
    · exact rPK_cg (fun c i h => F c i (by unfold fPK at h; omega) (by unfold fPK at h; omega)) r.PK
    · exact rUS_cg (fun c i h => F c i (by unfold fUS at h; omega) (by unfold fUS at h; omega)) r.US
    · exact rFO_cg (fun c i h => F c i (by unfold fFO at h; omega) (by unfold fFO at h; omega)) r.FO
    · exact rSH_cg (fun c i h => F c i (by unfold fSH at h; omega) (by unfold fSH at h; omega)) r.SH
    · exact rSW_cg (fun c i h => F c i (by unfold fSW at h; omega) (by unfold fSW at h; omega)) r.SW
    · exact rHI_cg (fun c i h => F c i (by unfold fHI at h; omega) (by unfold fHI at h; omega)) r.HI
    · exact rLN_cg (fun c i h => F c i (by unfold fLN at h; omega) (by unfold fLN at h; omega)) r.LN
    · exact rMK_cg (fun c i h => F c i (by unfold fMK at h; omega) (by unfold fMK at h; omega)) r.MK
    · exact rGR_cg (fun c i h => F c i (by unfold fGR at h; omega) (by unfold fGR at h; omega)) r.GR
    · exact rTT_cg (fun c i h => F c i (by unfold fTT at h; omega) (by unfold fTT at h; omega)) r.TT
    · exact rMT_cg (fun c i h => F c i (by unfold fMT at h; omega) (by unfold fMT at h; omega)) r.MT
    · exact rSC_cg (fun c i h => F c i (by unfold fSC at h; omega) (by unfold fSC at h; omega)) r.SC
    · exact rQU_cg (fun c i h => F c i (by unfold fQU at h; omega) (by unfold fQU at h; omega)) r.QU
    · exact rKQ_cg (fun c i h => F c i (by unfold fKQ at h; omega) (by unfold fKQ at h; omega)) r.KQ
    · exact rHQ_cg (fun c i h => F c i (by unfold fHQ at h; omega) (by unfold fHQ at h; omega)) r.HQ
    · exact rPP_cg (fun c i h => F c i (by unfold fPP at h; omega) (by unfold fPP at h; omega)) (by rw [hR]) (by rw [hR]) r.PP
    · exact rAN_cg (fun c i h => F c i (by unfold fAN at h; omega) (by unfold fAN at h; omega)) hR hS hN r.AN
    · exact rSE_cg r.SE
end OPH

