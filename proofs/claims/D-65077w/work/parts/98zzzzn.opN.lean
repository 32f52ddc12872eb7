/-! contracts: printed by tools/mk.py out of s98zzzzn_opN.py -/
set_option maxRecDepth 100000
set_option maxHeartbeats 3000000
section OPN
variable {E : XE} {d : Nat}

theorem op_discard (hd : 30 ≤ d) : OP_discard E d RR := by
  intro k σ hk r
  have va := r.VA
  have va1 := va.1
  have va2 := va.1.2.1
  have vb := va.2.1
  have te := r.TE
  have te2 := te.2.1
  have te3 := te.2.2.1
  have x29 := VA_29 va
  have fl1 := r.FL.1
  have bd := r.BD
  have vfb : VFB σ (σ.I 0 20) := fun v h0 h1 => (va.2.2.1 v h0 h1).2.2.1.2
  have wsum : cn (isWv σ) (σ.I 0 20) = cn (isWv σ) (σ.I 0 31) + cn (fun j => isWv σ (σ.I 0 31 + j)) (σ.I 0 20 - σ.I 0 31) := by
    have q := cn_sum (p := isWv σ) va2.1 (σ.I 0 20 - σ.I 0 31).toNat
    rw [show (((σ.I 0 20 - σ.I 0 31).toNat : Nat) : Int) = σ.I 0 20 - σ.I 0 31 by omega, show σ.I 0 31 + (σ.I 0 20 - σ.I 0 31) = σ.I 0 20 by omega] at q
    exact q
  have e5 := VA_e582 va r.FL (σ.I 0 31).toNat (by omega)
  rw [show (((σ.I 0 31).toNat : Nat) : Int) = σ.I 0 31 by omega] at e5
  refine OPI.mk (sp_X0_discard (by omega) r.Lay ⟨va2.1, va2.2.1⟩ va2.2.2.1 ⟨x29.2, by omega⟩ vfb r.FL.1.2 te.1.1 ⟨te2.1, by omega⟩ bd.2.2.2.2.1 bd.2.2.2.2.2 ⟨te3.1, by omega⟩) (fun y σ1 p s1 => by
      have S : ∀ (c : Nat) (i : Int), 555 ≤ c → σ1.I c i = σ.I c i := by
        intro c i q
        rw [congrFun (congrFun p.2.1.2 c) i]
        (try simp only [at2, rg])
        repeat rw [if_neg (fun h => by omega)]
        split
        · repeat rw [if_neg (fun h => by omega)]
        · rfl
      clear p
      exact sp_X9_discard (by omega) (r.Lay.sf s1) (by rw [S 555 45 (by omega), S 555 30 (by omega)]; omega) (by rw [S 555 30 (by omega)]; omega)) ?_
  intro y σ1 z σ2 p s1 g s2
  have S : ∀ (c : Nat) (i : Int), 555 ≤ c → σ1.I c i = σ.I c i := by
    intro c i q
    rw [congrFun (congrFun p.2.1.2 c) i]
    (try simp only [at2, rg])
    repeat rw [if_neg (fun h => by omega)]
    split
    · repeat rw [if_neg (fun h => by omega)]
    · rfl
  rw [S 555 45 (by omega), S 555 30 (by omega), S 580 _ (by omega), S 582 _ (by omega), S 555 44 (by omega), ← va1.1.1, ← va1.1.2.1] at g
  have pe : Hd _ := p.1
  have pr := p.2
  have ge : Hd _ := g.1
  have gr := g.2
  clear p g
  have F1 : ∀ (c : Nat) (i : Int), ¬ ((c = 0 ∧ (i = 20 ∨ i = 22 ∨ i = 29 ∨ i = 30)) ∨ (c = 18 ∧ i = 7) ∨ c = 25) → σ1.I c i = σ.I c i := by
    intro c i q
    rw [congrFun (congrFun pr.1.2 c) i]
    (try simp only [at2, rg])
    repeat rw [if_neg (fun h => by omega)]
    split
    · repeat rw [if_neg (fun h => by omega)]
    · rfl
  have F2 : ∀ (c : Nat) (i : Int), ¬ ((c = 582 ∧ i = σ.I 0 20) ∨ (c = 555 ∧ (i = 30 ∨ i = 38 ∨ i = 44))) → σ2.I c i = σ1.I c i := by
    intro c i q
    rw [congrFun (congrFun gr.2 c) i]
    repeat rw [if_neg (fun h => by (try simp only [at2, rg, fgX, fgM] at h); omega)]
  have F : ∀ (c : Nat) (i : Int), ¬ ((c = 0 ∧ (i = 20 ∨ i = 22 ∨ i = 29 ∨ i = 30)) ∨ (c = 18 ∧ i = 7) ∨ c = 25) → ¬ ((c = 582 ∧ i = σ.I 0 20) ∨ (c = 555 ∧ (i = 30 ∨ i = 38 ∨ i = 44))) → σ2.I c i = σ.I c i := fun c i a b => (F2 c i b).trans (F1 c i a)
  have hR : σ2.R = σ.R := gr.1.1.trans pr.1.1.1
  have hS : σ2.sh = σ.sh := gr.1.2.1.trans pr.1.1.2.1
  have hN : σ2.n = σ.n := gr.1.2.2.trans pr.1.1.2.2
  have tcs : TC σ2 := by
    have q := pr.2
    refine TC_cg (funext fun i => F2 19 i (by omega)) (funext fun i => F2 20 i (by omega)) (funext fun i => F2 21 i (by omega)) (funext fun i => F2 24 i (by omega)) (funext fun i => F2 25 i (by omega)) (F2 18 7 (by omega)) q
  have A7 : σ2.I 18 7 = σ.I 0 32 := by
    rw [F2 18 7 (by omega), congrFun (congrFun pr.1.2 18) 7]
    ((try simp only [at2, rg, fgX, fgM, CQF, and_false, false_and, and_true, true_and, or_false, false_or, or_true, true_or, if_false, if_true, not_false_eq_true, not_true_eq_false])  <;> (repeat' split)) <;> first | rfl | omega
  have A30 : σ2.I 0 30 = cn (isWv σ) (σ.I 0 31) := by
    rw [F2 0 30 (by omega), congrFun (congrFun pr.1.2 0) 30]
    show (if at2 0 30 0 30 then _ else _) = _
    rw [if_pos ⟨rfl, rfl⟩, vb.2.2.2.2, wsum]
    omega
  have A20 : σ2.I 0 20 = σ.I 0 31 := by
    rw [F2 0 20 (by omega), congrFun (congrFun pr.1.2 0) 20]
    ((try simp only [at2, rg, fgX, fgM, CQF, and_false, false_and, and_true, true_and, or_false, false_or, or_true, true_or, if_false, if_true, not_false_eq_true, not_true_eq_false])  <;> (repeat' split)) <;> first | rfl | omega
  have A22 : σ2.I 0 22 = smP (fun _ => True) (σ.I 29) (σ.I 0 31) := by
    rw [F2 0 22 (by omega), congrFun (congrFun pr.1.2 0) 22]
    by_cases q : σ.I 0 31 < σ.I 0 20
    · rw [← (va.2.2.1 _ va2.1 q).1]
      ((try simp only [at2, rg, fgX, fgM, CQF, and_false, false_and, and_true, true_and, or_false, false_or, or_true, true_or, if_false, if_true, not_false_eq_true, not_true_eq_false])  <;> (repeat' split)) <;> first | rfl | omega
    · rw [show σ.I 0 31 = σ.I 0 20 by omega, ← vb.2.2.1]
      ((try simp only [at2, rg, fgX, fgM, CQF, and_false, false_and, and_true, true_and, or_false, false_or, or_true, true_or, if_false, if_true, not_false_eq_true, not_true_eq_false])  <;> (repeat' split)) <;> first | rfl | omega
  have A29 : σ2.I 0 29 = smP (fun _ => True) (σ.I 32) (σ.I 0 31) := by
    rw [F2 0 29 (by omega), congrFun (congrFun pr.1.2 0) 29]
    by_cases q : σ.I 0 31 < σ.I 0 20
    · rw [← (va.2.2.1 _ va2.1 q).2.1]
      ((try simp only [at2, rg, fgX, fgM, CQF, and_false, false_and, and_true, true_and, or_false, false_or, or_true, true_or, if_false, if_true, not_false_eq_true, not_true_eq_false])  <;> (repeat' split)) <;> first | rfl | omega
    · rw [show σ.I 0 31 = σ.I 0 20 by omega, ← vb.2.2.2.1]
      ((try simp only [at2, rg, fgX, fgM, CQF, and_false, false_and, and_true, true_and, or_false, false_or, or_true, true_or, if_false, if_true, not_false_eq_true, not_true_eq_false])  <;> (repeat' split)) <;> first | rfl | omega
  have B30 : σ2.I 555 30 = σ.I 0 31 := by
    rw [congrFun (congrFun gr.2 555) 30]
    have q0 := F1 555 30 (by omega)
    ((try simp only [at2, rg, fgX, fgM, CQF, and_false, false_and, and_true, true_and, or_false, false_or, or_true, true_or, if_false, if_true, not_false_eq_true, not_true_eq_false])  <;> (repeat' split)) <;> first | rfl | omega
  have B38 : σ2.I 555 38 = σ2.I 0 22 := by
    rw [A22, congrFun (congrFun gr.2 555) 38]
    have q0 := F1 555 38 (by omega)
    by_cases q : σ.I 0 31 < σ.I 0 20
    · have z1 := (va.2.2.1 _ va2.1 q)
      have z2 := z1.2.2.2.1.1
      rw [← z1.1]
      ((try simp only [at2, rg, fgX, fgM, CQF, and_false, false_and, and_true, true_and, or_false, false_or, or_true, true_or, if_false, if_true, not_false_eq_true, not_true_eq_false])  <;> (repeat' split)) <;> first | rfl | omega
    · rw [show σ.I 0 31 = σ.I 0 20 by omega, ← vb.2.2.1]
      ((try simp only [at2, rg, fgX, fgM, CQF, and_false, false_and, and_true, true_and, or_false, false_or, or_true, true_or, if_false, if_true, not_false_eq_true, not_true_eq_false])  <;> (repeat' split)) <;> first | rfl | omega
  have B44 : σ2.I 555 44 = σ2.I 0 29 + σ2.I 0 30 := by
    rw [A29, A30, ← e5, congrFun (congrFun gr.2 555) 44]
    have q0 := F1 555 44 (by omega)
    have q1 := vb.2.1
    rw [← va1.1.1] at q1
    by_cases q : σ.I 0 31 < σ.I 0 20
    · ((try simp only [at2, rg, fgX, fgM, CQF, and_false, false_and, and_true, true_and, or_false, false_or, or_true, true_or, if_false, if_true, not_false_eq_true, not_true_eq_false])  <;> (repeat' split)) <;> first | rfl | omega
    · rw [show σ.I 0 31 = σ.I 0 20 by omega]
      ((try simp only [at2, rg, fgX, fgM, CQF, and_false, false_and, and_true, true_and, or_false, false_or, or_true, true_or, if_false, if_true, not_false_eq_true, not_true_eq_false])  <;> (repeat' split)) <;> first | rfl | omega
  have B582 : ∀ i, i ≤ σ.I 0 31 → σ2.I 582 i = σ.I 582 i := by
    intro i hi
    by_cases q : i = σ.I 0 20
    · have q1 := vb.2.1
      rw [← va1.1.1] at q1
      rw [q, congrFun (congrFun gr.2 582) _]
      have q0 := F1 582 (σ.I 0 20) (by omega)
      ((try simp only [at2, rg, fgX, fgM, CQF, and_false, false_and, and_true, true_and, or_false, false_or, or_true, true_or, if_false, if_true, not_false_eq_true, not_true_eq_false])  <;> (repeat' split)) <;> first | rfl | omega
    · exact F 582 i (by omega) (by omega)
  refine ⟨by have pq : y = _ := pe; have gq : z = _ := ge; rw [gq, pq], r.Lay.sf (s1.tr s2), RK_cg hS hN (F 0 1 (by omega) (by omega)) (F 0 41 (by omega) (by omega)) (fun i => F 211 i (by omega) (by omega)) r.RK, ?_, ?_, ?_, ?_, ?_, ?_, ?_, ?_, ?_, ?_, ?_, ?_, ?_, ?_, ?_, ?_, ?_, ?_, ?_, ?_, ?_, ?_, ?_, ?_, ?_⟩
  · exact rTP_cg (fun c i h => F c i (by unfold fTP at h; omega) (by unfold fTP at h; omega)) r.TP
  · exact rFL_cg (fun c i h => F c i (by unfold fFL at h; omega) (by unfold fFL at h; omega)) r.FL
  · exact rVS_cg (fun c i h => F c i (by unfold fVS at h; omega) (by unfold fVS at h; omega)) r.VS
  · exact rOB_cg (fun c i h => F c i (by unfold fOB at h; omega) (by unfold fOB at h; omega)) r.OB
  · exact VA_dis va r.FL te A20 (F 0 31 (by omega) (by omega)) B30 (by rw [F 555 45 (by omega) (by omega)]; omega) A22 A29 A30 B38 B44 B582 (F 0 9 (by omega) (by omega)) (funext fun i => F 16 i (by omega) (by omega)) (fun c h => funext fun i => F c i (by unfold cVA at h; omega) (by unfold cVA at h; omega)) (funext fun i => F 584 i (by omega) (by omega)) (fun c h => funext fun i => F c i (by unfold cTK at h; omega) (by unfold cTK at h; omega)) A7 (funext fun i => F 35 i (by omega) (by omega)) (funext fun i => F 585 i (by omega) (by omega))
  · exact rBD_cg (fun c i h => F c i (by unfold fBD at h; omega) (by unfold fBD at h; omega)) r.BD
  · exact TE_dis te va tcs A20 (F 0 31 (by omega) (by omega)) (F 0 32 (by omega) (by omega)) (F 0 9 (by omega) (by omega)) A29 A30 (fun c h => funext fun i => F c i (by omega) (by omega)) A7
  · exact PK_dis r.PK A20 (F 0 31 (by omega) (by omega)) (F 0 39 (by omega) (by omega)) (fun c h => funext fun i => F c i (by omega) (by omega))
  · exact rUS_cg (fun c i h => F c i (by unfold fUS at h; omega) (by unfold fUS at h; omega)) r.US
  · exact rFO_cg (fun c i h => F c i (by unfold fFO at h; omega) (by unfold fFO at h; omega)) r.FO
  · exact rSH_cg (fun c i h => F c i (by unfold fSH at h; omega) (by unfold fSH at h; omega)) r.SH
  · exact rSW_cg (fun c i h => F c i (by unfold fSW at h; omega) (by unfold fSW at h; omega)) r.SW
  · exact rHI_cg (fun c i h => F c i (by unfold fHI at h; omega) (by unfold fHI at h; omega)) r.HI
  · exact rLN_cg (fun c i h => F c i (by unfold fLN at h; omega) (by unfold fLN at h; omega)) r.LN
  · exact rMK_cg (fun c i h => F c i (by unfold fMK at h; omega) (by unfold fMK at h; omega)) r.MK
  · exact GR_pl r.GR (fun i h => F 0 i (by omega) (by omega)) (fun i h => F 555 i (by omega) (by omega)) (fun c h => funext fun i => F c i (by omega) (by omega)) (B582 _ (Int.le_refl _))
  · exact rTT_cg (fun c i h => F c i (by unfold fTT at h; omega) (by unfold fTT at h; omega)) r.TT
  · exact rMT_cg (fun c i h => F c i (by unfold fMT at h; omega) (by unfold fMT at h; omega)) r.MT
  · exact rSC_cg (fun c i h => F c i (by unfold fSC at h; omega) (by unfold fSC at h; omega)) r.SC
  · exact rQU_cg (fun c i h => F c i (by unfold fQU at h; omega) (by unfold fQU at h; omega)) r.QU
  · exact rKQ_cg (fun c i h => F c i (by unfold fKQ at h; omega) (by unfold fKQ at h; omega)) r.KQ
  · exact rHQ_cg (fun c i h => F c i (by unfold fHQ at h; omega) (by unfold fHQ at h; omega)) r.HQ
  · exact rPP_cg (fun c i h => F c i (by unfold fPP at h; omega) (by unfold fPP at h; omega)) (by rw [hR]) (by rw [hR]) r.PP
  · exact rAN_cg (fun c i h => F c i (by unfold fAN at h; omega) (by unfold fAN at h; omega)) hR hS hN r.AN
  · exact rSE_cg r.SE
end OPN

