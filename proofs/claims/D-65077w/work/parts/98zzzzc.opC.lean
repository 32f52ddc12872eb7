/-! contracts: printed by tools/mk.py out of s98zzzzc_opC.py -/
set_option maxRecDepth 100000
set_option maxHeartbeats 1200000
/-! questions are kept, used, hidden -/
theorem QT_new {σ τ : Sto} {o0 o1 : Nat} {e e' : PE} (h : QT σ o1 e) (hc : ∀ c i, o0 ≤ c → c ≤ o0 + 13 → τ.I c i = CQF σ o0 o1 2 (σ.I o1 2) c i) (m : MoreT e e') (h12 : e.f ≤ 12) (hn : 0 ≤ e.n) : QT τ o0 e' :=
  QT_more ((QT_cg (σ := (CQF σ o0 o1 2 (σ.I o1 2), σ.2)) hc).mpr (QT.cp h rfl)) m h12 hn
theorem QT_old {σ τ : Sto} {q : Nat} {e e' : PE} (h : QT σ q e) (hc : ∀ c i, q ≤ c → c ≤ q + 13 → τ.I c i = σ.I c i) (m : MoreT e e') (h12 : e.f ≤ 12) (hn : 0 ≤ e.n) : QT τ q e' := QT_more ((QT_cg hc).mpr h) m h12 hn
section OPC
variable {E : XE} {d : Nat}

theorem op_keep (hd : 30 ≤ d) : OP_keep E d RR := by
  intro k σ hk r
  have qu := r.QU
  have qu1 := qu.1
  have qu2 := qu.2.1
  have kq := r.KQ
  have kq1 := kq.1
  have fl := r.FL
  have fl1 := fl.1
  obtain ⟨n, hn⟩ : ∃ n : Nat, σ.I 0 51 = (n : Int) := ⟨(σ.I 0 51).toNat, by omega⟩
  have hn2 : (σ.I 0 51).toNat = n := by omega
  by_cases w : σ.I 0 48 ≠ 0 ∧ σ.I 0 51 ≠ 20
  · refine OPI.mk (sp_X0_keep (by omega) r.Lay kq.1.2 qu.2.1) (fun y σ1 p s1 => by
        have e555_66 : σ1.I 555 66 = σ.I 555 66 := by
          rw [congrFun (congrFun p.2.2 555) 66]
          ((try simp only [at2, rg, fgX, fgM, CQF, and_false, false_and, and_true, true_and, or_false, false_or, or_true, true_or, if_false, if_true, not_false_eq_true, not_true_eq_false])  <;> (repeat' split)) <;> first | rfl | omega
        have e555_71 : σ1.I 555 71 = σ.I 555 71 := by
          rw [congrFun (congrFun p.2.2 555) 71]
          ((try simp only [at2, rg, fgX, fgM, CQF, and_false, false_and, and_true, true_and, or_false, false_or, or_true, true_or, if_false, if_true, not_false_eq_true, not_true_eq_false])  <;> (repeat' split)) <;> first | rfl | omega
        exact sp_X9_keep (by omega) (r.Lay.sf s1) (by rw [e555_66]; exact qu.1.2.1) (by rw [e555_71, ← kq.1.1]; exact kq.1.2)) ?_
    intro y σ1 z σ2 p s1 g s2
    have S66 : σ1.I 555 66 = σ.I 555 66 := by
      rw [congrFun (congrFun p.2.2 555) 66]
      ((try simp only [at2, rg, fgX, fgM, CQF, and_false, false_and, and_true, true_and, or_false, false_or, or_true, true_or, if_false, if_true, not_false_eq_true, not_true_eq_false])  <;> (repeat' split)) <;> first | rfl | omega
    have S71 : σ1.I 555 71 = σ.I 0 51 := by
      rw [kq.1.1, congrFun (congrFun p.2.2 555) 71]
      ((try simp only [at2, rg, fgX, fgM, CQF, and_false, false_and, and_true, true_and, or_false, false_or, or_true, true_or, if_false, if_true, not_false_eq_true, not_true_eq_false])  <;> (repeat' split)) <;> first | rfl | omega
    rw [S66, S71] at g
    have w66 : σ.I 555 66 ≠ 0 := fun z => w.1 (qu.1.2.2.mpr z)
    have F1 : ∀ (c : Nat) (i : Int), ¬ ((c = 0 ∧ i = 51) ∨ (275 + 14 * n ≤ c ∧ c ≤ 288 + 14 * n)) → σ1.I c i = σ.I c i := by
      intro c i q
      rw [congrFun (congrFun p.2.2 c) i]
      ((try simp only [at2, rg, fgX, fgM, CQF, and_false, false_and, and_true, true_and, or_false, false_or, or_true, true_or, if_false, if_true, not_false_eq_true, not_true_eq_false])  <;> (repeat' split)) <;> first | rfl | (exfalso; omega)
    have F2 : ∀ (c : Nat) (i : Int), ¬ ((c = 604 ∧ 400 * (n : Int) ≤ i ∧ i < 400 * (n : Int) + σ.I 555 66) ∨ ((c = 605 ∨ c = 606) ∧ i = (n : Int)) ∨ (c = 555 ∧ i = 71)) → σ2.I c i = σ1.I c i := by
      intro c i q
      rw [congrFun (congrFun g.2.2 c) i]
      ((try simp only [at2, rg, fgX, fgM, CQF, and_false, false_and, and_true, true_and, or_false, false_or, or_true, true_or, if_false, if_true, not_false_eq_true, not_true_eq_false])  <;> (repeat' split)) <;> first | rfl | (exfalso; omega)
    have F : ∀ (c : Nat) (i : Int), ¬ ((c = 0 ∧ i = 51) ∨ (275 + 14 * n ≤ c ∧ c ≤ 288 + 14 * n)) → ¬ ((c = 604 ∧ 400 * (n : Int) ≤ i ∧ i < 400 * (n : Int) + σ.I 555 66) ∨ ((c = 605 ∨ c = 606) ∧ i = (n : Int)) ∨ (c = 555 ∧ i = 71)) → σ2.I c i = σ.I c i := fun c i a b => (F2 c i b).trans (F1 c i a)
    have hR : σ2.R = σ.R := g.2.1.1.trans p.2.1.1
    have hS : σ2.sh = σ.sh := g.2.1.2.1.trans p.2.1.2.1
    have hN : σ2.n = σ.n := g.2.1.2.2.trans p.2.1.2.2
    have A51 : σ2.I 0 51 = σ.I 0 51 + 1 := by
      rw [F2 0 51 (by omega), congrFun (congrFun p.2.2 0) 51]
      ((try simp only [at2, rg, fgX, fgM, CQF, and_false, false_and, and_true, true_and, or_false, false_or, or_true, true_or, if_false, if_true, not_false_eq_true, not_true_eq_false])  <;> (repeat' split)) <;> first | rfl | omega
    have B71 : σ2.I 555 71 = σ.I 0 51 + 1 := by
      rw [congrFun (congrFun g.2.2 555) 71]
      ((try simp only [at2, rg, fgX, fgM, CQF, and_false, false_and, and_true, true_and, or_false, false_or, or_true, true_or, if_false, if_true, not_false_eq_true, not_true_eq_false])  <;> (repeat' split)) <;> first | rfl | omega
    have E605 : ∀ i, σ2.I 605 i = if i = (n : Int) then σ.I 555 66 else σ.I 605 i := by
      intro i
      rw [congrFun (congrFun g.2.2 605) i, F1 605 i (by omega)]
      ((try simp only [at2, rg, fgX, fgM, CQF, and_false, false_and, and_true, true_and, or_false, false_or, or_true, true_or, if_false, if_true, not_false_eq_true, not_true_eq_false])  <;> (repeat' split)) <;> first | rfl | omega
    have E606 : ∀ i, σ2.I 606 i = if i = (n : Int) then σ.I 555 67 else σ.I 606 i := by
      intro i
      rw [congrFun (congrFun g.2.2 606) i, F1 606 i (by omega), F1 555 67 (by omega)]
      ((try simp only [at2, rg, fgX, fgM, CQF, and_false, false_and, and_true, true_and, or_false, false_or, or_true, true_or, if_false, if_true, not_false_eq_true, not_true_eq_false])  <;> (repeat' split)) <;> first | rfl | omega
    refine ⟨by rw [g.1, p.1, if_neg w.1, if_neg w.2, if_neg (show ¬ σ.I 555 66 = 0 from fun z => w.1 (qu.1.2.2.mpr z))], r.Lay.sf (s1.tr s2), RK_cg hS hN (F 0 1 (by omega) (by omega)) (F 0 41 (by omega) (by omega)) (fun i => F 211 i (by omega) (by omega)) r.RK, ?_, ?_, ?_, ?_, ?_, ?_, ?_, ?_, ?_, ?_, ?_, ?_, ?_, ?_, ?_, ?_, ?_, ?_, ?_, ?_, ?_, ?_, ?_, ?_, ?_⟩
    · exact rTP_cg (fun c i h => F c i (by unfold fTP at h; omega) (by unfold fTP at h; omega)) r.TP
    · exact rFL_cg (fun c i h => F c i (by unfold fFL at h; omega) (by unfold fFL at h; omega)) r.FL
    · exact rVS_cg (fun c i h => F c i (by unfold fVS at h; omega) (by unfold fVS at h; omega)) r.VS
    · exact rOB_cg (fun c i h => F c i (by unfold fOB at h; omega) (by unfold fOB at h; omega)) r.OB
    · exact rVA_cg (fun c i h => F c i (by unfold fVA at h; omega) (by unfold fVA at h; omega)) r.VA
    · exact rBD_cg (fun c i h => F c i (by unfold fBD at h; omega) (by unfold fBD at h; omega)) r.BD
    · exact rTE_cg (fun c i h => F c i (by unfold fTE at h; omega) (by unfold fTE at h; omega)) r.TE
    · exact rPK_cg (fun c i h => F c i (by unfold fPK at h; omega) (by unfold fPK at h; omega)) r.PK
    · exact rUS_cg (fun c i h => F c i (by unfold fUS at h; omega) (by unfold fUS at h; omega)) r.US
    · exact rFO_cg (fun c i h => F c i (by unfold fFO at h; omega) (by unfold fFO at h; omega)) r.FO
    · exact rSH_cg (fun c i h => F c i (by unfold fSH at h; omega) (by unfold fSH at h; omega)) r.SH
    · exact rSW_cg (fun c i h => F c i (by unfold fSW at h; omega) (by unfold fSW at h; omega)) r.SW
    · exact rHI_cg (fun c i h => F c i (by unfold fHI at h; omega) (by unfold fHI at h; omega)) r.HI
    · exact rLN_cg (fun c i h => F c i (by unfold fLN at h; omega) (by unfold fLN at h; omega)) r.LN
    · exact rMK_cg (fun c i h => F c i (by unfold fMK at h; omega) (by unfold fMK at h; omega)) r.MK
    · exact rGR_cg (fun c i h => F c i (by unfold fGR at h; omega) (by unfold fGR at h; omega)) r.GR
    · exact rTT_cg (fun c i h => F c i (by unfold fTT at h; omega) (by unfold fTT at h; omega)) r.TT
    · exact rMT_cg (fun c i h => F c i (by unfold fMT at h; omega) (by unfold fMT at h; omega)) r.MT
    · exact rSC_cg (fun c i h => F c i (by unfold fSC at h; omega) (by unfold fSC at h; omega)) r.SC
    · exact rQU_cg (fun c i h => F c i (by unfold fQU at h; omega) (by unfold fQU at h; omega)) r.QU
    · refine ⟨by rw [A51, B71]; exact ⟨rfl, by omega, by omega⟩, fun i h0 h1 => ?_, fun j hj => ?_⟩
      · rw [E605]
        split
        · omega
        · exact kq.2.1 i h0 h1
      · rw [A51] at hj
        by_cases q : j = n
        · subst q
          have C : ∀ c i, 275 + 14 * j ≤ c → c ≤ 275 + 14 * j + 13 → σ2.I c i = CQF σ (275 + 14 * j) 51 2 (σ.I 51 2) c i := by
            intro c i h1 h2
            rw [F2 c i (by omega), congrFun (congrFun p.2.2 c) i, hn2]
            have w3 : σ.I 0 48 ≠ 0 ∧ σ.I 0 51 ≠ 20 := w
            show (if σ.I 0 48 ≠ 0 ∧ σ.I 0 51 ≠ 20 then (if at2 c i 0 51 then _ else CQF σ (275 + 14 * j) 51 2 (σ.I 51 2) c i) else _) = _
            rw [if_pos w3, if_neg (show ¬ (c = 0 ∧ i = 51) by omega)]
          have c1 : σ2.I (275 + 14 * j) 1 = σ.I 51 1 := by rw [C _ 1 (by omega) (by omega)]; unfold CQF; rw [if_pos ⟨rfl, by omega, by omega⟩]
          have c2 : σ2.I (275 + 14 * j) 2 = σ.I 51 2 := by rw [C _ 2 (by omega) (by omega)]; unfold CQF; rw [if_pos ⟨rfl, by omega, by omega⟩]
          have c3 : σ2.I (275 + 14 * j) 3 = σ.I 51 3 := by rw [C _ 3 (by omega) (by omega)]; unfold CQF; rw [if_pos ⟨rfl, by omega, by omega⟩]
          have qq := qu.2.2 (by omega)
          refine ⟨⟨by rw [E605, if_pos rfl]; omega, by rw [c1, c2]; exact qu.2.1⟩, ?_, ?_⟩
          · refine QT_new qq.1 C ⟨?_, fun k h0 h1 => ?_, ?_, fun i h0 h1 => ?_⟩ (by show σ.I 555 27 ≤ 12; rw [← fl.1.1]; omega) qu.1.2.1.1
            · show σ2.I 605 j = σ.I 555 66
              rw [E605, if_pos rfl]
            · show σ2.I 577 k = σ.I 577 k
              exact F 577 k (by omega) (by omega)
            · show σ.I 555 27 ≤ σ2.I 555 27
              rw [F 555 27 (by omega) (by omega)]
              omega
            · show σ2.I 604 (400 * (j : Int) + i) = σ.I 603 (0 + i)
              have h1 : i < σ.I 555 66 := h1
              rw [congrFun (congrFun g.2.2 604) (400 * (j : Int) + i), F1 603 _ (by omega), hn]
              show (if _ then (if rg 604 (400 * (j : Int) + i) 604 (400 * (j : Int)) (400 * (j : Int) + σ.I 555 66) then _ else _) else _) = _
              rw [if_pos (by rw [hn] at w; omega), if_pos (show 604 = 604 ∧ _ from ⟨rfl, by omega, by omega⟩)]
              congr 1
              omega
          · rw [c3, E606, if_pos rfl]
            exact qq.2
        · have z := kq.2.2 j (by omega)
          have y1 := kq.2.1 j (by omega) (by omega)
          rw [show σ2.I (275 + 14 * j) = σ.I (275 + 14 * j) from funext fun i => F _ i (by omega) (by omega), E605, if_neg (by omega), E606, if_neg (by omega)]
          refine ⟨z.1, ?_, z.2.2⟩
          refine QT_old z.2.1 (fun c i h1 h2 => F c i (by omega) (by omega)) ⟨?_, fun k h0 h1 => ?_, ?_, fun i h0 h1 => ?_⟩ (by show σ.I 555 27 ≤ 12; rw [← fl.1.1]; omega) y1.1
          · rfl
          · exact F 577 k (by omega) (by omega)
          · show σ.I 555 27 ≤ σ2.I 555 27
            rw [F 555 27 (by omega) (by omega)]
            omega
          · show σ2.I 604 (400 * (j : Int) + i) = σ.I 604 (400 * (j : Int) + i)
            have h1 : i < σ.I 605 j := h1
            exact F 604 _ (by omega) (by omega)
    · exact rHQ_cg (fun c i h => F c i (by unfold fHQ at h; omega) (by unfold fHQ at h; omega)) r.HQ
    · exact rPP_cg (fun c i h => F c i (by unfold fPP at h; omega) (by unfold fPP at h; omega)) (by rw [hR]) (by rw [hR]) r.PP
    · exact rAN_cg (fun c i h => F c i (by unfold fAN at h; omega) (by unfold fAN at h; omega)) hR hS hN r.AN
    · exact rSE_cg r.SE
  · refine OPI.mk (sp_X0_keep (by omega) r.Lay kq.1.2 qu.2.1) (fun y σ1 p s1 => by
        have e555_66 : σ1.I 555 66 = σ.I 555 66 := by
          rw [congrFun (congrFun p.2.2 555) 66]
          ((try simp only [at2, rg, fgX, fgM, CQF, and_false, false_and, and_true, true_and, or_false, false_or, or_true, true_or, if_false, if_true, not_false_eq_true, not_true_eq_false])  <;> (repeat' split)) <;> first | rfl | omega
        have e555_71 : σ1.I 555 71 = σ.I 555 71 := by
          rw [congrFun (congrFun p.2.2 555) 71]
          ((try simp only [at2, rg, fgX, fgM, CQF, and_false, false_and, and_true, true_and, or_false, false_or, or_true, true_or, if_false, if_true, not_false_eq_true, not_true_eq_false])  <;> (repeat' split)) <;> first | rfl | omega
        exact sp_X9_keep (by omega) (r.Lay.sf s1) (by rw [e555_66]; exact qu.1.2.1) (by rw [e555_71, ← kq.1.1]; exact kq.1.2)) ?_
    intro y σ1 z σ2 p s1 g s2
    have S66 : σ1.I 555 66 = σ.I 555 66 := by
      rw [congrFun (congrFun p.2.2 555) 66]
      ((try simp only [at2, rg, fgX, fgM, CQF, and_false, false_and, and_true, true_and, or_false, false_or, or_true, true_or, if_false, if_true, not_false_eq_true, not_true_eq_false])  <;> (repeat' split)) <;> first | rfl | omega
    have S71 : σ1.I 555 71 = σ.I 0 51 := by
      rw [kq.1.1, congrFun (congrFun p.2.2 555) 71]
      ((try simp only [at2, rg, fgX, fgM, CQF, and_false, false_and, and_true, true_and, or_false, false_or, or_true, true_or, if_false, if_true, not_false_eq_true, not_true_eq_false])  <;> (repeat' split)) <;> first | rfl | omega
    rw [S66, S71] at g
    have w66 : ¬ (σ.I 555 66 ≠ 0 ∧ σ.I 0 51 ≠ 20) := fun z => w ⟨fun y => z.1 (qu.1.2.2.mp y), z.2⟩
    have F1 : ∀ (c : Nat) (i : Int), ¬ (c = 0 ∧ c = 1) → σ1.I c i = σ.I c i := by
      intro c i q
      rw [congrFun (congrFun p.2.2 c) i]
      ((try simp only [at2, rg, fgX, fgM, CQF, and_false, false_and, and_true, true_and, or_false, false_or, or_true, true_or, if_false, if_true, not_false_eq_true, not_true_eq_false])  <;> (repeat' split)) <;> first | rfl | (exfalso; omega)
    have F2 : ∀ (c : Nat) (i : Int), ¬ (c = 0 ∧ c = 1) → σ2.I c i = σ1.I c i := by
      intro c i q
      rw [congrFun (congrFun g.2.2 c) i]
      ((try simp only [at2, rg, fgX, fgM, CQF, and_false, false_and, and_true, true_and, or_false, false_or, or_true, true_or, if_false, if_true, not_false_eq_true, not_true_eq_false])  <;> (repeat' split)) <;> first | rfl | (exfalso; omega)
    have F : ∀ (c : Nat) (i : Int), ¬ (c = 0 ∧ c = 1) → ¬ (c = 0 ∧ c = 1) → σ2.I c i = σ.I c i := fun c i a b => (F2 c i b).trans (F1 c i a)
    have hR : σ2.R = σ.R := g.2.1.1.trans p.2.1.1
    have hS : σ2.sh = σ.sh := g.2.1.2.1.trans p.2.1.2.1
    have hN : σ2.n = σ.n := g.2.1.2.2.trans p.2.1.2.2
    refine ⟨by
      rw [g.1, p.1]
      by_cases q : σ.I 0 48 = 0
      · rw [if_pos q, if_pos (qu.1.2.2.mp q)]
      · rw [if_neg q, if_neg (fun z => q (qu.1.2.2.mpr z))], r.Lay.sf (s1.tr s2), RK_cg hS hN (F 0 1 (by omega) (by omega)) (F 0 41 (by omega) (by omega)) (fun i => F 211 i (by omega) (by omega)) r.RK, ?_, ?_, ?_, ?_, ?_, ?_, ?_, ?_, ?_, ?_, ?_, ?_, ?_, ?_, ?_, ?_, ?_, ?_, ?_, ?_, ?_, ?_, ?_, ?_, ?_⟩
    · exact rTP_cg (fun c i h => F c i (by unfold fTP at h; omega) (by unfold fTP at h; omega)) r.TP
    · exact rFL_cg (fun c i h => F c i (by unfold fFL at h; omega) (by unfold fFL at h; omega)) r.FL
    · exact rVS_cg (fun c i h => F c i (by unfold fVS at h; omega) (by unfold fVS at h; omega)) r.VS
    · exact rOB_cg (fun c i h => F c i (by unfold fOB at h; omega) (by unfold fOB at h; omega)) r.OB
    · exact rVA_cg (fun c i h => F c i (by unfold fVA at h; omega) (by unfold fVA at h; omega)) r.VA
    · exact rBD_cg (fun c i h => F c i (by unfold fBD at h; omega) (by unfold fBD at h; omega)) r.BD
    · exact rTE_cg (fun c i h => F c i (by unfold fTE at h; omega) (by unfold fTE at h; omega)) r.TE
    · exact rPK_cg (fun c i h => F c i (by unfold fPK at h; omega) (by unfold fPK at h; omega)) r.PK
    · exact rUS_cg (fun c i h => F c i (by unfold fUS at h; omega) (by unfold fUS at h; omega)) r.US
    · exact rFO_cg (fun c i h => F c i (by unfold fFO at h; omega) (by unfold fFO at h; omega)) r.FO
    · exact rSH_cg (fun c i h => F c i (by unfold fSH at h; omega) (by unfold fSH at h; omega)) r.SH
    · exact rSW_cg (fun c i h => F c i (by unfold fSW at h; omega) (by unfold fSW at h; omega)) r.SW
    · exact rHI_cg (fun c i h => F c i (by unfold fHI at h; omega) (by unfold fHI at h; omega)) r.HI
    · exact rLN_cg (fun c i h => F c i (by unfold fLN at h; omega) (by unfold fLN at h; omega)) r.LN
    · exact rMK_cg (fun c i h => F c i (by unfold fMK at h; omega) (by unfold fMK at h; omega)) r.MK
    · exact rGR_cg (fun c i h => F c i (by unfold fGR at h; omega) (by unfold fGR at h; omega)) r.GR
    · exact rTT_cg (fun c i h => F c i (by unfold fTT at h; omega) (by unfold fTT at h; omega)) r.TT
    · exact rMT_cg (fun c i h => F c i (by unfold fMT at h; omega) (by unfold fMT at h; omega)) r.MT
    · exact rSC_cg (fun c i h => F c i (by unfold fSC at h; omega) (by unfold fSC at h; omega)) r.SC
    · exact rQU_cg (fun c i h => F c i (by unfold fQU at h; omega) (by unfold fQU at h; omega)) r.QU
    · exact rKQ_cg (fun c i h => F c i (by unfold fKQ at h; omega) (by unfold fKQ at h; omega)) r.KQ
    · exact rHQ_cg (fun c i h => F c i (by unfold fHQ at h; omega) (by unfold fHQ at h; omega)) r.HQ
    · exact rPP_cg (fun c i h => F c i (by unfold fPP at h; omega) (by unfold fPP at h; omega)) (by rw [hR]) (by rw [hR]) r.PP
    · exact rAN_cg (fun c i h => F c i (by unfold fAN at h; omega) (by unfold fAN at h; omega)) hR hS hN r.AN
    · exact rSE_cg r.SE
end OPC

