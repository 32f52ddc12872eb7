/-! contracts: printed by tools/mk.py out of s98zzzzy_opV.py -/
set_option maxRecDepth 100000
set_option maxHeartbeats 3000000
/-! the operation question -/
theorem AN_sf {σ τ : Sto} (r : rAN σ) (hI : ∀ (c : Nat) (i : Int), fAN c i → c < σ.n → τ.I c i = σ.I c i) (h675 : 675 ≤ σ.n) (hR : ∀ k, 0 ≤ k → k < 6 → τ.R 3 k = σ.R 3 k) (hA : ∀ b, At10 σ b → At10 τ b) (hn : σ.n ≤ τ.n) : rAN τ := by
  have e2 : τ.I 0 4 = σ.I 0 4 := hI 0 4 (by unfold fAN; omega) (by omega)
  have e3 : τ.I 555 3 = σ.I 555 3 := hI 555 3 (by unfold fAN; omega) (by omega)
  have g : ∀ c : Nat, 558 ≤ c → c ≤ 564 → τ.I c = σ.I c := fun c p q => funext fun i => hI c i (by unfold fAN; omega) (by omega)
  have g2 : ∀ c : Nat, 675 ≤ c → c < σ.n → τ.I c = σ.I c := fun c p q => funext fun i => hI c i (by unfold fAN; omega) q
  obtain ⟨r1, r2, r3, r4, r5, r6, r7, r8⟩ := r
  have e1 : ∀ k, 0 ≤ k → k < 6 → anC τ k = anC σ k := fun k p q => by unfold anC; rw [hR k p q]
  have hi : ∀ k, 0 ≤ k → k < σ.I 0 4 → anC σ k + 10 ≤ σ.n := fun k p q => (r6 k p (by omega) _ (r2 k p q).1).1
  refine ⟨by rw [e2, e3]; exact r1, ?_, ?_, ?_, ?_, ?_, ?_, ?_⟩
  · intro k p q
    rw [e2] at q
    have z := r2 k p q
    rw [e1 k p (by omega), hR k p (by omega)]
    exact ⟨z.1, hA _ z.2.1, z.2.2⟩
  · intro k p q
    rw [e2] at q
    have z := hi k p q
    have w := (r2 k p q).2.2
    rw [e1 k p (by omega)]
    exact ANBs_e (fun c c0 c1 => g2 c (by omega) (by omega)) (r3 k p q)
  · intro k p q b hb
    rw [hR k p q] at hb
    have z := r4 k p q b hb
    exact ⟨hA _ z.1, z.2⟩
  · exact AC_t r5 (fun c i q => by rw [g c q.1 q.2])
  · intro k p q b hb
    rw [hR k p q] at hb
    have z := r6 k p q b hb
    have y := (r4 k p q b hb).2
    refine ⟨by omega, fun j j0 j1 => ?_⟩
    rw [g2 (b + 3) (by omega) (by omega), g2 (b + 6) (by omega) (by omega), g2 (b + 9) (by omega) (by omega)]
    exact z.2 j j0 j1
  · intro j k a b p q u ha hb
    rw [hR j p (by omega)] at ha
    rw [hR k (by omega) u] at hb
    exact r7 j k a b p q u ha hb
  · intro k p q
    rw [e2] at q
    have z := r8 k p q
    have w := (r2 k p q).2.2
    have y := hi k p q
    rw [e1 k p (by omega)]
    unfold anE at z ⊢
    rw [g2 (anC σ k) (by omega) (by omega), g2 (anC σ k + 1) (by omega) (by omega), g2 (anC σ k + 2) (by omega) (by omega), g2 (anC σ k + 3) (by omega) (by omega), g2 (anC σ k + 4) (by omega) (by omega), g2 (anC σ k + 5) (by omega) (by omega), g2 (anC σ k + 6) (by omega) (by omega), g2 (anC σ k + 7) (by omega) (by omega), g2 (anC σ k + 8) (by omega) (by omega), g2 (anC σ k + 9) (by omega) (by omega), g 558 (by omega) (by omega), g 559 (by omega) (by omega), g 560 (by omega) (by omega), g 561 (by omega) (by omega), g 562 (by omega) (by omega), g 563 (by omega) (by omega), g 564 (by omega) (by omega)]
    exact z
theorem qok_01 (e : PE) : qok e = 0 ∨ qok e = 1 := by
  unfold qok
  cases qR e with
  | inl x => exact Or.inl rfl
  | inr x => exact Or.inr rfl
theorem qA_eq {e e' : PE} (h : qR e' = qR e) : qA e' = qA e ∧ qok e' = qok e := by
  unfold qA qok
  rw [h]
  exact ⟨rfl, rfl⟩
theorem qA_on {e : PE} {v : Int} {s : PS} (h : qR e = .inr (v, s)) : qA e = s.on := by
  unfold qA
  rw [h]
/-- what a question that was read says -/
theorem QT_b {σ : Sto} {q : Nat} {e : PE} (h : QT σ q e) : (σ.I q 1 = e.n ∧ 1 ≤ e.n) ∧ (0 ≤ σ.I q 2 ∧ σ.I q 2 ≤ 200) ∧ σ.I q 3 = qA e := by
  obtain ⟨h1, v, s, h2, h3, h4, h5, h6, h7⟩ := h
  obtain ⟨-, k1, k2, k3, -, k4, -⟩ := h3
  have e1 : s00.nc = 0 := rfl
  have e2 : s00.on = 0 := rfl
  have e3 : s00.p = 0 := rfl
  refine ⟨⟨h1.1, by omega⟩, by omega, by rw [h6, qA_on h2]⟩
section OPV
variable {E : XE} {d : Nat}

theorem op_question (hd : 102 ≤ d) : OP_question E d RR := by
  intro k σ hk r
  have tp := r.TP
  have tp1 := tp.1
  have rk := r.RK
  have k1 := rk.2.2.1
  have k2 := rk.2.2.2.1
  have rk1 := rk.1
  have rk2 := rk.2.1
  have fl := r.FL
  have n675 := rk1.1

  by_cases w : ¬ 400 < σ.I 0 1 ∧ qok (eT σ) = 1
  · refine OPI.mk (sp_X0_question (by omega) r.Lay ⟨tp1.2, by omega⟩ fl.1.2 (show σ.n + 1 ≤ 727997 by omega) (show ssum σ + 7 ≤ 6917491 by omega) (by omega)) (fun y σ1 p s1 => by
        have S : ∀ (c : Nat) (i : Int), 555 ≤ c → c < 675 → σ1.I c i = σ.I c i := by
          intro c i h h'
          by_cases w : ¬ 400 < σ.I 0 1 ∧ qok (eT σ) = 1
          · have z := (p.2.2 w).2.2.2 c i (by omega) (by unfold ws0; omega) (by omega)
            rw [z, if_neg (by unfold fgX; omega), if_neg (by omega)]
          · have z := (p.2.1 (by have := qok_01 (eT σ); omega)).2.2 c i (by omega) (by unfold ws0; omega)
            exact z
        exact sp_X9_question (by omega) (r.Lay.sf s1) (by rw [S 555 2 (by omega) (by omega)]; omega) (by rw [S 555 27 (by omega) (by omega), ← fl.1.1]; exact fl.1.2)) ?_
    intro y σ1 z σ2 p s1 g s2
    have S : ∀ (c : Nat) (i : Int), 555 ≤ c → c < 675 → σ1.I c i = σ.I c i := by
      intro c i h h'
      by_cases w : ¬ 400 < σ.I 0 1 ∧ qok (eT σ) = 1
      · have z := (p.2.2 w).2.2.2 c i (by omega) (by unfold ws0; omega) (by omega)
        rw [z, if_neg (by unfold fgX; omega), if_neg (by omega)]
      · have z := (p.2.1 (by have := qok_01 (eT σ); omega)).2.2 c i (by omega) (by unfold ws0; omega)
        exact z
    have eq0 : σ1.I 555 2 = σ.I 0 1 := (S 555 2 (by omega) (by omega)).trans tp1.1.symm
    have same : SameT (eT σ) (eQ σ1 557 0 (σ1.I 555 2)) := by
      refine ⟨eq0, fun k p0 q0 => ?_, ?_, fun i p0 q0 => ?_⟩
      · show σ1.I 577 k = σ.I 16 k
        rw [S 577 k (by omega) (by omega)]
        exact ((fl.2 k p0 q0).1.1).symm
      · show σ1.I 555 27 = σ.I 0 9
        rw [S 555 27 (by omega) (by omega)]
        exact fl.1.1.symm
      · show σ1.I 557 (0 + i) = σ.I 1 i
        have q1 : i < σ.I 0 1 := q0
        rw [Int.zero_add, S 557 i (by omega) (by omega)]
        exact (tp.2 i p0 (by omega)).symm
    have qq := qA_eq (qR_cg same fl.1.2.2 tp1.2)
    rw [qq.1, qq.2, eq0] at g
    have hy : z = y := by rw [g.1, p.1]
    have gQ := g.2
    obtain ⟨gr, gR⟩ := gQ.1
    have gF := gQ.2.2
    obtain ⟨po, p01, pQ, pF⟩ := p.2.2 w
    have ok1 : (if 400 < σ.I 0 1 then (0 : Int) else qok (eT σ)) = 1 := by rw [if_neg w.1]; exact w.2
    rw [ok1] at gF
    have P2 := fun (c : Nat) (i : Int) (h : ¬ wsQu c i) (h2 : ¬ (c = 555 ∧ i = 2)) => ((gF c i h).trans (if_neg h2)).trans (if_pos rfl)
    have n400 : σ.I 0 1 ≤ 400 := by omega
    have F5 : ∀ (c : Nat) (i : Int), c < σ.n → ¬ (c = 80 ∧ i = 0) → ¬ (c = 555 ∧ i = 74) → σ2.R c i = σ.R c i := fun c i h0 h1 h2 => by
      rw [gR, R_wR h2]
      exact po.1 c i h0 h1
    have eN : σ2.n = σ1.n := gQ.2.1.2
    have eS : σ2.sh = σ1.sh := gQ.2.1.1
    have pon := po.2.2.1
    have pos := po.2.2.2
    clear p g gQ gR same qq
    clear w ok1
    have F1 : ∀ (c : Nat) (i : Int), ¬ ((65 ≤ c ∧ c ≤ 78) ∨ c = 80 ∨ (c = 0 ∧ i = 1) ∨ σ.n ≤ c ∨ (51 ≤ c ∧ c ≤ 64) ∨ (c = 0 ∧ i = 48) ∨ (c = 0 ∧ (i = 70 ∨ i = 71 ∨ i = 59 ∨ i = 75 ∨ i = 79))) → σ1.I c i = σ.I c i := by
      intro c i q
      rw [pF c i (by omega) (by unfold ws0; omega) (by omega)]
      rw [if_neg (by unfold fgX; omega), if_neg (by omega)]
    have F2 : ∀ (c : Nat) (i : Int), ¬ ((609 ≤ c ∧ c ≤ 620) ∨ (c = 555 ∧ (75 ≤ i ∧ i ≤ 80)) ∨ (c = 555 ∧ i = 2) ∨ (c = 555 ∧ (i = 66 ∨ i = 67)) ∨ c = 603 ∨ (c = 555 ∧ (i = 114 ∨ i = 115 ∨ i = 133 ∨ i = 134 ∨ i = 135))) → σ2.I c i = σ1.I c i := by
      intro c i q
      rw [P2 c i (by unfold wsQu; omega) (by omega)]
      rw [if_neg (by unfold fgM; omega), if_neg (by omega), if_neg (by omega), if_neg (by omega)]
    have F : ∀ (c : Nat) (i : Int), ¬ ((65 ≤ c ∧ c ≤ 78) ∨ c = 80 ∨ (c = 0 ∧ i = 1) ∨ σ.n ≤ c ∨ (51 ≤ c ∧ c ≤ 64) ∨ (c = 0 ∧ i = 48) ∨ (c = 0 ∧ (i = 70 ∨ i = 71 ∨ i = 59 ∨ i = 75 ∨ i = 79))) → ¬ ((609 ≤ c ∧ c ≤ 620) ∨ (c = 555 ∧ (75 ≤ i ∧ i ≤ 80)) ∨ (c = 555 ∧ i = 2) ∨ (c = 555 ∧ (i = 66 ∨ i = 67)) ∨ c = 603 ∨ (c = 555 ∧ (i = 114 ∨ i = 115 ∨ i = 133 ∨ i = 134 ∨ i = 135))) → σ2.I c i = σ.I c i := fun c i a b => (F2 c i b).trans (F1 c i a)
    have hTr : True := trivial
    have T1 : σ2.I 0 1 = 0 := (F2 0 1 (by omega)).trans p01
    have g02 : σ2.I 555 2 = 0 := by
      rw [gF 555 2 (by unfold wsQu; omega)]
      exact if_pos ⟨rfl, rfl⟩
    have G70 : σ2.I 0 70 = 0 := by
      rw [F2 0 70 (by omega), pF 0 70 (by omega) (by unfold ws0; omega) (by omega), if_pos (by unfold fgX; omega)]
    have G71 : σ2.I 0 71 = 0 := by
      rw [F2 0 71 (by omega), pF 0 71 (by omega) (by unfold ws0; omega) (by omega), if_pos (by unfold fgX; omega)]
    have G59 : σ2.I 0 59 = 0 := by
      rw [F2 0 59 (by omega), pF 0 59 (by omega) (by unfold ws0; omega) (by omega), if_pos (by unfold fgX; omega)]
    have G75 : σ2.I 0 75 = 0 := by
      rw [F2 0 75 (by omega), pF 0 75 (by omega) (by unfold ws0; omega) (by omega), if_pos (by unfold fgX; omega)]
    have G79 : σ2.I 0 79 = 0 := by
      rw [F2 0 79 (by omega), pF 0 79 (by omega) (by unfold ws0; omega) (by omega), if_pos (by unfold fgX; omega)]
    have G114 : σ2.I 555 114 = 0 := by
      rw [P2 555 114 (by unfold wsQu; omega) (by omega), if_pos (by unfold fgM; omega)]
    have G115 : σ2.I 555 115 = 0 := by
      rw [P2 555 115 (by unfold wsQu; omega) (by omega), if_pos (by unfold fgM; omega)]
    have G133 : σ2.I 555 133 = 0 := by
      rw [P2 555 133 (by unfold wsQu; omega) (by omega), if_pos (by unfold fgM; omega)]
    have G134 : σ2.I 555 134 = 0 := by
      rw [P2 555 134 (by unfold wsQu; omega) (by omega), if_pos (by unfold fgM; omega)]
    have G135 : σ2.I 555 135 = 0 := by
      rw [P2 555 135 (by unfold wsQu; omega) (by omega), if_pos (by unfold fgM; omega)]
    have A48 : σ2.I 0 48 = 1 := by
      rw [F2 0 48 (by omega), pF 0 48 (by omega) (by unfold ws0; omega) (by omega), if_neg (by unfold fgX; omega), if_pos ⟨rfl, rfl⟩]
    have B66 : σ2.I 555 66 = σ.I 0 1 := by
      rw [P2 555 66 (by unfold wsQu; omega) (by omega), if_neg (by unfold fgM; omega), if_pos ⟨rfl, rfl⟩]
    have B67 : σ2.I 555 67 = qA (eT σ) := by
      rw [P2 555 67 (by unfold wsQu; omega) (by omega), if_neg (by unfold fgM; omega), if_neg (by omega), if_pos ⟨rfl, rfl⟩]
    have B603 : ∀ i, 0 ≤ i → i < σ.I 0 1 → σ2.I 603 i = σ.I 1 i := by
      intro i i0 i1
      rw [P2 603 i (by unfold wsQu; omega) (by omega), if_neg (by unfold fgM; omega), if_neg (by omega), if_neg (by omega), if_pos ⟨rfl, i0, i1⟩, S 557 i (by omega) (by omega)]
      exact (tp.2 i i0 (by omega)).symm
    have qb := QT_b pQ
    have E51 : ∀ i, σ2.I 51 i = σ1.I 51 i := fun i => F2 51 i (by omega)
    have en : (eT σ).n = σ.I 0 1 := rfl
    rw [en] at qb
    refine ⟨hy, r.Lay.sf (s1.tr s2), (by
      obtain ⟨b1, b2, b3, b4, b5⟩ := rk
      exact ⟨⟨by rw [eN]; omega, by rw [eN]; omega⟩, by rw [ssum_k eS eN]; omega, by rw [T1]; omega, by rw [F 0 41 (by omega) (by omega)]; omega, fun i i0 i1 => by rw [F 211 i (by omega) (by omega)]; have := b5 i i0 i1; omega⟩), ?_, ?_, ?_, ?_, ?_, ?_, ?_, ?_, ?_, ?_, ?_, ?_, ?_, ?_, ?_, ?_, ?_, ?_, ?_, ?_, ?_, ?_, ?_, ?_, ?_⟩
    · exact ⟨⟨T1.trans g02.symm, by rw [T1]; omega⟩, fun i h0 h1 => by rw [F 1 i (by omega) (by omega), F 557 i (by omega) (by omega)]; exact tp.2 i h0 h1⟩
    · exact rFL_cg (fun c i h => F c i (by unfold fFL at h; omega) (by unfold fFL at h; omega)) r.FL
    · exact rVS_cg (fun c i h => F c i (by unfold fVS at h; omega) (by unfold fVS at h; omega)) r.VS
    · exact rOB_cg (fun c i h => F c i (by unfold fOB at h; omega) (by unfold fOB at h; omega)) r.OB
    · exact rVA_cg (fun c i h => F c i (by unfold fVA at h; omega) (by unfold fVA at h; omega)) r.VA
    · exact rBD_cg (fun c i h => F c i (by unfold fBD at h; omega) (by unfold fBD at h; omega)) r.BD
    · exact rTE_cg (fun c i h => F c i (by unfold fTE at h; omega) (by unfold fTE at h; omega)) r.TE
    · exact rPK_cg (fun c i h => F c i (by unfold fPK at h; omega) (by unfold fPK at h; omega)) r.PK
    · exact rUS_cg (fun c i h => F c i (by unfold fUS at h; omega) (by unfold fUS at h; omega)) r.US
    · exact rFO_cg (fun c i h => F c i (by unfold fFO at h; omega) (by unfold fFO at h; omega)) r.FO
    · exact rSH_cg (fun c i h => F c i (by unfold fSH at h; omega) (by unfold fSH at h; omega)) r.SH
    · exact rSW_cg (fun c i h => F c i (by unfold fSW at h; omega) (by unfold fSW at h; omega)) r.SW
    · exact HI_0 r G70 G71 G114 G115 (fun i => F 637 i (by omega) (by omega))
    · exact LN_0 G59 G133
    · exact MK_0 G75 G134
    · exact GRz_0 G79 G135
    · exact rTT_cg (fun c i h => F c i (by unfold fTT at h; omega) (by unfold fTT at h; omega)) r.TT
    · exact rMT_cg (fun c i h => F c i (by unfold fMT at h; omega) (by unfold fMT at h; omega)) r.MT
    · exact rSC_cg (fun c i h => F c i (by unfold fSC at h; omega) (by unfold fSC at h; omega)) r.SC
    · refine ⟨⟨Or.inr A48, by rw [B66]; omega, by rw [A48, B66]; omega⟩, ⟨by rw [E51]; omega, by rw [E51]; omega⟩, fun _ => ⟨?_, by rw [E51, B67]; exact qb.2.2⟩⟩
      rw [B66]
      refine QT_old pQ (fun c i c0 c1 => F2 c i (by omega)) ⟨rfl, fun k p0 q0 => ?_, ?_, fun i p0 q0 => ?_⟩ fl.1.2.2 tp1.2
      · show σ2.I 577 k = σ.I 16 k
        rw [F 577 k (by omega) (by omega)]
        exact ((fl.2 k p0 q0).1.1).symm
      · show σ.I 0 9 ≤ σ2.I 555 27
        rw [F 555 27 (by omega) (by omega), ← fl.1.1]
        exact Int.le_refl _
      · show σ2.I 603 (0 + i) = σ.I 1 i
        rw [Int.zero_add]
        exact B603 i p0 q0
    · exact rKQ_cg (fun c i h => F c i (by unfold fKQ at h; omega) (by unfold fKQ at h; omega)) r.KQ
    · exact rHQ_cg (fun c i h => F c i (by unfold fHQ at h; omega) (by unfold fHQ at h; omega)) r.HQ
    · exact rPP_cg (fun c i h => F c i (by unfold fPP at h; omega) (by unfold fPP at h; omega)) (F5 555 162 (by omega) (by omega) (by omega)) (F5 555 163 (by omega) (by omega) (by omega)) r.PP
    · exact AN_sf r.AN (fun c i h h2 => F c i (by unfold fAN at h; omega) (by unfold fAN at h; omega)) n675 (fun k p q => F5 3 k (by omega) (by omega) (by omega)) (fun b q => q.sf (s1.tr s2)) (by rw [eN]; exact pon.1)
    · exact rSE_cg r.SE
  · refine OPI.mk (sp_X0_question (by omega) r.Lay ⟨tp1.2, by omega⟩ fl.1.2 (show σ.n + 1 ≤ 727997 by omega) (show ssum σ + 7 ≤ 6917491 by omega) (by omega)) (fun y σ1 p s1 => by
        have S : ∀ (c : Nat) (i : Int), 555 ≤ c → c < 675 → σ1.I c i = σ.I c i := by
          intro c i h h'
          by_cases w : ¬ 400 < σ.I 0 1 ∧ qok (eT σ) = 1
          · have z := (p.2.2 w).2.2.2 c i (by omega) (by unfold ws0; omega) (by omega)
            rw [z, if_neg (by unfold fgX; omega), if_neg (by omega)]
          · have z := (p.2.1 (by have := qok_01 (eT σ); omega)).2.2 c i (by omega) (by unfold ws0; omega)
            exact z
        exact sp_X9_question (by omega) (r.Lay.sf s1) (by rw [S 555 2 (by omega) (by omega)]; omega) (by rw [S 555 27 (by omega) (by omega), ← fl.1.1]; exact fl.1.2)) ?_
    intro y σ1 z σ2 p s1 g s2
    have S : ∀ (c : Nat) (i : Int), 555 ≤ c → c < 675 → σ1.I c i = σ.I c i := by
      intro c i h h'
      by_cases w : ¬ 400 < σ.I 0 1 ∧ qok (eT σ) = 1
      · have z := (p.2.2 w).2.2.2 c i (by omega) (by unfold ws0; omega) (by omega)
        rw [z, if_neg (by unfold fgX; omega), if_neg (by omega)]
      · have z := (p.2.1 (by have := qok_01 (eT σ); omega)).2.2 c i (by omega) (by unfold ws0; omega)
        exact z
    have eq0 : σ1.I 555 2 = σ.I 0 1 := (S 555 2 (by omega) (by omega)).trans tp1.1.symm
    have same : SameT (eT σ) (eQ σ1 557 0 (σ1.I 555 2)) := by
      refine ⟨eq0, fun k p0 q0 => ?_, ?_, fun i p0 q0 => ?_⟩
      · show σ1.I 577 k = σ.I 16 k
        rw [S 577 k (by omega) (by omega)]
        exact ((fl.2 k p0 q0).1.1).symm
      · show σ1.I 555 27 = σ.I 0 9
        rw [S 555 27 (by omega) (by omega)]
        exact fl.1.1.symm
      · show σ1.I 557 (0 + i) = σ.I 1 i
        have q1 : i < σ.I 0 1 := q0
        rw [Int.zero_add, S 557 i (by omega) (by omega)]
        exact (tp.2 i p0 (by omega)).symm
    have qq := qA_eq (qR_cg same fl.1.2.2 tp1.2)
    rw [qq.1, qq.2, eq0] at g
    have hy : z = y := by rw [g.1, p.1]
    have gQ := g.2
    obtain ⟨gr, gR⟩ := gQ.1
    have gF := gQ.2.2
    obtain ⟨po, p01, pF⟩ := p.2.1 (by have := qok_01 (eT σ); omega)
    have ok0 : (if 400 < σ.I 0 1 then (0 : Int) else qok (eT σ)) ≠ 1 := by
      by_cases q : 400 < σ.I 0 1
      · rw [if_pos q]; decide
      · rw [if_neg q]; exact fun e => w ⟨q, e⟩
    have F5 : ∀ (c : Nat) (i : Int), c < σ.n → ¬ (c = 80 ∧ i = 0) → ¬ (c = 555 ∧ i = 74) → σ2.R c i = σ.R c i := fun c i h0 h1 h2 => by
      rw [gR, R_wR h2]
      exact po.1 c i h0 h1
    have eN : σ2.n = σ1.n := gQ.2.1.2
    have eS : σ2.sh = σ1.sh := gQ.2.1.1
    have pon := po.2.2.1
    have pos := po.2.2.2
    clear p g gQ gR same qq
    have wh : Hd _ := w
    clear w
    have F1 : ∀ (c : Nat) (i : Int), ¬ ((65 ≤ c ∧ c ≤ 78) ∨ c = 80 ∨ (c = 0 ∧ i = 1) ∨ σ.n ≤ c) → σ1.I c i = σ.I c i := by
      intro c i q
      exact pF c i (by omega) (by unfold ws0; omega)
    have F2 : ∀ (c : Nat) (i : Int), ¬ ((609 ≤ c ∧ c ≤ 620) ∨ (c = 555 ∧ (75 ≤ i ∧ i ≤ 80)) ∨ (c = 555 ∧ i = 2)) → σ2.I c i = σ1.I c i := by
      intro c i q
      rw [gF c i (by unfold wsQu; omega)]
      show (if at2 c i 555 2 then _ else _) = _
      rw [if_neg (by omega), if_neg ok0]
    have F : ∀ (c : Nat) (i : Int), ¬ ((65 ≤ c ∧ c ≤ 78) ∨ c = 80 ∨ (c = 0 ∧ i = 1) ∨ σ.n ≤ c) → ¬ ((609 ≤ c ∧ c ≤ 620) ∨ (c = 555 ∧ (75 ≤ i ∧ i ≤ 80)) ∨ (c = 555 ∧ i = 2)) → σ2.I c i = σ.I c i := fun c i a b => (F2 c i b).trans (F1 c i a)
    have hTr : True := trivial
    have T1 : σ2.I 0 1 = 0 := (F2 0 1 (by omega)).trans p01
    have g02 : σ2.I 555 2 = 0 := by
      rw [gF 555 2 (by unfold wsQu; omega)]
      exact if_pos ⟨rfl, rfl⟩
    refine ⟨hy, r.Lay.sf (s1.tr s2), (by
      obtain ⟨b1, b2, b3, b4, b5⟩ := rk
      exact ⟨⟨by rw [eN]; omega, by rw [eN]; omega⟩, by rw [ssum_k eS eN]; omega, by rw [T1]; omega, by rw [F 0 41 (by omega) (by omega)]; omega, fun i i0 i1 => by rw [F 211 i (by omega) (by omega)]; have := b5 i i0 i1; omega⟩), ?_, ?_, ?_, ?_, ?_, ?_, ?_, ?_, ?_, ?_, ?_, ?_, ?_, ?_, ?_, ?_, ?_, ?_, ?_, ?_, ?_, ?_, ?_, ?_, ?_⟩
    · exact ⟨⟨T1.trans g02.symm, by rw [T1]; omega⟩, fun i h0 h1 => by rw [F 1 i (by omega) (by omega), F 557 i (by omega) (by omega)]; exact tp.2 i h0 h1⟩
    · exact rFL_cg (fun c i h => F c i (by unfold fFL at h; omega) (by unfold fFL at h; omega)) r.FL
    · exact rVS_cg (fun c i h => F c i (by unfold fVS at h; omega) (by unfold fVS at h; omega)) r.VS
    · exact rOB_cg (fun c i h => F c i (by unfold fOB at h; omega) (by unfold fOB at h; omega)) r.OB
    · exact rVA_cg (fun c i h => F c i (by unfold fVA at h; omega) (by unfold fVA at h; omega)) r.VA
    · exact rBD_cg (fun c i h => F c i (by unfold fBD at h; omega) (by unfold fBD at h; omega)) r.BD
    · exact rTE_cg (fun c i h => F c i (by unfold fTE at h; omega) (by unfold fTE at h; omega)) r.TE
    · exact rPK_cg (fun c i h => F c i (by unfold fPK at h; omega) (by unfold fPK at h; omega)) r.PK
    · exact rUS_cg (fun c i h => F c i (by unfold fUS at h; omega) (by unfold fUS at h; omega)) r.US
    · exact rFO_cg (fun c i h => F c i (by unfold fFO at h; omega) (by unfold fFO at h; omega)) r.FO
    · exact rSH_cg (fun c i h => F c i (by unfold fSH at h; omega) (by unfold fSH at h; omega)) r.SH
    · exact rSW_cg (fun c i h => F c i (by unfold fSW at h; omega) (by unfold fSW at h; omega)) r.SW
    · exact rHI_cg (fun c i h => F c i (by unfold fHI at h; omega) (by unfold fHI at h; omega)) r.HI
    · exact rLN_cg (fun c i h => F c i (by unfold fLN at h; omega) (by unfold fLN at h; omega)) r.LN
    · exact rMK_cg (fun c i h => F c i (by unfold fMK at h; omega) (by unfold fMK at h; omega)) r.MK
    · exact rGR_cg (fun c i h => F c i (by unfold fGR at h; omega) (by unfold fGR at h; omega)) r.GR
    · exact rTT_cg (fun c i h => F c i (by unfold fTT at h; omega) (by unfold fTT at h; omega)) r.TT
    · exact rMT_cg (fun c i h => F c i (by unfold fMT at h; omega) (by unfold fMT at h; omega)) r.MT
    · exact rSC_cg (fun c i h => F c i (by unfold fSC at h; omega) (by unfold fSC at h; omega)) r.SC
    · exact rQU_cg (fun c i h => F c i (by unfold fQU at h; omega) (by unfold fQU at h; omega)) r.QU
    · exact rKQ_cg (fun c i h => F c i (by unfold fKQ at h; omega) (by unfold fKQ at h; omega)) r.KQ
    · exact rHQ_cg (fun c i h => F c i (by unfold fHQ at h; omega) (by unfold fHQ at h; omega)) r.HQ
    · exact rPP_cg (fun c i h => F c i (by unfold fPP at h; omega) (by unfold fPP at h; omega)) (F5 555 162 (by omega) (by omega) (by omega)) (F5 555 163 (by omega) (by omega) (by omega)) r.PP
    · exact AN_sf r.AN (fun c i h h2 => F c i (by unfold fAN at h; omega) (by unfold fAN at h; omega)) n675 (fun k p q => F5 3 k (by omega) (by omega) (by omega)) (fun b q => q.sf (s1.tr s2)) (by rw [eN]; exact pon.1)
    · exact rSE_cg r.SE
end OPV

