/-! contracts: printed by tools/mk.py out of s98zzzzv_opA.py -/
set_option maxRecDepth 100000
set_option maxHeartbeats 3000000
/-! the operations analyse, stop, synonym -/
theorem AN_up {σ τ : Sto} {x : Int} (r : rAN σ) (hx : 0 ≤ x ∧ x < σ.I 0 4) (hR : τ.R = σ.R) (hS : τ.sh = σ.sh) (hN : τ.n = σ.n) (h4 : τ.I 0 4 = σ.I 0 4) (h3 : τ.I 555 3 = σ.I 555 3)
    (ho : ∀ (c : Nat) (i : Int), 675 ≤ c → ¬ (anC σ x ≤ c ∧ c ≤ anC σ x + 9) → τ.I c i = σ.I c i) (hm : ∀ (c : Nat) (k : Int), 558 ≤ c → c ≤ 562 → k ≠ x → τ.I c k = σ.I c k) (h64 : ∀ i, ¬ (60 * x ≤ i ∧ i < 60 * x + 60) → τ.I 564 i = σ.I 564 i) (h63 : ∀ i, ¬ (1200 * x ≤ i ∧ i < 1200 * x + 1200) → τ.I 563 i = σ.I 563 i)
    (ne : anE τ (anC σ x) x) (nb : ANBs τ (anC σ x)) (ac : AC τ) : rAN τ := by
  have e1 : ∀ k, anC τ k = anC σ k := fun k => by unfold anC; rw [hR]
  have eA : ∀ b, At10 τ b ↔ At10 σ b := fun b => by unfold At10 At11; rw [hR, hS]
  obtain ⟨r1, r2, r3, r4, r5, r6, r7, r8⟩ := r
  have apart : ∀ k, 0 ≤ k → k < σ.I 0 4 → k ≠ x → ∀ (c : Nat) (i : Int), anC σ k ≤ c → c ≤ anC σ k + 9 → τ.I c i = σ.I c i := by
    intro k k0 k1 kx c i c0 c1
    have a := r2 k k0 k1
    have b := r2 x hx.1 hx.2
    rcases (show k < x ∨ x < k by omega) with q | q
    · have z := r7 k x _ _ k0 q (by omega) a.1 b.1
      exact ho c i (by omega) (by omega)
    · have z := r7 x k _ _ hx.1 q (by omega) b.1 a.1
      exact ho c i (by omega) (by omega)
  refine ⟨by rw [h4, h3]; exact r1, ?_, ?_, ?_, ac, ?_, by rw [hR]; exact r7, ?_⟩
  · intro k p q
    rw [h4] at q
    rw [e1, hR, eA]
    exact r2 k p q
  · intro k p q
    rw [h4] at q
    rw [e1]
    by_cases e : k = x
    · rw [e]; exact nb
    · exact ANBs_e (fun c c0 c1 => funext fun i => apart k p q e c i c0 c1) (r3 k p q)
  · intro k p q b hb
    rw [hR] at hb
    rw [eA]
    exact r4 k p q b hb
  · intro k p q b hb
    rw [hR] at hb
    have z := r6 k p q b hb
    have y := (r4 k p q b hb).2
    have bx := r2 x hx.1 hx.2
    refine ⟨by rw [hN]; exact z.1, fun j j0 j1 => ?_⟩
    by_cases e : k = x
    · rw [e, bx.1] at hb
      have e2 := Option.some.inj hb
      subst e2
      exact ⟨nb.2.2 j j0 j1, (nb.1.2.2.2 j j0 j1).1, (nb.1.2.2.2 j j0 j1).2⟩
    · have ap : b + 10 ≤ anC σ x ∨ anC σ x + 10 ≤ b := by
        rcases (show k < x ∨ x < k by omega) with w | w
        · exact r7 k x _ _ p w (by omega) hb bx.1
        · have := r7 x k _ _ hx.1 w q bx.1 hb
          omega
      rw [ho (b + 3) j (by omega) (by omega), ho (b + 6) j (by omega) (by omega), ho (b + 9) j (by omega) (by omega)]
      exact z.2 j j0 j1
  · intro k p q
    rw [h4] at q
    rw [e1]
    by_cases e : k = x
    · rw [e]
      exact ⟨ne, fun j j0 j1 => nb.2.2 j j0 j1⟩
    · have z := r8 k p q
      have g := apart k p q e
      have nb' := r3 k p q
      obtain ⟨⟨u1, u2, u3⟩, ⟨v1, v2⟩, ⟨w1, w2⟩, y⟩ := z.1
      have b1 := r5.2.2.2.1 k p (by omega)
      have b2 := r5.2.2.2.2.1 k p (by omega)
      refine ⟨⟨⟨?_, ?_, ?_⟩, ⟨?_, fun j j0 j1 => ?_⟩, ⟨?_, ?_⟩, fun j j0 j1 => ?_⟩, fun j j0 j1 => ?_⟩
      · rw [g _ 0 (by omega) (by omega), hm 558 k (by omega) (by omega) e]; exact u1
      · rw [g _ 1 (by omega) (by omega), hm 559 k (by omega) (by omega) e]; exact u2
      · rw [g _ 2 (by omega) (by omega), hm 560 k (by omega) (by omega) e]; exact u3
      · rw [g _ 2 (by omega) (by omega), hm 561 k (by omega) (by omega) e]; exact v1
      · rw [hm 561 k (by omega) (by omega) e] at j1
        have s := v2 j j0 j1
        have s2 := nb'.2.2 j j0 (by omega)
        rw [g _ j (by omega) (by omega), h64 _ (by omega)]
        refine ⟨s.1, fun t t0 t1 => ?_⟩
        rw [g _ _ (by omega) (by omega), h63 _ (by omega)]
        exact s.2 t t0 t1
      · rw [g _ 2 (by omega) (by omega), hm 562 k (by omega) (by omega) e]; exact w1
      · rw [g _ 2 (by omega) (by omega), hm 562 k (by omega) (by omega) e]; exact w2
      · rw [hm 562 k (by omega) (by omega) e] at j1
        have s := y j j0 j1
        have s2 := nb'.1.2.2.2 j j0 (by omega)
        rw [g (anC σ k + 6) j (by omega) (by omega), g (anC σ k + 9) j (by omega) (by omega), h64 _ (by omega), h64 _ (by omega)]
        refine ⟨⟨s.1.1, fun t t0 t1 => ?_⟩, s.2.1, fun t t0 t1 => ?_⟩
        · rw [g _ _ (by omega) (by omega), h63 _ (by omega)]
          exact s.1.2 t t0 t1
        · rw [g _ _ (by omega) (by omega), h63 _ (by omega)]
          exact s.2.2 t t0 t1
      · rw [g _ j (by omega) (by omega)]
        exact z.2 j j0 j1
section OPN
variable {E : XE} {d : Nat}

theorem op_analyse (hd : 30 ≤ d) : OP_analyse E d RR := by
  intro k σ hk r x1 h1
  have tp := r.TP
  have tp1 := tp.1
  have rk := r.RK
  have k1 := rk.2.2.1
  have k2 := rk.2.2.2.1
  have an := r.AN
  have an1 := an.1
  have ac := an.2.2.2.2.1
  have sc := r.SC
  have n30 : σ.I 0 1 ≤ 29990 := by omega
  have sw := r.SW

  by_cases w : 0 ≤ x1 ∧ x1 < σ.I 0 4
  · refine OPI.mk (sp_X0_analyse (by omega) r.Lay h1 ⟨tp1.2, n30⟩ an1.2 an.2.1 an.2.2.1 sw.2.1) (fun y σ1 p s1 => by
        have SS : (σ1.R = σ.R ∧ σ1.sh = σ.sh ∧ σ1.n = σ.n) ∧ ∀ (c : Nat) (i : Int), 10 ≤ c → σ1.I c i = σ.I c i := by
          rcases p with ⟨_, _, q⟩ | ⟨_, _, _, _, q, _⟩
          · refine ⟨q.1, fun c i h => ?_⟩
            rw [q.2]
            show (if at2 c i 0 1 then _ else _) = _
            exact if_neg (fun z => by have := z.1; omega)
          · exact ⟨q.1, fun c i h => q.2 c i (by unfold wsXt at2; omega)⟩
        have S := SS.2
        exact sp_X9_analyse (by omega) (r.Lay.sf s1) h1 (by rw [S 555 2 (by omega)]; omega) (by rw [S 555 3 (by omega)]; omega) (AC_t ac (fun c i q => S c i (by omega))) (bd_0_20_eq sc.2.2.2.2.2.1.2.1 (funext fun i => S 573 i (by omega)))) ?_
    intro y σ1 z σ2 p s1 g s2
    have SS : (σ1.R = σ.R ∧ σ1.sh = σ.sh ∧ σ1.n = σ.n) ∧ ∀ (c : Nat) (i : Int), 10 ≤ c → σ1.I c i = σ.I c i := by
      rcases p with ⟨_, _, q⟩ | ⟨_, _, _, _, q, _⟩
      · refine ⟨q.1, fun c i h => ?_⟩
        rw [q.2]
        show (if at2 c i 0 1 then _ else _) = _
        exact if_neg (fun z => by have := z.1; omega)
      · exact ⟨q.1, fun c i h => q.2 c i (by unfold wsXt at2; omega)⟩
    have S := SS.2
    obtain ⟨-, py, pl, p01, pC, p6⟩ := p.resolve_left (fun q => q.1 w)
    obtain ⟨g, gK, g573⟩ := g
    obtain ⟨-, gz, gC, g24, gs, g02⟩ := g.resolve_left (fun q => q.1 (by rw [S 555 3 (by omega), ← an1.1]; exact w))
    have hL : tk σ1 x1 (σ1.I 557) 0 (σ1.I 555 2) 0 0 tl0 = tk (anS σ (anC σ x1)) 0 (σ.I 1) 0 (σ.I 0 1) 0 0 tl0 := by
      rw [S 555 2 (by omega), ← tp1.1, tk_e (σ := σ) (τ := σ1) (fun c p0 p1 => funext fun i => S c i (by omega)), tk_AN ⟨w.1, by omega⟩ ac (an.2.2.2.2.2.2.2 x1 w.1 w.2).1]
      refine tk_A (by omega) (fun i i0 i1 => ?_)
      rw [S 557 i (by omega)]
      exact (tp.2 i i0 (by omega)).symm
    rw [hL] at gz g24 gs
    obtain ⟨l, hl⟩ : ∃ l, l = tk (anS σ (anC σ x1)) 0 (σ.I 1) 0 (σ.I 0 1) 0 0 tl0 := ⟨_, rfl⟩
    rw [← hl] at gz g24 gs py pl
    clear p g
    have F1 : ∀ (c : Nat) (i : Int), ¬ ((c = 0 ∧ i = 1) ∨ c = 2 ∨ (4 ≤ c ∧ c ≤ 9)) → σ1.I c i = σ.I c i := by
      intro c i q
      exact pC.2 c i (by unfold wsXt at2; omega)
    have F2 : ∀ (c : Nat) (i : Int), ¬ ((c = 555 ∧ (i = 2 ∨ i = 12 ∨ i = 19 ∨ i = 22 ∨ i = 24)) ∨ (565 ≤ c ∧ c ≤ 576)) → σ2.I c i = σ1.I c i := by
      intro c i q
      exact gC.2 c i (by unfold wsSh wsB at2; omega)
    have F : ∀ (c : Nat) (i : Int), ¬ ((c = 0 ∧ i = 1) ∨ c = 2 ∨ (4 ≤ c ∧ c ≤ 9)) → ¬ ((c = 555 ∧ (i = 2 ∨ i = 12 ∨ i = 19 ∨ i = 22 ∨ i = 24)) ∨ (565 ≤ c ∧ c ≤ 576)) → σ2.I c i = σ.I c i := fun c i a b => (F2 c i b).trans (F1 c i a)
    have hR : σ2.R = σ.R := gC.1.1.trans SS.1.1
    have hS : σ2.sh = σ.sh := gC.1.2.1.trans SS.1.2.1
    have hN : σ2.n = σ.n := gC.1.2.2.trans SS.1.2.2
    have T1 : σ2.I 0 1 = 0 := (F2 0 1 (by omega)).trans p01
    refine ⟨gz.trans py.symm, r.Lay.sf (s1.tr s2), RK_c1 hS hN (by rw [T1]; omega) (by rw [F 0 41 (by omega) (by omega)]; omega) (fun i h0 h1 => by rw [F 211 i (by omega) (by omega)]; have := rk.2.2.2.2 i h0 h1; omega) rk, ?_, ?_, ?_, ?_, ?_, ?_, ?_, ?_, ?_, ?_, ?_, ?_, ?_, ?_, ?_, ?_, ?_, ?_, ?_, ?_, ?_, ?_, ?_, ?_, ?_⟩
    · exact ⟨⟨T1.trans g02.symm, by rw [T1]; omega⟩, fun i h0 h1 => by rw [F 1 i (by omega) (by omega), F 557 i (by omega) (by omega)]; exact tp.2 i h0 h1⟩
    · exact rFL_cg (fun c i h => F c i (by unfold fFL at h; omega) (by unfold fFL at h; omega)) r.FL
    · exact rVS_cg (fun c i h => F c i (by unfold fVS at h; omega) (by unfold fVS at h; omega)) r.VS
    · exact rOB_cg (fun c i h => F c i (by unfold fOB at h; omega) (by unfold fOB at h; omega)) r.OB
    · exact rVA_cg (fun c i h => F c i (by unfold fVA at h; omega) (by unfold fVA at h; omega)) r.VA
    · exact rBD_cg (fun c i h => F c i (by unfold fBD at h; omega) (by unfold fBD at h; omega)) r.BD
    · exact rTE_cg (fun c i h => F c i (by unfold fTE at h; omega) (by unfold fTE at h; omega)) r.TE
    · exact rPK_cg (fun c i h => F c i (by unfold fPK at h; omega) (by unfold fPK at h; omega)) r.PK
    · exact rUS_cg (fun c i h => F c i (by unfold fUS at h; omega) (by unfold fUS at h; omega)) r.US
    · exact rFO_cg (fun c i h => F c i (by unfold fFO at h; omega) (by unfold fFO at h; omega)) r.FO
    · exact rSH_cg (fun c i h => F c i (by unfold fSH at h; omega) (by unfold fSH at h; omega)) r.SH
    · have l0 := pl.2.1
      have e5 : σ2.I 4 5 = l.1 := (F2 4 5 (by omega)).trans pl.1
      refine ⟨⟨e5.trans g24.symm, by rw [e5]; exact l0.1, by rw [e5]; exact l0.2⟩, bd_0_20_eq p6 (funext fun i => F2 6 i (by omega)), fun i i0 i1 => ?_⟩
      rw [e5] at i1
      obtain ⟨⟨a1, a2, a3⟩, ⟨b1, b2, b3⟩, c1⟩ := pl.2.2 i i0 i1
      obtain ⟨d1, d2, d3, d4, d5⟩ := gs i i0 i1
      have a1 : σ1.I 6 i = l.2.1 i := a1
      have b1 : σ1.I 7 i = l.2.2.2.1 i := b1
      have b2 : σ1.I 8 i = l.2.2.2.2.1 i := b2
      have b3 : σ1.I 9 i = l.2.2.2.2.2 i := b3
      rw [F2 7 i (by omega), F2 8 i (by omega), F2 9 i (by omega), F2 6 i (by omega)]
      refine ⟨⟨b1.trans d1.symm, b2.trans d2.symm, b3.trans d3.symm, a1.trans d4.symm⟩, fun k k0 k1 => ?_⟩
      rw [a1] at k1
      rw [F2 5 _ (by omega), d5 k k0 k1]
      exact c1 k k0 k1
    · exact rHI_cg (fun c i h => F c i (by unfold fHI at h; omega) (by unfold fHI at h; omega)) r.HI
    · exact rLN_cg (fun c i h => F c i (by unfold fLN at h; omega) (by unfold fLN at h; omega)) r.LN
    · exact rMK_cg (fun c i h => F c i (by unfold fMK at h; omega) (by unfold fMK at h; omega)) r.MK
    · exact rGR_cg (fun c i h => F c i (by unfold fGR at h; omega) (by unfold fGR at h; omega)) r.GR
    · exact rTT_cg (fun c i h => F c i (by unfold fTT at h; omega) (by unfold fTT at h; omega)) r.TT
    · exact rMT_cg (fun c i h => F c i (by unfold fMT at h; omega) (by unfold fMT at h; omega)) r.MT
    · exact SC_2 sc (fun c i q q1 q2 => F c i (by unfold fSC at q; omega) (by unfold fSC at q; omega)) (bd_0_20_eq sc.1.1.1 (funext fun i => F 12 i (by omega) (by omega))) g573
    · exact rQU_cg (fun c i h => F c i (by unfold fQU at h; omega) (by unfold fQU at h; omega)) r.QU
    · exact rKQ_cg (fun c i h => F c i (by unfold fKQ at h; omega) (by unfold fKQ at h; omega)) r.KQ
    · exact rHQ_cg (fun c i h => F c i (by unfold fHQ at h; omega) (by unfold fHQ at h; omega)) r.HQ
    · exact rPP_cg (fun c i h => F c i (by unfold fPP at h; omega) (by unfold fPP at h; omega)) (by rw [hR]) (by rw [hR]) r.PP
    · exact rAN_cg (fun c i h => F c i (by unfold fAN at h; omega) (by unfold fAN at h; omega)) hR hS hN r.AN
    · exact rSE_cg r.SE
  · refine OPI.mk (sp_X0_analyse (by omega) r.Lay h1 ⟨tp1.2, n30⟩ an1.2 an.2.1 an.2.2.1 sw.2.1) (fun y σ1 p s1 => by
        have SS : (σ1.R = σ.R ∧ σ1.sh = σ.sh ∧ σ1.n = σ.n) ∧ ∀ (c : Nat) (i : Int), 10 ≤ c → σ1.I c i = σ.I c i := by
          rcases p with ⟨_, _, q⟩ | ⟨_, _, _, _, q, _⟩
          · refine ⟨q.1, fun c i h => ?_⟩
            rw [q.2]
            show (if at2 c i 0 1 then _ else _) = _
            exact if_neg (fun z => by have := z.1; omega)
          · exact ⟨q.1, fun c i h => q.2 c i (by unfold wsXt at2; omega)⟩
        have S := SS.2
        exact sp_X9_analyse (by omega) (r.Lay.sf s1) h1 (by rw [S 555 2 (by omega)]; omega) (by rw [S 555 3 (by omega)]; omega) (AC_t ac (fun c i q => S c i (by omega))) (bd_0_20_eq sc.2.2.2.2.2.1.2.1 (funext fun i => S 573 i (by omega)))) ?_
    intro y σ1 z σ2 p s1 g s2
    have SS : (σ1.R = σ.R ∧ σ1.sh = σ.sh ∧ σ1.n = σ.n) ∧ ∀ (c : Nat) (i : Int), 10 ≤ c → σ1.I c i = σ.I c i := by
      rcases p with ⟨_, _, q⟩ | ⟨_, _, _, _, q, _⟩
      · refine ⟨q.1, fun c i h => ?_⟩
        rw [q.2]
        show (if at2 c i 0 1 then _ else _) = _
        exact if_neg (fun z => by have := z.1; omega)
      · exact ⟨q.1, fun c i h => q.2 c i (by unfold wsXt at2; omega)⟩
    have S := SS.2
    obtain ⟨-, py, pq⟩ := p.resolve_right (fun q => w q.1)
    obtain ⟨g, gK, g573⟩ := g
    obtain ⟨-, gz, gC, g24, g575, g576, g02⟩ := g.resolve_right (fun q => w (by have z := q.1; rw [S 555 3 (by omega), ← an1.1] at z; exact z))
    have p01 : σ1.I 0 1 = 0 := by
      rw [pq.2]
      show (if at2 0 1 0 1 then _ else _) = _
      exact if_pos ⟨rfl, rfl⟩
    clear p g
    have F1 : ∀ (c : Nat) (i : Int), ¬ (c = 0 ∧ i = 1) → σ1.I c i = σ.I c i := by
      intro c i q
      rw [pq.2]
      show (if at2 c i 0 1 then _ else _) = _
      exact if_neg q
    have F2 : ∀ (c : Nat) (i : Int), ¬ ((c = 555 ∧ (i = 2 ∨ i = 12 ∨ i = 19 ∨ i = 22)) ∨ (565 ≤ c ∧ c ≤ 574)) → σ2.I c i = σ1.I c i := by
      intro c i q
      by_cases q1 : c = 575
      · rw [q1, g575]
      by_cases q2 : c = 576
      · rw [q2, g576]
      by_cases q3 : c = 555 ∧ i = 24
      · rw [q3.1, q3.2, g24]
      exact gC.2 c i (by unfold wsSh wsB at2; omega)
    have F : ∀ (c : Nat) (i : Int), ¬ (c = 0 ∧ i = 1) → ¬ ((c = 555 ∧ (i = 2 ∨ i = 12 ∨ i = 19 ∨ i = 22)) ∨ (565 ≤ c ∧ c ≤ 574)) → σ2.I c i = σ.I c i := fun c i a b => (F2 c i b).trans (F1 c i a)
    have hR : σ2.R = σ.R := gC.1.1.trans SS.1.1
    have hS : σ2.sh = σ.sh := gC.1.2.1.trans SS.1.2.1
    have hN : σ2.n = σ.n := gC.1.2.2.trans SS.1.2.2
    have T1 : σ2.I 0 1 = 0 := (F2 0 1 (by omega)).trans p01
    refine ⟨gz.trans py.symm, r.Lay.sf (s1.tr s2), RK_c1 hS hN (by rw [T1]; omega) (by rw [F 0 41 (by omega) (by omega)]; omega) (fun i h0 h1 => by rw [F 211 i (by omega) (by omega)]; have := rk.2.2.2.2 i h0 h1; omega) rk, ?_, ?_, ?_, ?_, ?_, ?_, ?_, ?_, ?_, ?_, ?_, ?_, ?_, ?_, ?_, ?_, ?_, ?_, ?_, ?_, ?_, ?_, ?_, ?_, ?_⟩
    · exact ⟨⟨T1.trans g02.symm, by rw [T1]; omega⟩, fun i h0 h1 => by rw [F 1 i (by omega) (by omega), F 557 i (by omega) (by omega)]; exact tp.2 i h0 h1⟩
    · exact rFL_cg (fun c i h => F c i (by unfold fFL at h; omega) (by unfold fFL at h; omega)) r.FL
    · exact rVS_cg (fun c i h => F c i (by unfold fVS at h; omega) (by unfold fVS at h; omega)) r.VS
    · exact rOB_cg (fun c i h => F c i (by unfold fOB at h; omega) (by unfold fOB at h; omega)) r.OB
    · exact rVA_cg (fun c i h => F c i (by unfold fVA at h; omega) (by unfold fVA at h; omega)) r.VA
    · exact rBD_cg (fun c i h => F c i (by unfold fBD at h; omega) (by unfold fBD at h; omega)) r.BD
    · exact rTE_cg (fun c i h => F c i (by unfold fTE at h; omega) (by unfold fTE at h; omega)) r.TE
    · exact rPK_cg (fun c i h => F c i (by unfold fPK at h; omega) (by unfold fPK at h; omega)) r.PK
    · exact rUS_cg (fun c i h => F c i (by unfold fUS at h; omega) (by unfold fUS at h; omega)) r.US
    · exact rFO_cg (fun c i h => F c i (by unfold fFO at h; omega) (by unfold fFO at h; omega)) r.FO
    · exact rSH_cg (fun c i h => F c i (by unfold fSH at h; omega) (by unfold fSH at h; omega)) r.SH
    · exact rSW_cg (fun c i h => F c i (by unfold fSW at h; omega) (by unfold fSW at h; omega)) r.SW
    · exact rHI_cg (fun c i h => F c i (by unfold fHI at h; omega) (by unfold fHI at h; omega)) r.HI
    · exact rLN_cg (fun c i h => F c i (by unfold fLN at h; omega) (by unfold fLN at h; omega)) r.LN
    · exact rMK_cg (fun c i h => F c i (by unfold fMK at h; omega) (by unfold fMK at h; omega)) r.MK
    · exact rGR_cg (fun c i h => F c i (by unfold fGR at h; omega) (by unfold fGR at h; omega)) r.GR
    · exact rTT_cg (fun c i h => F c i (by unfold fTT at h; omega) (by unfold fTT at h; omega)) r.TT
    · exact rMT_cg (fun c i h => F c i (by unfold fMT at h; omega) (by unfold fMT at h; omega)) r.MT
    · exact SC_2 sc (fun c i q q1 q2 => F c i (by unfold fSC at q; omega) (by unfold fSC at q; omega)) (bd_0_20_eq sc.1.1.1 (funext fun i => F 12 i (by omega) (by omega))) g573
    · exact rQU_cg (fun c i h => F c i (by unfold fQU at h; omega) (by unfold fQU at h; omega)) r.QU
    · exact rKQ_cg (fun c i h => F c i (by unfold fKQ at h; omega) (by unfold fKQ at h; omega)) r.KQ
    · exact rHQ_cg (fun c i h => F c i (by unfold fHQ at h; omega) (by unfold fHQ at h; omega)) r.HQ
    · exact rPP_cg (fun c i h => F c i (by unfold fPP at h; omega) (by unfold fPP at h; omega)) (by rw [hR]) (by rw [hR]) r.PP
    · exact rAN_cg (fun c i h => F c i (by unfold fAN at h; omega) (by unfold fAN at h; omega)) hR hS hN r.AN
    · exact rSE_cg r.SE

theorem op_stop (hd : 30 ≤ d) : OP_stop E d RR := by
  intro k σ hk r x1 h1
  have tp := r.TP
  have tp1 := tp.1
  have rk := r.RK
  have k1 := rk.2.2.1
  have k2 := rk.2.2.2.1
  have an := r.AN
  have an1 := an.1
  have ac := an.2.2.2.2.1
  have sc := r.SC
  have n30 : σ.I 0 1 ≤ 29990 := by omega
  have wok : (0 ≤ x1 ∧ x1 < σ.I 0 4 ∧ zb ((1 ≤ σ.I 0 1 ∧ σ.I 0 1 ≤ 20) ∧ letA (σ.I 557) 0 (σ.I 0 1)) = 1) ↔ ((0 ≤ x1 ∧ x1 < σ.I 0 4) ∧ (1 ≤ (σ.I 0 1) ∧ (σ.I 0 1) ≤ 20) ∧ letA (σ.I 1) 0 (σ.I 0 1)) := by
    rw [zb_1]
    have key : (1 ≤ σ.I 0 1 ∧ σ.I 0 1 ≤ 20) → (letA (σ.I 557) 0 (σ.I 0 1) ↔ letA (σ.I 1) 0 (σ.I 0 1)) := fun q => alN_cg (fun k h0 h1 => by rw [Int.zero_add, tp.2 k h0 (by omega)])
    constructor
    · rintro ⟨a, b, c, e⟩; exact ⟨⟨a, b⟩, c, (key c).mp e⟩
    · rintro ⟨⟨a, b⟩, c, e⟩; exact ⟨a, b, c, (key c).mpr e⟩
  have e561 : 0 ≤ x1 ∧ x1 < σ.I 0 4 → σ.I 561 x1 = σ.I (anC σ x1 + 1) 2 := fun q => (an.2.2.2.2.2.2.2 x1 q.1 q.2).1.2.1.1.symm
  have wex : ((0 ≤ x1 ∧ x1 < σ.I 0 4) ∧ (1 ≤ (σ.I 0 1) ∧ (σ.I 0 1) ≤ 20) ∧ letA (σ.I 1) 0 (σ.I 0 1)) → ((exN (fun k => σ.I 564 (60 * x1 + k) = σ.I 0 1 ∧ eqA (σ.I 563) (σ.I 557) (20 * (60 * x1 + k)) 0 (σ.I 0 1)) (σ.I 561 x1)) ↔ (∃ k, 0 ≤ k ∧ k < σ.I (anC σ x1 + 1) 2 ∧ σ.I (anC σ x1 + 3) k = (σ.I 0 1) ∧ eqR σ (anC σ x1 + 2) (20 * k) 1 0 (σ.I 0 1))) := by
    intro q
    have z := (an.2.2.2.2.2.2.2 x1 q.1.1 q.1.2).1.2.1
    unfold exN
    rw [← z.1]
    refine exists_congr fun k => and_congr_right fun k0 => and_congr_right fun k1 => ?_
    have y := z.2 k k0 (by rw [← z.1]; exact k1)
    show (σ.I 564 (60 * x1 + k) = σ.I 0 1 ∧ eqA (σ.I 563) (σ.I 557) (20 * (60 * x1 + k)) 0 (σ.I 0 1)) ↔ _
    rw [← y.1]
    refine and_congr_right fun e => ?_
    unfold eqA eqR
    refine ⟨fun h t t0 t1 => ?_, fun h t t0 t1 => ?_⟩
    · have u : σ.I 563 (20 * (60 * x1 + k) + t) = σ.I 557 (0 + t) := h t t0 t1
      rw [y.2 t t0 (by omega), Int.zero_add, tp.2 t t0 (by omega)]
      rw [Int.zero_add] at u
      exact u
    · have u := h t t0 t1
      rw [y.2 t t0 (by omega), Int.zero_add, tp.2 t t0 (by omega)] at u
      show σ.I 563 _ = σ.I 557 (0 + t)
      rw [Int.zero_add]
      exact u

  by_cases w : ((0 ≤ x1 ∧ x1 < σ.I 0 4) ∧ (1 ≤ (σ.I 0 1) ∧ (σ.I 0 1) ≤ 20) ∧ letA (σ.I 1) 0 (σ.I 0 1)) ∧ ¬ (∃ k, 0 ≤ k ∧ k < σ.I (anC σ x1 + 1) 2 ∧ σ.I (anC σ x1 + 3) k = (σ.I 0 1) ∧ eqR σ (anC σ x1 + 2) (20 * k) 1 0 (σ.I 0 1)) ∧ σ.I (anC σ x1 + 1) 2 ≠ 20
  · refine OPI.mk (sp_X0_stop (by omega) r.Lay h1 ⟨tp1.2, n30⟩ an1.2 an.2.1 an.2.2.1) (fun y σ1 p s1 => by
        have SS : (σ1.R = σ.R ∧ σ1.sh = σ.sh ∧ σ1.n = σ.n) ∧ ∀ (c : Nat) (i : Int), 555 ≤ c → c ≤ 674 → σ1.I c i = σ.I c i := by
          clear wok wex
          have key : RD σ σ1 (fun c i => if at2 c i 0 1 then 0 else σ.I c i) → (σ1.R = σ.R ∧ σ1.sh = σ.sh ∧ σ1.n = σ.n) ∧ ∀ (c : Nat) (i : Int), 555 ≤ c → c ≤ 674 → σ1.I c i = σ.I c i := fun q => by
            refine ⟨q.1, fun c i h h' => ?_⟩
            rw [q.2]
            show (if at2 c i 0 1 then _ else _) = _
            exact if_neg (fun z => by have := z.1; omega)
          rcases p with ⟨_, _, q⟩ | ⟨_, _, _, q⟩ | ⟨_, _, _, _, q⟩ | ⟨q0, _, _, _, q⟩
          · exact key q
          · exact key q
          · exact key q
          · have a := (an.2.1 x1 q0.1.1 q0.1.2).2.2
            refine ⟨q.1, fun c i h h' => ?_⟩
            rw [q.2]
            show (if at2 c i 0 1 then _ else if rg c i _ _ _ then _ else if at2 c i _ _ then _ else if at2 c i _ _ then _ else _) = _
            rw [if_neg (fun z => by have := z.1; omega), if_neg (fun z => by have := z.1; omega), if_neg (fun z => by have := z.1; omega), if_neg (fun z => by have := z.1; omega)]
        have S := SS.2
        have S' : ∀ c : Nat, 555 ≤ c → c ≤ 674 → σ1.I c = σ.I c := fun c h h' => funext fun i => S c i h h'
        exact sp_X9_stop (by omega) (r.Lay.sf s1) h1 (by rw [S 555 2 (by omega) (by omega)]; omega) (by rw [S 555 3 (by omega) (by omega)]; omega) (bd_0_20_eq ac.2.2.2.2.2 (S' 564 (by omega) (by omega))) (bd_0_20_eq ac.2.2.2.1 (S' 561 (by omega) (by omega)))) ?_
    intro y σ1 z σ2 p s1 g s2
    have SS : (σ1.R = σ.R ∧ σ1.sh = σ.sh ∧ σ1.n = σ.n) ∧ ∀ (c : Nat) (i : Int), 555 ≤ c → c ≤ 674 → σ1.I c i = σ.I c i := by
      clear wok wex
      have key : RD σ σ1 (fun c i => if at2 c i 0 1 then 0 else σ.I c i) → (σ1.R = σ.R ∧ σ1.sh = σ.sh ∧ σ1.n = σ.n) ∧ ∀ (c : Nat) (i : Int), 555 ≤ c → c ≤ 674 → σ1.I c i = σ.I c i := fun q => by
        refine ⟨q.1, fun c i h h' => ?_⟩
        rw [q.2]
        show (if at2 c i 0 1 then _ else _) = _
        exact if_neg (fun z => by have := z.1; omega)
      rcases p with ⟨_, _, q⟩ | ⟨_, _, _, q⟩ | ⟨_, _, _, _, q⟩ | ⟨q0, _, _, _, q⟩
      · exact key q
      · exact key q
      · exact key q
      · have a := (an.2.1 x1 q0.1.1 q0.1.2).2.2
        refine ⟨q.1, fun c i h h' => ?_⟩
        rw [q.2]
        show (if at2 c i 0 1 then _ else if rg c i _ _ _ then _ else if at2 c i _ _ then _ else if at2 c i _ _ then _ else _) = _
        rw [if_neg (fun z => by have := z.1; omega), if_neg (fun z => by have := z.1; omega), if_neg (fun z => by have := z.1; omega), if_neg (fun z => by have := z.1; omega)]
    have S := SS.2
    have S' : ∀ c : Nat, 555 ≤ c → c ≤ 674 → σ1.I c = σ.I c := fun c h h' => funext fun i => S c i h h'
    rw [S' 564 (by omega) (by omega), S' 563 (by omega) (by omega), S' 557 (by omega) (by omega), S' 561 (by omega) (by omega), S 555 2 (by omega) (by omega), S 555 3 (by omega) (by omega), ← tp1.1, ← an1.1] at g
    obtain ⟨-, -, -, py, pq⟩ : _ := ((p.resolve_left (fun q => q.1 w.1)).resolve_left (fun q => w.2.1 q.2.1)).resolve_left (fun q => w.2.2 q.2.2.1)
    have P2 := fun (c : Nat) (i : Int) (h : ¬ (c = 555 ∧ i = 2)) => ((congrFun (congrFun g.2.2 c) i).trans (if_neg h)).trans (if_pos ⟨wok.mpr w.1, fun z => w.2.1 ((wex w.1).mp (zb_1.mp z)), by rw [e561 w.1.1]; exact w.2.2⟩)
    have e1 := e561 w.1.1
    have hy : z = y := by
      rw [g.1, py, if_neg (fun z => z (wok.mpr w.1)), if_neg (fun z => w.2.1 ((wex w.1).mp (zb_1.mp z))), if_neg (by rw [e1]; exact w.2.2), e1]
    have p01 : σ1.I 0 1 = 0 := by
      rw [pq.2]
      show (if at2 0 1 0 1 then _ else _) = _
      exact if_pos ⟨rfl, rfl⟩
    have g02 : σ2.I 555 2 = 0 := by
      rw [g.2.2]
      show (if at2 555 2 555 2 then _ else _) = _
      exact if_pos ⟨rfl, rfl⟩
    have wx := w.1.1
    have wn := w.1.2.1
    have wm := w.2.2
    have a675 := (an.2.1 x1 wx.1 wx.2).2.2
    have nb := an.2.2.1 x1 wx.1 wx.2
    have b20 := nb.2.1
    clear p wok wex w
    have F1 : ∀ (c : Nat) (i : Int), ¬ ((c = 0 ∧ i = 1) ∨ (c = anC σ x1 + 2 ∧ 20 * σ.I (anC σ x1 + 1) 2 ≤ i ∧ i < 20 * σ.I (anC σ x1 + 1) 2 + σ.I 0 1) ∨ (c = anC σ x1 + 3 ∧ i = σ.I (anC σ x1 + 1) 2) ∨ (c = anC σ x1 + 1 ∧ i = 2)) → σ1.I c i = σ.I c i := by
      intro c i q
      rw [pq.2]
      show (if at2 c i 0 1 then _ else if rg c i _ _ _ then _ else if at2 c i _ _ then _ else if at2 c i _ _ then _ else _) = _
      rw [if_neg (fun z => by simp only [at2] at z; omega), if_neg (fun z => by simp only [rg] at z; omega), if_neg (fun z => by simp only [at2] at z; omega), if_neg (fun z => by simp only [at2] at z; omega)]
    have F2 : ∀ (c : Nat) (i : Int), ¬ ((c = 555 ∧ i = 2) ∨ (c = 564 ∧ i = 60 * x1 + σ.I (anC σ x1 + 1) 2) ∨ (c = 563 ∧ 20 * (60 * x1 + σ.I (anC σ x1 + 1) 2) ≤ i ∧ i < 20 * (60 * x1 + σ.I (anC σ x1 + 1) 2) + σ.I 0 1) ∨ (c = 561 ∧ i = x1)) → σ2.I c i = σ1.I c i := by
      intro c i q
      rw [P2 c i (by omega)]
      show (if at2 c i _ _ then _ else if rg c i _ _ _ then _ else if at2 c i _ _ then _ else _) = _
      rw [e1, if_neg (fun z => by simp only [at2] at z; omega), if_neg (fun z => by simp only [rg] at z; omega), if_neg (fun z => by simp only [at2] at z; omega)]
    have F : ∀ (c : Nat) (i : Int), ¬ ((c = 0 ∧ i = 1) ∨ (c = anC σ x1 + 2 ∧ 20 * σ.I (anC σ x1 + 1) 2 ≤ i ∧ i < 20 * σ.I (anC σ x1 + 1) 2 + σ.I 0 1) ∨ (c = anC σ x1 + 3 ∧ i = σ.I (anC σ x1 + 1) 2) ∨ (c = anC σ x1 + 1 ∧ i = 2)) → ¬ ((c = 555 ∧ i = 2) ∨ (c = 564 ∧ i = 60 * x1 + σ.I (anC σ x1 + 1) 2) ∨ (c = 563 ∧ 20 * (60 * x1 + σ.I (anC σ x1 + 1) 2) ≤ i ∧ i < 20 * (60 * x1 + σ.I (anC σ x1 + 1) 2) + σ.I 0 1) ∨ (c = 561 ∧ i = x1)) → σ2.I c i = σ.I c i := fun c i a b => (F2 c i b).trans (F1 c i a)
    have hR : σ2.R = σ.R := g.2.1.1.trans SS.1.1
    have hS : σ2.sh = σ.sh := g.2.1.2.1.trans SS.1.2.1
    have hN : σ2.n = σ.n := g.2.1.2.2.trans SS.1.2.2
    have T1 : σ2.I 0 1 = 0 := (F2 0 1 (by omega)).trans p01
    have A1 : σ2.I (anC σ x1 + 1) 2 = (σ.I (anC σ x1 + 1) 2) + 1 := by
      rw [F2 _ _ (by omega), pq.2]
      show (if at2 _ _ 0 1 then _ else if rg _ _ _ _ _ then _ else if at2 _ _ _ _ then _ else if at2 _ _ _ _ then _ else _) = _
      rw [if_neg (fun z => by have := z.1; omega), if_neg (fun z => by have := z.1; omega), if_neg (fun z => by have := z.1; omega), if_pos ⟨rfl, rfl⟩]
    have A3 : σ2.I (anC σ x1 + 3) (σ.I (anC σ x1 + 1) 2) = σ.I 0 1 := by
      rw [F2 _ _ (by omega), pq.2]
      show (if at2 _ _ 0 1 then _ else if rg _ _ _ _ _ then _ else if at2 _ _ _ _ then _ else _) = _
      rw [if_neg (fun z => by have := z.1; omega), if_neg (fun z => by have := z.1; omega), if_pos ⟨rfl, rfl⟩]
    have A2 : ∀ t, 0 ≤ t → t < σ.I 0 1 → σ2.I (anC σ x1 + 2) (20 * (σ.I (anC σ x1 + 1) 2) + t) = σ.I 1 t := by
      intro t t0 t1
      rw [F2 _ _ (by omega), pq.2]
      show (if at2 _ _ 0 1 then _ else if rg _ _ _ _ _ then σ.I 1 (20 * (σ.I (anC σ x1 + 1) 2) + t - 20 * (σ.I (anC σ x1 + 1) 2)) else _) = _
      rw [if_neg (fun z => by have := z.1; omega), if_pos ⟨rfl, by omega, by omega⟩, show 20 * (σ.I (anC σ x1 + 1) 2) + t - 20 * (σ.I (anC σ x1 + 1) 2) = t by omega]
    have B1 : σ2.I 561 x1 = (σ.I (anC σ x1 + 1) 2) + 1 := by
      rw [P2 561 x1 (by omega)]
      show (if at2 _ _ _ _ then _ else if rg _ _ _ _ _ then _ else if at2 _ _ _ _ then _ else _) = _
      rw [if_neg (fun z => by have := z.1; omega), if_neg (fun z => by have := z.1; omega), if_pos ⟨rfl, rfl⟩, e1]
    have B4 : σ2.I 564 (60 * x1 + (σ.I (anC σ x1 + 1) 2)) = σ.I 0 1 := by
      rw [P2 564 _ (by omega)]
      show (if at2 _ _ _ _ then _ else _) = _
      rw [if_pos ⟨rfl, by rw [e1]⟩]
    have B3 : ∀ t, 0 ≤ t → t < σ.I 0 1 → σ2.I 563 (20 * (60 * x1 + (σ.I (anC σ x1 + 1) 2)) + t) = σ.I 1 t := by
      intro t t0 t1
      rw [P2 563 _ (by omega)]
      show (if at2 _ _ _ _ then _ else if rg _ _ _ _ _ then σ.I 557 (20 * (60 * x1 + (σ.I (anC σ x1 + 1) 2)) + t - 20 * (60 * x1 + σ.I 561 x1)) else _) = _
      rw [e1, if_neg (fun z => by have := z.1; omega), if_pos ⟨rfl, by omega, by omega⟩, show 20 * (60 * x1 + (σ.I (anC σ x1 + 1) 2)) + t - 20 * (60 * x1 + (σ.I (anC σ x1 + 1) 2)) = t by omega]
      exact (tp.2 t t0 (by omega)).symm
    have nb2 : ANBs σ2 (anC σ x1) := by
      obtain ⟨⟨q1, q2, q3, q4⟩, q5, q6⟩ := nb
      refine ⟨⟨by rw [F _ 1 (by omega) (by omega)]; exact q1, by rw [F _ 2 (by omega) (by omega)]; exact q2, by rw [F _ 2 (by omega) (by omega)]; exact q3, fun k k0 k1 => by rw [F _ k (by omega) (by omega), F _ k (by omega) (by omega)]; exact q4 k k0 k1⟩, by rw [A1]; omega, fun i i0 i1 => ?_⟩
      by_cases e : i = (σ.I (anC σ x1 + 1) 2)
      · rw [e, A3]; omega
      · rw [F _ i (by omega) (by omega)]; exact q6 i i0 i1
    refine ⟨hy, r.Lay.sf (s1.tr s2), RK_c1 hS hN (by rw [T1]; omega) (by rw [F 0 41 (by omega) (by omega)]; omega) (fun i h0 h1 => by rw [F 211 i (by omega) (by omega)]; have := rk.2.2.2.2 i h0 h1; omega) rk, ?_, ?_, ?_, ?_, ?_, ?_, ?_, ?_, ?_, ?_, ?_, ?_, ?_, ?_, ?_, ?_, ?_, ?_, ?_, ?_, ?_, ?_, ?_, ?_, ?_⟩
    · exact ⟨⟨T1.trans g02.symm, by rw [T1]; omega⟩, fun i h0 h1 => by rw [F 1 i (by omega) (by omega), F 557 i (by omega) (by omega)]; exact tp.2 i h0 h1⟩
    · exact rFL_cg (fun c i h => F c i (by unfold fFL at h; omega) (by unfold fFL at h; omega)) r.FL
    · exact rVS_cg (fun c i h => F c i (by unfold fVS at h; omega) (by unfold fVS at h; omega)) r.VS
    · exact rOB_cg (fun c i h => F c i (by unfold fOB at h; omega) (by unfold fOB at h; omega)) r.OB
    · exact rVA_cg (fun c i h => F c i (by unfold fVA at h; omega) (by unfold fVA at h; omega)) r.VA
    · exact rBD_cg (fun c i h => F c i (by unfold fBD at h; omega) (by unfold fBD at h; omega)) r.BD
    · exact rTE_cg (fun c i h => F c i (by unfold fTE at h; omega) (by unfold fTE at h; omega)) r.TE
    · exact rPK_cg (fun c i h => F c i (by unfold fPK at h; omega) (by unfold fPK at h; omega)) r.PK
    · exact rUS_cg (fun c i h => F c i (by unfold fUS at h; omega) (by unfold fUS at h; omega)) r.US
    · exact rFO_cg (fun c i h => F c i (by unfold fFO at h; omega) (by unfold fFO at h; omega)) r.FO
    · exact rSH_cg (fun c i h => F c i (by unfold fSH at h; omega) (by unfold fSH at h; omega)) r.SH
    · exact rSW_cg (fun c i h => F c i (by unfold fSW at h; omega) (by unfold fSW at h; omega)) r.SW
    · exact rHI_cg (fun c i h => F c i (by unfold fHI at h; omega) (by unfold fHI at h; omega)) r.HI
    · exact rLN_cg (fun c i h => F c i (by unfold fLN at h; omega) (by unfold fLN at h; omega)) r.LN
    · exact rMK_cg (fun c i h => F c i (by unfold fMK at h; omega) (by unfold fMK at h; omega)) r.MK
    · exact rGR_cg (fun c i h => F c i (by unfold fGR at h; omega) (by unfold fGR at h; omega)) r.GR
    · exact rTT_cg (fun c i h => F c i (by unfold fTT at h; omega) (by unfold fTT at h; omega)) r.TT
    · exact rMT_cg (fun c i h => F c i (by unfold fMT at h; omega) (by unfold fMT at h; omega)) r.MT
    · exact rSC_cg (fun c i h => F c i (by unfold fSC at h; omega) (by unfold fSC at h; omega)) r.SC
    · exact rQU_cg (fun c i h => F c i (by unfold fQU at h; omega) (by unfold fQU at h; omega)) r.QU
    · exact rKQ_cg (fun c i h => F c i (by unfold fKQ at h; omega) (by unfold fKQ at h; omega)) r.KQ
    · exact rHQ_cg (fun c i h => F c i (by unfold fHQ at h; omega) (by unfold fHQ at h; omega)) r.HQ
    · exact rPP_cg (fun c i h => F c i (by unfold fPP at h; omega) (by unfold fPP at h; omega)) (by rw [hR]) (by rw [hR]) r.PP
    · refine AN_up an wx hR hS hN (F 0 4 (by omega) (by omega)) (F 555 3 (by omega) (by omega)) (fun c i h0 h1 => F c i (by omega) (by omega)) (fun c k h0 h1 h2 => F c k (by omega) (by omega)) (fun i h => F 564 i (by omega) (by omega)) (fun i h => F 563 i (by omega) (by omega)) ?_ nb2 ?_
      · obtain ⟨⟨u1, u2, u3⟩, ⟨v1, v2⟩, ⟨w1, w2⟩, y9⟩ := (an.2.2.2.2.2.2.2 x1 wx.1 wx.2).1
        have b2 := ac.2.2.2.2.1 x1 wx.1 (by omega)
        refine ⟨⟨?_, ?_, ?_⟩, ⟨A1.trans B1.symm, fun j j0 j1 => ?_⟩, ⟨?_, ?_⟩, fun j j0 j1 => ?_⟩
        · rw [F _ 0 (by omega) (by omega), F 558 x1 (by omega) (by omega)]; exact u1
        · rw [F _ 1 (by omega) (by omega), F 559 x1 (by omega) (by omega)]; exact u2
        · rw [F _ 2 (by omega) (by omega), F 560 x1 (by omega) (by omega)]; exact u3
        · rw [B1] at j1
          by_cases e : j = (σ.I (anC σ x1 + 1) 2)
          · rw [e, A3, B4]
            exact ⟨rfl, fun t t0 t1 => (A2 t t0 t1).trans (B3 t t0 t1).symm⟩
          · have s := v2 j j0 (by omega)
            have s2 := nb.2.2 j j0 (by omega)
            rw [F _ j (by omega) (by omega), F 564 _ (by omega) (by omega)]
            refine ⟨s.1, fun t t0 t1 => ?_⟩
            rw [F _ _ (by omega) (by omega), F 563 _ (by omega) (by omega)]
            exact s.2 t t0 t1
        · rw [F _ 2 (by omega) (by omega), F 562 x1 (by omega) (by omega)]; exact w1
        · rw [F _ 2 (by omega) (by omega), F 562 x1 (by omega) (by omega)]; exact w2
        · rw [F 562 x1 (by omega) (by omega)] at j1
          have s := y9 j j0 j1
          have s2 := nb.1.2.2.2 j j0 (by omega)
          rw [F (anC σ x1 + 6) j (by omega) (by omega), F (anC σ x1 + 9) j (by omega) (by omega), F 564 _ (by omega) (by omega), F 564 _ (by omega) (by omega)]
          refine ⟨⟨s.1.1, fun t t0 t1 => ?_⟩, s.2.1, fun t t0 t1 => ?_⟩
          · rw [F _ _ (by omega) (by omega), F 563 _ (by omega) (by omega)]
            exact s.1.2 t t0 t1
          · rw [F _ _ (by omega) (by omega), F 563 _ (by omega) (by omega)]
            exact s.2.2 t t0 t1
      · refine ⟨bd_0_1_eq ac.1 (funext fun i => F 558 i (by omega) (by omega)), bd_0_2_eq ac.2.1 (funext fun i => F 559 i (by omega) (by omega)), bd_0_5_eq ac.2.2.1 (funext fun i => F 560 i (by omega) (by omega)), fun i i0 i1 => ?_, bd_0_20_eq ac.2.2.2.2.1 (funext fun i => F 562 i (by omega) (by omega)), fun i i0 i1 => ?_⟩
        · by_cases e : i = x1
          · rw [e, B1]; omega
          · rw [F 561 i (by omega) (by omega)]; exact ac.2.2.2.1 i i0 i1
        · by_cases e : i = 60 * x1 + (σ.I (anC σ x1 + 1) 2)
          · rw [e, B4]; omega
          · rw [F 564 i (by omega) (by omega)]; exact ac.2.2.2.2.2 i i0 i1
    · exact rSE_cg r.SE
  · refine OPI.mk (sp_X0_stop (by omega) r.Lay h1 ⟨tp1.2, n30⟩ an1.2 an.2.1 an.2.2.1) (fun y σ1 p s1 => by
        have SS : (σ1.R = σ.R ∧ σ1.sh = σ.sh ∧ σ1.n = σ.n) ∧ ∀ (c : Nat) (i : Int), 555 ≤ c → c ≤ 674 → σ1.I c i = σ.I c i := by
          clear wok wex
          have key : RD σ σ1 (fun c i => if at2 c i 0 1 then 0 else σ.I c i) → (σ1.R = σ.R ∧ σ1.sh = σ.sh ∧ σ1.n = σ.n) ∧ ∀ (c : Nat) (i : Int), 555 ≤ c → c ≤ 674 → σ1.I c i = σ.I c i := fun q => by
            refine ⟨q.1, fun c i h h' => ?_⟩
            rw [q.2]
            show (if at2 c i 0 1 then _ else _) = _
            exact if_neg (fun z => by have := z.1; omega)
          rcases p with ⟨_, _, q⟩ | ⟨_, _, _, q⟩ | ⟨_, _, _, _, q⟩ | ⟨q0, _, _, _, q⟩
          · exact key q
          · exact key q
          · exact key q
          · have a := (an.2.1 x1 q0.1.1 q0.1.2).2.2
            refine ⟨q.1, fun c i h h' => ?_⟩
            rw [q.2]
            show (if at2 c i 0 1 then _ else if rg c i _ _ _ then _ else if at2 c i _ _ then _ else if at2 c i _ _ then _ else _) = _
            rw [if_neg (fun z => by have := z.1; omega), if_neg (fun z => by have := z.1; omega), if_neg (fun z => by have := z.1; omega), if_neg (fun z => by have := z.1; omega)]
        have S := SS.2
        have S' : ∀ c : Nat, 555 ≤ c → c ≤ 674 → σ1.I c = σ.I c := fun c h h' => funext fun i => S c i h h'
        exact sp_X9_stop (by omega) (r.Lay.sf s1) h1 (by rw [S 555 2 (by omega) (by omega)]; omega) (by rw [S 555 3 (by omega) (by omega)]; omega) (bd_0_20_eq ac.2.2.2.2.2 (S' 564 (by omega) (by omega))) (bd_0_20_eq ac.2.2.2.1 (S' 561 (by omega) (by omega)))) ?_
    intro y σ1 z σ2 p s1 g s2
    have SS : (σ1.R = σ.R ∧ σ1.sh = σ.sh ∧ σ1.n = σ.n) ∧ ∀ (c : Nat) (i : Int), 555 ≤ c → c ≤ 674 → σ1.I c i = σ.I c i := by
      clear wok wex
      have key : RD σ σ1 (fun c i => if at2 c i 0 1 then 0 else σ.I c i) → (σ1.R = σ.R ∧ σ1.sh = σ.sh ∧ σ1.n = σ.n) ∧ ∀ (c : Nat) (i : Int), 555 ≤ c → c ≤ 674 → σ1.I c i = σ.I c i := fun q => by
        refine ⟨q.1, fun c i h h' => ?_⟩
        rw [q.2]
        show (if at2 c i 0 1 then _ else _) = _
        exact if_neg (fun z => by have := z.1; omega)
      rcases p with ⟨_, _, q⟩ | ⟨_, _, _, q⟩ | ⟨_, _, _, _, q⟩ | ⟨q0, _, _, _, q⟩
      · exact key q
      · exact key q
      · exact key q
      · have a := (an.2.1 x1 q0.1.1 q0.1.2).2.2
        refine ⟨q.1, fun c i h h' => ?_⟩
        rw [q.2]
        show (if at2 c i 0 1 then _ else if rg c i _ _ _ then _ else if at2 c i _ _ then _ else if at2 c i _ _ then _ else _) = _
        rw [if_neg (fun z => by have := z.1; omega), if_neg (fun z => by have := z.1; omega), if_neg (fun z => by have := z.1; omega), if_neg (fun z => by have := z.1; omega)]
    have S := SS.2
    have S' : ∀ c : Nat, 555 ≤ c → c ≤ 674 → σ1.I c = σ.I c := fun c h h' => funext fun i => S c i h h'
    rw [S' 564 (by omega) (by omega), S' 563 (by omega) (by omega), S' 557 (by omega) (by omega), S' 561 (by omega) (by omega), S 555 2 (by omega) (by omega), S 555 3 (by omega) (by omega), ← tp1.1, ← an1.1] at g
    have pq : RD σ σ1 (fun c i => if at2 c i 0 1 then 0 else σ.I c i) := by
      rcases p with ⟨_, _, q⟩ | ⟨_, _, _, q⟩ | ⟨_, _, _, _, q⟩ | ⟨q0, q1, q2, _⟩
      · exact q
      · exact q
      · exact q
      · exact absurd ⟨q0, q1, q2⟩ w
    have nW : ¬ ((0 ≤ x1 ∧ x1 < σ.I 0 4 ∧ zb ((1 ≤ σ.I 0 1 ∧ σ.I 0 1 ≤ 20) ∧ letA (σ.I 557) 0 (σ.I 0 1)) = 1) ∧ ¬ zb (exN (fun k => σ.I 564 (60 * x1 + k) = σ.I 0 1 ∧ eqA (σ.I 563) (σ.I 557) (20 * (60 * x1 + k)) 0 (σ.I 0 1)) (σ.I 561 x1)) = 1 ∧ ¬ σ.I 561 x1 = 20) := fun z => w ⟨wok.mp z.1, fun e => z.2.1 (zb_t ((wex (wok.mp z.1)).mpr e)), by rw [← e561 (wok.mp z.1).1]; exact z.2.2⟩
    have hy : z = y := by
      rcases p with ⟨q, e, _⟩ | ⟨q, q2, e, _⟩ | ⟨q, q2, q3, e, _⟩ | ⟨q, q2, q3, _⟩
      · rw [g.1, e, if_pos (fun z => q (wok.mp z))]
      · rw [g.1, e, if_neg (fun z => z (wok.mpr q)), if_pos (zb_t ((wex q).mpr q2)), e561 q.1]
      · rw [g.1, e, if_neg (fun z => z (wok.mpr q)), if_neg (fun z => q2 ((wex q).mp (zb_1.mp z))), if_pos (by rw [e561 q.1]; exact q3)]
      · exact absurd ⟨q, q2, q3⟩ w
    have p01 : σ1.I 0 1 = 0 := by
      rw [pq.2]
      show (if at2 0 1 0 1 then _ else _) = _
      exact if_pos ⟨rfl, rfl⟩
    have g02 : σ2.I 555 2 = 0 := by
      rw [g.2.2]
      show (if at2 555 2 555 2 then _ else _) = _
      exact if_pos ⟨rfl, rfl⟩
    have nWh : Hd _ := nW
    clear p wok wex nW w
    have F1 : ∀ (c : Nat) (i : Int), ¬ (c = 0 ∧ i = 1) → σ1.I c i = σ.I c i := by
      intro c i q
      rw [pq.2]
      show (if at2 c i 0 1 then _ else _) = _
      exact if_neg q
    have F2 : ∀ (c : Nat) (i : Int), ¬ (c = 555 ∧ i = 2) → σ2.I c i = σ1.I c i := by
      intro c i q
      rw [g.2.2]
      show (if at2 c i 555 2 then _ else _) = _
      exact (if_neg q).trans (if_neg nWh)
    have F : ∀ (c : Nat) (i : Int), ¬ (c = 0 ∧ i = 1) → ¬ (c = 555 ∧ i = 2) → σ2.I c i = σ.I c i := fun c i a b => (F2 c i b).trans (F1 c i a)
    have hR : σ2.R = σ.R := g.2.1.1.trans SS.1.1
    have hS : σ2.sh = σ.sh := g.2.1.2.1.trans SS.1.2.1
    have hN : σ2.n = σ.n := g.2.1.2.2.trans SS.1.2.2
    have T1 : σ2.I 0 1 = 0 := (F2 0 1 (by omega)).trans p01
    refine ⟨hy, r.Lay.sf (s1.tr s2), RK_c1 hS hN (by rw [T1]; omega) (by rw [F 0 41 (by omega) (by omega)]; omega) (fun i h0 h1 => by rw [F 211 i (by omega) (by omega)]; have := rk.2.2.2.2 i h0 h1; omega) rk, ?_, ?_, ?_, ?_, ?_, ?_, ?_, ?_, ?_, ?_, ?_, ?_, ?_, ?_, ?_, ?_, ?_, ?_, ?_, ?_, ?_, ?_, ?_, ?_, ?_⟩
    · exact ⟨⟨T1.trans g02.symm, by rw [T1]; omega⟩, fun i h0 h1 => by rw [F 1 i (by omega) (by omega), F 557 i (by omega) (by omega)]; exact tp.2 i h0 h1⟩
    · exact rFL_cg (fun c i h => F c i (by unfold fFL at h; omega) (by unfold fFL at h; omega)) r.FL
    · exact rVS_cg (fun c i h => F c i (by unfold fVS at h; omega) (by unfold fVS at h; omega)) r.VS
    · exact rOB_cg (fun c i h => F c i (by unfold fOB at h; omega) (by unfold fOB at h; omega)) r.OB
    · exact rVA_cg (fun c i h => F c i (by unfold fVA at h; omega) (by unfold fVA at h; omega)) r.VA
    · exact rBD_cg (fun c i h => F c i (by unfold fBD at h; omega) (by unfold fBD at h; omega)) r.BD
    · exact rTE_cg (fun c i h => F c i (by unfold fTE at h; omega) (by unfold fTE at h; omega)) r.TE
    · exact rPK_cg (fun c i h => F c i (by unfold fPK at h; omega) (by unfold fPK at h; omega)) r.PK
    · exact rUS_cg (fun c i h => F c i (by unfold fUS at h; omega) (by unfold fUS at h; omega)) r.US
    · exact rFO_cg (fun c i h => F c i (by unfold fFO at h; omega) (by unfold fFO at h; omega)) r.FO
    · exact rSH_cg (fun c i h => F c i (by unfold fSH at h; omega) (by unfold fSH at h; omega)) r.SH
    · exact rSW_cg (fun c i h => F c i (by unfold fSW at h; omega) (by unfold fSW at h; omega)) r.SW
    · exact rHI_cg (fun c i h => F c i (by unfold fHI at h; omega) (by unfold fHI at h; omega)) r.HI
    · exact rLN_cg (fun c i h => F c i (by unfold fLN at h; omega) (by unfold fLN at h; omega)) r.LN
    · exact rMK_cg (fun c i h => F c i (by unfold fMK at h; omega) (by unfold fMK at h; omega)) r.MK
    · exact rGR_cg (fun c i h => F c i (by unfold fGR at h; omega) (by unfold fGR at h; omega)) r.GR
    · exact rTT_cg (fun c i h => F c i (by unfold fTT at h; omega) (by unfold fTT at h; omega)) r.TT
    · exact rMT_cg (fun c i h => F c i (by unfold fMT at h; omega) (by unfold fMT at h; omega)) r.MT
    · exact rSC_cg (fun c i h => F c i (by unfold fSC at h; omega) (by unfold fSC at h; omega)) r.SC
    · exact rQU_cg (fun c i h => F c i (by unfold fQU at h; omega) (by unfold fQU at h; omega)) r.QU
    · exact rKQ_cg (fun c i h => F c i (by unfold fKQ at h; omega) (by unfold fKQ at h; omega)) r.KQ
    · exact rHQ_cg (fun c i h => F c i (by unfold fHQ at h; omega) (by unfold fHQ at h; omega)) r.HQ
    · exact rPP_cg (fun c i h => F c i (by unfold fPP at h; omega) (by unfold fPP at h; omega)) (by rw [hR]) (by rw [hR]) r.PP
    · exact rAN_cg (fun c i h => F c i (by unfold fAN at h; omega) (by unfold fAN at h; omega)) hR hS hN r.AN
    · exact rSE_cg r.SE
end OPN

