/-! contracts: printed by tools/mk.py out of s98zzzzza_opX.py -/
set_option maxRecDepth 100000
set_option maxHeartbeats 3000000
/-! the operation export -/
theorem VA_hp {σ : Sto} (va : rVA σ) (v : Int) (h0 : 0 ≤ v) (h1 : v < σ.I 0 20) : 0 ≤ σ.I 28 v ∧ σ.I 28 v + σ.I 29 v ≤ σ.I 0 22 := by
  have z := va.2.2.1 v h0 h1
  have nn : ∀ k, 0 ≤ k → k < σ.I 0 20 → 0 ≤ σ.I 29 k := fun k p0 p1 => (va.2.2.1 k p0 p1).2.2.2.1.2.2.1
  have le := smP_lq nn (v + 1) (by omega) (by omega)
  rw [smP_t _ _ v _ h0 rfl trivial, ← va.2.1.2.2.1, ← z.1] at le
  exact ⟨by rw [z.1]; exact smP_n0 (fun k p0 p1 => nn k p0 (by omega)), le⟩
section OPXX
variable {E : XE} {d : Nat}

theorem op_export (hd : 30 ≤ d) : OP_export E d RR := by
  intro k σ hk r
  have va := r.VA
  have va1 := va.1
  have fl := r.FL
  have fl1 := fl.1
  have an := r.AN
  have an1 := an.1
  have ac := an.2.2.2.2.1
  have ob := r.OB
  have ob1 := ob.1
  have pk := r.PK
  have vs := r.VS
  obtain ⟨pp1, a, b, ra, rb, rc, rd⟩ := r.PP
  have hb : 673 ≤ b ∧ b ≤ 674 := by omega
  have al := ALP_3 (b := b) va fl an ob pk vs
  have o4 : (oX4 σ).1 = (oX3 σ).1 + 4 := rfl
  have aw : ANWs σ := fun k k0 k1 => by
    have z := an.2.2.1 k k0 k1
    exact ⟨z.2.1, z.1.2.2.1, fun j j0 j1 => ⟨z.2.2 j j0 j1, (z.1.2.2.2 j j0 j1).1, (z.1.2.2.2 j j0 j1).2⟩⟩
  have ox : OX σ (σ.I 0 39) := fun o o0 o1 => by
    have lo := pk.1.2.2.2 o o0 o1
    have le := LOX_le pk.1 (o + 1) (by omega) (by omega)
    have q := ob.2.2.2.1 o o0 (by omega)
    exact ⟨q.1, q.2.1, q.2.2.1, by omega⟩
  have vh : VHX σ := fun v v0 v1 => by
    have z := (va.2.2.1 v v0 v1).2.2
    have q := VA_hp va v v0 v1
    exact ⟨⟨z.1.2.1, by have := z.1.2.2; omega⟩, q.1, z.2.1.2.2.1, z.2.1.2.2.2, by omega⟩

  by_cases w : (oX4 σ).1 ≤ 30000
  · refine OPI.mk (sp_X0_export (by omega) r.Lay pp1.2 an1.2 an.2.1 aw fl.1.2 ob1.2 ox ⟨by omega, by omega⟩ vh) (fun y σ1 p s1 => by
        have S : ∀ (c : Nat) (i : Int), 214 ≤ c → σ1.I c i = σ.I c i := fun c i h => p.2.2 c i (by unfold wsO2; omega)
        have S' : ∀ c : Nat, 214 ≤ c → σ1.I c = σ.I c := fun c h => funext fun i => S c i h
        have SR := p.2.1
        have hh : HOB σ1 := fun o o0 o1 q => by
          rw [S 555 52 (by omega)] at o1
          rw [S 594 o (by omega)] at q
          rw [S 595 o (by omega), S 596 o (by omega), S 555 30 (by omega)]
          have z := ob.2.1 o o0 (by omega)
          have e := (z.2.2 (z.1.trans q)).1
          have u := ox o o0 (by omega)
          omega
        have vm : VHM σ1 := fun v v0 v1 => by
          rw [S 555 30 (by omega)] at v1
          have z := (va.2.2.1 v v0 (by omega)).2.2
          have q := VA_hp va v v0 (by omega)
          unfold VH1
          rw [S 579 v (by omega), S 580 v (by omega), S 581 v (by omega), ← z.1.1, ← z.2.1.1, ← z.2.1.2.1]
          exact ⟨⟨z.1.2.1, by have := z.1.2.2; omega⟩, q.1, z.2.1.2.2.1, z.2.1.2.2.2, by omega⟩
        have shb : ∀ c : Nat, c = 673 ∨ c = 674 → σ1.sh c = (1, 30000) := fun c h => by
          rcases h with rfl | rfl
          · exact s_673 (r.Lay.sf s1)
          · exact s_674 (r.Lay.sf s1)
        have obm : OB σ1 595 596 := by
          unfold OB
          rw [S' 595 (by omega), S' 596 (by omega)]
          exact ob.2.2.2.2.1
        exact sp_X9_export (b := b) (by omega) (r.Lay.sf s1) (by rw [SR.1]; exact rb) hb (shb b (by omega)) (by rw [S 555 3 (by omega)]; omega) (bd_0_20_eq ac.2.2.2.2.2 (S' 564 (by omega))) (bd_0_20_eq ac.2.2.2.1 (S' 561 (by omega))) (bd_0_20_eq ac.2.2.2.2.1 (S' 562 (by omega))) (by rw [S 555 27 (by omega), ← fl.1.1]; exact fl.1.2) (by rw [S 555 52 (by omega), ← ob1.1]; exact ob1.2) obm (by rw [S 555 30 (by omega)]; omega) hh vm (by rw [SR.1, ra]; exact Option.some_ne_none _) (fun z hz => by
          rw [SR.1, ra] at hz
          have e := Option.some.inj hz
          subst e
          exact ⟨by omega, shb a (by omega)⟩)) ?_
    intro y σ1 z σ2 p s1 g s2
    have S : ∀ (c : Nat) (i : Int), 214 ≤ c → σ1.I c i = σ.I c i := fun c i h => p.2.2 c i (by unfold wsO2; omega)
    have S' : ∀ c : Nat, 214 ≤ c → σ1.I c = σ.I c := fun c h => funext fun i => S c i h
    have SR := p.2.1
    have om := oM_cg (τ := σ1) (σ := σ) (fun c h _ => S' c (by omega)) hb
    rw [om.1, om.2, al.1.1] at g
    obtain ⟨-, py, p100, p212⟩ := p.1.resolve_left (fun q => by have := q.1; omega)
    obtain ⟨-, gz, g164, gb, ⟨gR1, gR2, gR3, gsh, gn⟩, gF⟩ := g.resolve_left (fun q => by have := q.1; omega)
    have al4 := ALP_4 al (by omega)
    have hR3 : ∀ (c : Nat) (k : Int), ¬ (c = 555 ∧ (k = 162 ∨ k = 163)) → σ2.R c k = σ.R c k := fun c k q => by rw [gR3 c k q, SR.1]
    have hS : σ2.sh = σ.sh := gsh.trans SR.2.1
    have hN : σ2.n = σ.n := gn.trans SR.2.2
    have pF := p.2.2
    have hy : z = y := by rw [gz, py, al4.1.1]
    have F1 : ∀ (c : Nat) (i : Int), ¬ (c = 212 ∨ c = 213 ∨ (c = 0 ∧ (i = 100 ∨ i = 101))) → σ1.I c i = σ.I c i := by
      intro c i q
      exact pF c i (by unfold wsO2; omega)
    have F2 : ∀ (c : Nat) (i : Int), ¬ (c = b ∨ (c = 555 ∧ (i = 164 ∨ i = 165))) → σ2.I c i = σ1.I c i := by
      intro c i q
      exact gF c i (by unfold wsPp; omega)
    have F : ∀ (c : Nat) (i : Int), ¬ (c = 212 ∨ c = 213 ∨ (c = 0 ∧ (i = 100 ∨ i = 101))) → ¬ (c = b ∨ (c = 555 ∧ (i = 164 ∨ i = 165))) → σ2.I c i = σ.I c i := fun c i a b => (F2 c i b).trans (F1 c i a)
    have hTr : True := trivial
    refine ⟨hy, r.Lay.sf (s1.tr s2), RK_cg hS hN (F 0 1 (by omega) (by omega)) (F 0 41 (by omega) (by omega)) (fun i => F 211 i (by omega) (by omega)) r.RK, ?_, ?_, ?_, ?_, ?_, ?_, ?_, ?_, ?_, ?_, ?_, ?_, ?_, ?_, ?_, ?_, ?_, ?_, ?_, ?_, ?_, ?_, ?_, ?_, ?_⟩
    · exact rTP_cg (fun c i h => F c i (by unfold fTP at h; omega) (by unfold fTP at h; omega)) r.TP
    · exact rFL_cg (fun c i h => F c i (by unfold fFL at h; omega) (by unfold fFL at h; omega)) r.FL
    · exact rVS_cg (fun c i h => F c i (by unfold fVS at h; omega) (by unfold fVS at h; omega)) r.VS
    · exact rOB_cg (fun c i h => F c i (by unfold fOB at h; omega) (by unfold fOB at h; omega)) r.OB
    · exact rVA_cg (fun c i h => F c i (by unfold fVA at h; omega) (by unfold fVA at h; omega)) r.VA
    · exact rBD_cg (fun c i h => F c i (by unfold fBD at h; omega) (by unfold fBD at h; omega)) r.BD
    · exact rTE_cg (fun c i h => F c i (by unfold fTE at h; omega) (by unfold fTE at h; omega)) r.TE
    · exact rPK_cg (fun c i h => F c i (by unfold fPK at h; omega) (by unfold fPK at h; omega)) r.PK
    · exact rUS_cg (fun c i h => F c i (by unfold fUS at h; omega) (by unfold fUS at h; omega)) r.US
    · exact rFO_cg (fun c i h => F c i (by unfold fFO at h; omega) (by unfold fFO at h; omega)) r.FO
    · exact rSH_cg (fun c i h => F c i (by unfold fSH at h; omega) (by unfold fSH at h; omega)) r.SH
    · exact rSW_cg (fun c i h => F c i (by unfold fSW at h; omega) (by unfold fSW at h; omega)) r.SW
    · exact rHI_cg (fun c i h => F c i (by unfold fHI at h; omega) (by unfold fHI at h; omega)) r.HI
    · exact rLN_cg (fun c i h => F c i (by unfold fLN at h; omega) (by unfold fLN at h; omega)) r.LN
    · exact rMK_cg (fun c i h => F c i (by unfold fMK at h; omega) (by unfold fMK at h; omega)) r.MK
    · exact rGR_cg (fun c i h => F c i (by unfold fGR at h; omega) (by unfold fGR at h; omega)) r.GR
    · exact rTT_cg (fun c i h => F c i (by unfold fTT at h; omega) (by unfold fTT at h; omega)) r.TT
    · exact rMT_cg (fun c i h => F c i (by unfold fMT at h; omega) (by unfold fMT at h; omega)) r.MT
    · exact rSC_cg (fun c i h => F c i (by unfold fSC at h; omega) (by unfold fSC at h; omega)) r.SC
    · exact rQU_cg (fun c i h => F c i (by unfold fQU at h; omega) (by unfold fQU at h; omega)) r.QU
    · exact rKQ_cg (fun c i h => F c i (by unfold fKQ at h; omega) (by unfold fKQ at h; omega)) r.KQ
    · exact rHQ_cg (fun c i h => F c i (by unfold fHQ at h; omega) (by unfold fHQ at h; omega)) r.HQ
    · refine ⟨⟨by rw [F2 0 100 (by omega), p100, g164, al4.1.1], by rw [F2 0 100 (by omega), p100]; exact al4.1.2, by rw [F2 0 100 (by omega), p100]; exact w⟩, b, a, gR1, by rw [gR2, SR.1]; exact ra, by omega, fun i i0 i1 => ?_⟩
      rw [F2 0 100 (by omega), p100] at i1
      rw [F2 212 i (by omega), p212, gb]
      exact (al4.2 i i0 i1 (by omega)).symm
    · exact AN_sf an (fun c i h h2 => F c i (by unfold fAN at h; omega) (by unfold fAN at h; omega)) r.RK.1.1 (fun k p0 q0 => hR3 3 k (by omega)) (fun c q => q.sf (s1.tr s2)) (by rw [hN]; exact Nat.le_refl _)
    · exact rSE_cg r.SE
  · refine OPI.mk (sp_X0_export (by omega) r.Lay pp1.2 an1.2 an.2.1 aw fl.1.2 ob1.2 ox ⟨by omega, by omega⟩ vh) (fun y σ1 p s1 => by
        have S : ∀ (c : Nat) (i : Int), 214 ≤ c → σ1.I c i = σ.I c i := fun c i h => p.2.2 c i (by unfold wsO2; omega)
        have S' : ∀ c : Nat, 214 ≤ c → σ1.I c = σ.I c := fun c h => funext fun i => S c i h
        have SR := p.2.1
        have hh : HOB σ1 := fun o o0 o1 q => by
          rw [S 555 52 (by omega)] at o1
          rw [S 594 o (by omega)] at q
          rw [S 595 o (by omega), S 596 o (by omega), S 555 30 (by omega)]
          have z := ob.2.1 o o0 (by omega)
          have e := (z.2.2 (z.1.trans q)).1
          have u := ox o o0 (by omega)
          omega
        have vm : VHM σ1 := fun v v0 v1 => by
          rw [S 555 30 (by omega)] at v1
          have z := (va.2.2.1 v v0 (by omega)).2.2
          have q := VA_hp va v v0 (by omega)
          unfold VH1
          rw [S 579 v (by omega), S 580 v (by omega), S 581 v (by omega), ← z.1.1, ← z.2.1.1, ← z.2.1.2.1]
          exact ⟨⟨z.1.2.1, by have := z.1.2.2; omega⟩, q.1, z.2.1.2.2.1, z.2.1.2.2.2, by omega⟩
        have shb : ∀ c : Nat, c = 673 ∨ c = 674 → σ1.sh c = (1, 30000) := fun c h => by
          rcases h with rfl | rfl
          · exact s_673 (r.Lay.sf s1)
          · exact s_674 (r.Lay.sf s1)
        have obm : OB σ1 595 596 := by
          unfold OB
          rw [S' 595 (by omega), S' 596 (by omega)]
          exact ob.2.2.2.2.1
        exact sp_X9_export (b := b) (by omega) (r.Lay.sf s1) (by rw [SR.1]; exact rb) hb (shb b (by omega)) (by rw [S 555 3 (by omega)]; omega) (bd_0_20_eq ac.2.2.2.2.2 (S' 564 (by omega))) (bd_0_20_eq ac.2.2.2.1 (S' 561 (by omega))) (bd_0_20_eq ac.2.2.2.2.1 (S' 562 (by omega))) (by rw [S 555 27 (by omega), ← fl.1.1]; exact fl.1.2) (by rw [S 555 52 (by omega), ← ob1.1]; exact ob1.2) obm (by rw [S 555 30 (by omega)]; omega) hh vm (by rw [SR.1, ra]; exact Option.some_ne_none _) (fun z hz => by
          rw [SR.1, ra] at hz
          have e := Option.some.inj hz
          subst e
          exact ⟨by omega, shb a (by omega)⟩)) ?_
    intro y σ1 z σ2 p s1 g s2
    have S : ∀ (c : Nat) (i : Int), 214 ≤ c → σ1.I c i = σ.I c i := fun c i h => p.2.2 c i (by unfold wsO2; omega)
    have S' : ∀ c : Nat, 214 ≤ c → σ1.I c = σ.I c := fun c h => funext fun i => S c i h
    have SR := p.2.1
    have om := oM_cg (τ := σ1) (σ := σ) (fun c h _ => S' c (by omega)) hb
    rw [om.1, om.2, al.1.1] at g
    obtain ⟨-, py, p100, p212⟩ := p.1.resolve_right (fun q => w q.1)
    obtain ⟨-, gz, gK⟩ := g.resolve_right (fun q => by have := q.1; omega)
    have hR : σ2.R = σ.R := gK.1.1.trans SR.1
    have hR3 : ∀ (c : Nat) (k : Int), ¬ (c = 555 ∧ (k = 162 ∨ k = 163)) → σ2.R c k = σ.R c k := fun c k q => by rw [hR]
    have hS : σ2.sh = σ.sh := gK.1.2.1.trans SR.2.1
    have hN : σ2.n = σ.n := gK.1.2.2.trans SR.2.2
    have pF := p.2.2
    have F1 : ∀ (c : Nat) (i : Int), ¬ (c = 212 ∨ c = 213 ∨ (c = 0 ∧ (i = 100 ∨ i = 101))) → σ1.I c i = σ.I c i := by
      intro c i q
      exact pF c i (by unfold wsO2; omega)
    have F2 : ∀ (c : Nat) (i : Int), ¬ (c = b ∨ (c = 555 ∧ i = 165)) → σ2.I c i = σ1.I c i := by
      intro c i q
      exact gK.2 c i (by unfold wsPp; omega)
    have F : ∀ (c : Nat) (i : Int), ¬ (c = 212 ∨ c = 213 ∨ (c = 0 ∧ (i = 100 ∨ i = 101))) → ¬ (c = b ∨ (c = 555 ∧ i = 165)) → σ2.I c i = σ.I c i := fun c i a b => (F2 c i b).trans (F1 c i a)
    have hTr : True := trivial
    refine ⟨gz.trans py.symm, r.Lay.sf (s1.tr s2), RK_cg hS hN (F 0 1 (by omega) (by omega)) (F 0 41 (by omega) (by omega)) (fun i => F 211 i (by omega) (by omega)) r.RK, ?_, ?_, ?_, ?_, ?_, ?_, ?_, ?_, ?_, ?_, ?_, ?_, ?_, ?_, ?_, ?_, ?_, ?_, ?_, ?_, ?_, ?_, ?_, ?_, ?_⟩
    · exact rTP_cg (fun c i h => F c i (by unfold fTP at h; omega) (by unfold fTP at h; omega)) r.TP
    · exact rFL_cg (fun c i h => F c i (by unfold fFL at h; omega) (by unfold fFL at h; omega)) r.FL
    · exact rVS_cg (fun c i h => F c i (by unfold fVS at h; omega) (by unfold fVS at h; omega)) r.VS
    · exact rOB_cg (fun c i h => F c i (by unfold fOB at h; omega) (by unfold fOB at h; omega)) r.OB
    · exact rVA_cg (fun c i h => F c i (by unfold fVA at h; omega) (by unfold fVA at h; omega)) r.VA
    · exact rBD_cg (fun c i h => F c i (by unfold fBD at h; omega) (by unfold fBD at h; omega)) r.BD
    · exact rTE_cg (fun c i h => F c i (by unfold fTE at h; omega) (by unfold fTE at h; omega)) r.TE
    · exact rPK_cg (fun c i h => F c i (by unfold fPK at h; omega) (by unfold fPK at h; omega)) r.PK
    · exact rUS_cg (fun c i h => F c i (by unfold fUS at h; omega) (by unfold fUS at h; omega)) r.US
    · exact rFO_cg (fun c i h => F c i (by unfold fFO at h; omega) (by unfold fFO at h; omega)) r.FO
    · exact rSH_cg (fun c i h => F c i (by unfold fSH at h; omega) (by unfold fSH at h; omega)) r.SH
    · exact rSW_cg (fun c i h => F c i (by unfold fSW at h; omega) (by unfold fSW at h; omega)) r.SW
    · exact rHI_cg (fun c i h => F c i (by unfold fHI at h; omega) (by unfold fHI at h; omega)) r.HI
    · exact rLN_cg (fun c i h => F c i (by unfold fLN at h; omega) (by unfold fLN at h; omega)) r.LN
    · exact rMK_cg (fun c i h => F c i (by unfold fMK at h; omega) (by unfold fMK at h; omega)) r.MK
    · exact rGR_cg (fun c i h => F c i (by unfold fGR at h; omega) (by unfold fGR at h; omega)) r.GR
    · exact rTT_cg (fun c i h => F c i (by unfold fTT at h; omega) (by unfold fTT at h; omega)) r.TT
    · exact rMT_cg (fun c i h => F c i (by unfold fMT at h; omega) (by unfold fMT at h; omega)) r.MT
    · exact rSC_cg (fun c i h => F c i (by unfold fSC at h; omega) (by unfold fSC at h; omega)) r.SC
    · exact rQU_cg (fun c i h => F c i (by unfold fQU at h; omega) (by unfold fQU at h; omega)) r.QU
    · exact rKQ_cg (fun c i h => F c i (by unfold fKQ at h; omega) (by unfold fKQ at h; omega)) r.KQ
    · exact rHQ_cg (fun c i h => F c i (by unfold fHQ at h; omega) (by unfold fHQ at h; omega)) r.HQ
    · refine ⟨⟨by rw [F2 0 100 (by omega), p100, F 555 164 (by omega) (by omega)]; exact pp1.1, by rw [F2 0 100 (by omega), p100]; exact pp1.2.1, by rw [F2 0 100 (by omega), p100]; exact pp1.2.2⟩, a, b, by rw [hR]; exact ra, by rw [hR]; exact rb, rc, fun i i0 i1 => ?_⟩
      rw [F2 0 100 (by omega), p100] at i1
      rw [F2 212 i (by omega), p212 i i0 i1, F a i (by omega) (by omega)]
      exact rd i i0 i1
    · exact AN_sf an (fun c i h h2 => F c i (by unfold fAN at h; omega) (by unfold fAN at h; omega)) r.RK.1.1 (fun k p0 q0 => hR3 3 k (by omega)) (fun c q => q.sf (s1.tr s2)) (by rw [hN]; exact Nat.le_refl _)
    · exact rSE_cg r.SE
end OPXX

