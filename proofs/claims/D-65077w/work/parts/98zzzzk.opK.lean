/-! contracts: printed by tools/mk.py out of s98zzzzk_opK.py -/
set_option maxRecDepth 100000
set_option maxHeartbeats 3000000
/-! an object more: the rest of the relation -/
theorem VA_add {σ τ : Sto} (r : rVA σ) (h31 : τ.I 0 31 = σ.I 0 20) (h45 : τ.I 555 45 = σ.I 0 20) (g9 : τ.I 0 9 = σ.I 0 9) (g16 : τ.I 16 = σ.I 16) (g0 : ∀ i, i = 20 ∨ i = 22 ∨ i = 29 ∨ i = 30 → τ.I 0 i = σ.I 0 i) (gM : ∀ i, i = 30 ∨ i = 38 ∨ i = 44 → τ.I 555 i = σ.I 555 i) (g1 : ∀ c, cVA c → τ.I c = σ.I c) (g2 : ∀ c, cTK c → τ.I c = σ.I c) (g3 : τ.I 582 = σ.I 582) (g4 : τ.I 584 = σ.I 584) (g5 : τ.I 35 = σ.I 35) (g6 : τ.I 585 = σ.I 585) (g7 : τ.I 18 7 = σ.I 18 7) : rVA τ := by
  obtain ⟨⟨a, a5, a6, a7⟩, b, c, d⟩ := r
  have e20 := g0 20 (by omega)
  have e22 := g0 22 (by omega)
  have e29 := g0 29 (by omega)
  have e30 := g0 30 (by omega)
  have m30 := gM 30 (by omega)
  have m38 := gM 38 (by omega)
  have m44 := gM 44 (by omega)
  have w : isWv τ = isWv σ := by funext v; unfold isWv; rw [g16, g1 26 (by unfold cVA; omega)]
  have f29 := g1 29 (by unfold cVA; omega)
  have f32 := g1 32 (by unfold cVA; omega)
  refine ⟨⟨by omega, by omega, by omega, by omega⟩, ?_, fun v p0 p1 => ?_, ?_⟩
  · rw [e20, e22, e29, e30, m30, m44, g3, f29, f32, w]
    exact b
  · rw [e20] at p1
    have z := c v p0 p1
    rw [f29, f32, g1 28 (by unfold cVA; omega), g1 31 (by unfold cVA; omega)]
    exact ⟨z.1, z.2.1, vaE_cg (by omega) (by rw [g16]) (fun c q => by rw [g1 c q]) (by rw [g3]) (by rw [g3]) (fun j _ _ => by rw [g4]) g2 g7 z.2.2⟩
  · rw [e22, g5, g6]
    exact d
theorem TE_add {σ τ : Sto} (r : rTE σ) (va : rVA σ) (fl : rFL σ) (h31 : τ.I 0 31 = σ.I 0 20) (h32 : τ.I 0 32 = σ.I 18 7) (hF : ∀ i, i = 9 ∨ i = 20 ∨ i = 29 ∨ i = 30 → τ.I 0 i = σ.I 0 i) (hc : ∀ c, c = 16 ∨ c = 19 ∨ c = 20 ∨ c = 21 ∨ c = 24 ∨ c = 25 ∨ c = 26 ∨ c = 31 ∨ c = 32 ∨ c = 33 ∨ c = 36 → τ.I c = σ.I c) (h7 : τ.I 18 7 = σ.I 18 7) (pt : PT τ (σ.I 0 29)) (pw : PW τ (σ.I 0 20)) : rTE τ := by
  obtain ⟨⟨r1, r2⟩, r3, r4, r5, r6, -, -⟩ := r
  have e9 := hF 9 (by omega)
  have e20 := hF 20 (by omega)
  have e29 := hF 29 (by omega)
  have e30 := hF 30 (by omega)
  have w : isWv τ = isWv σ := by funext v; unfold isWv; rw [hc 16 (by omega), hc 26 (by omega)]
  refine ⟨⟨TC_cg (hc 19 (by omega)) (hc 20 (by omega)) (hc 21 (by omega)) (hc 24 (by omega)) (hc 25 (by omega)) h7 r1, TU_cg (hc 19 (by omega)) (hc 20 (by omega)) (hc 21 (by omega)) h7 r2⟩, by rw [h7, e29, e30]; exact r3, ?_, ?_, fun s h0 h1 => ?_, ?_, ?_⟩
  · rw [h32, h7, h31, hc 32 (by omega), w, ← va.2.1.2.2.2.1, ← va.2.1.2.2.2.2]
    omega
  · unfold DTX
    rw [h32, h7, h31, hc 16 (by omega), hc 26 (by omega), hc 33 (by omega), hc 32 (by omega), hc 31 (by omega), hc 36 (by omega)]
    refine ⟨Int.le_refl _, fun v p0 p1 => ?_⟩
    obtain ⟨e1, e2, e3, e4, e5, e6, -⟩ := (va.2.2.1 v p0 p1).2.2
    refine ⟨fun q => (e5 q).2.2.2.1.2, fun i q0 q1 => ?_⟩
    by_cases c0 : σ.I 16 (σ.I 26 v) = 0
    · exact ((e4 c0).2 i q0 q1).1.1.2
    · exfalso
      have f := (fl.2 (σ.I 26 v) e1.2.1 e1.2.2).2.1
      by_cases c1 : σ.I 16 (σ.I 26 v) = 1
      · have := (e5 c1).2.1; omega
      · have := (e6 (by omega)).2.1; omega
  · rw [h7] at h1
    rw [hc 20 (by omega), e9]
    exact r6 s h0 h1
  · rw [h31]
    have t : tkAt τ (σ.I 0 20) = σ.I 0 29 := by unfold tkAt; rw [e20, if_neg (by omega), e29]
    rw [t]
    exact pt
  · rw [h31]
    exact pw
theorem PK_add {σ τ : Sto} (r : rPK σ) (va : rVA σ) (hn : σ.I 0 39 < 600) (h20 : τ.I 0 20 = σ.I 0 20) (h31 : τ.I 0 31 = σ.I 0 20) (h39 : τ.I 0 39 = σ.I 0 39 + 1) (h : ∀ c i, c = 42 ∨ c = 43 ∨ c = 47 → i ≠ σ.I 0 39 → τ.I c i = σ.I c i) (n42 : τ.I 42 (σ.I 0 39) = σ.I 0 31) (n43 : τ.I 43 (σ.I 0 39) = σ.I 0 20 - σ.I 0 31) (n47 : τ.I 47 (σ.I 0 39) = 1) (h27 : ∀ i, τ.I 27 i = if σ.I 0 31 ≤ i ∧ i < σ.I 0 20 then σ.I 0 39 else σ.I 27 i) : rPK τ := by
  obtain ⟨lo, r2, r3⟩ := r
  have le := LOX_le lo
  obtain ⟨a, b, c, d⟩ := lo
  have dr := va.1.2.1
  refine ⟨⟨by rw [h39]; omega, by rw [h31, h20]; omega, ?_, fun k h0 h1 => ?_⟩, fun o h0 h1 => ?_, fun v h0 h1 => ?_⟩
  · unfold ofsX at c ⊢
    rw [h39, if_pos (by omega)]
    by_cases q : σ.I 0 39 = 0
    · rw [if_neg (by omega)] at c
      rw [q] at n42
      rw [n42]; exact c
    · rw [if_pos (by omega)] at c
      rw [h 42 0 (by omega) (by omega)]; exact c
  · rw [h39] at h1
    by_cases q : k = σ.I 0 39
    · subst q
      rw [n42, n43]
      unfold ofsX
      rw [h39, if_neg (by omega), h31]
      omega
    · have z := d k h0 (by omega)
      rw [h 42 k (by omega) q, h 43 k (by omega) q]
      refine ⟨z.1, z.2.trans ?_⟩
      unfold ofsX
      rw [h39]
      by_cases q2 : k + 1 = σ.I 0 39
      · rw [if_neg (by omega), if_pos (by omega), q2, n42]
      · rw [if_pos (by omega), if_pos (by omega), h 42 (k + 1) (by omega) (by omega)]
  · rw [h39] at h1
    by_cases q : o = σ.I 0 39
    · subst q
      rw [n42, n43, n47]
      refine ⟨fun e => by omega, fun j p0 p1 => ?_⟩
      rw [h27, if_pos (by omega)]
    · have z := r2 o h0 (by omega)
      have y := d o h0 (by omega)
      have y2 := le (o + 1) (by omega) (by omega)
      rw [h 42 o (by omega) q, h 43 o (by omega) q, h 47 o (by omega) q]
      refine ⟨z.1, fun j p0 p1 => ?_⟩
      rw [h27, if_neg (by omega)]
      exact z.2 j p0 p1
  · rw [h27]
    split
    · omega
    · exact r3 v h0 h1
theorem GR_add {σ τ : Sto} (r : rGR σ) (va : rVA σ) (fl : rFL σ) (te : rTE σ) (h31 : τ.I 0 31 = σ.I 0 20) (h32 : τ.I 0 32 = σ.I 18 7) (hF : ∀ i, i = 79 ∨ i = 80 → τ.I 0 i = σ.I 0 i) (hM : ∀ i, i = 135 ∨ i = 141 → τ.I 555 i = σ.I 555 i) (hc : ∀ c, c = 19 ∨ c = 21 ∨ c = 196 ∨ c = 197 ∨ c = 198 ∨ c = 582 ∨ c = 586 ∨ c = 587 ∨ c = 656 ∨ c = 657 ∨ c = 658 ∨ c = 659 → τ.I c = σ.I c) : rGR τ := by
  have dr := va.1.2.1
  have mono := VA_582 va fl (σ.I 0 31) dr.1 dr.2.1
  have top := va.2.1.2.1
  rw [← va.1.1.1, va.1.1.2.2.2] at top
  have t4 := te.2.2.1
  unfold rGR at r ⊢
  rw [hF 79 (by omega), hF 80 (by omega), hM 135 (by omega), hM 141 (by omega), hc 19 (by omega), hc 21 (by omega), hc 196 (by omega), hc 197 (by omega), hc 198 (by omega), hc 582 (by omega), hc 586 (by omega), hc 587 (by omega), hc 656 (by omega), hc 657 (by omega), hc 658 (by omega), hc 659 (by omega), h31, h32, top]
  refine ⟨r.1, r.2.1, fun i h0 h1 => ?_⟩
  have z := r.2.2 i h0 h1
  refine ⟨z.1, z.2.1, fun q => ?_⟩
  have y := z.2.2 q
  exact ⟨by omega, by omega, y.2.2⟩
section OPK
variable {E : XE} {d : Nat}

theorem op_add (hd : 30 ≤ d) : OP_add E d RR := by
  intro k σ hk r x1 h1
  have ob := r.OB
  have ob1 := ob.1
  have va := r.VA
  have va1 := va.1
  have va2 := va.1.2.1
  have vs := r.VS
  have vs1 := vs.1
  have vs2 := vs.2.1
  have te := r.TE
  have te2 := te.2.1
  have k2 := r.RK.2.2.2.1
  have fl1 := r.FL.1
  have wq : (x1 = -1 ∨ (0 ≤ x1 ∧ x1 < σ.I 0 39 ∧ σ.I 594 x1 = 1 ∧ σ.I 593 x1 = 2147483647)) ↔ (x1 = -1 ∨ (0 ≤ x1 ∧ x1 < σ.I 0 39 ∧ σ.I 47 x1 = 1 ∧ σ.I 46 x1 = 2147483647)) := by
    refine or_congr_right (and_congr_right fun q0 => and_congr_right fun q1 => ?_)
    have q := ob.2.1 x1 q0 q1
    rw [← q.1]
    refine and_congr_right fun q2 => ?_
    rw [(q.2.2 q2).1.2.2.1]
  have tr := OB_trH ob
  have dq : (x1 = -1 ∨ (0 ≤ x1 ∧ x1 < σ.I 0 39 ∧ σ.I 47 x1 = 1 ∧ σ.I 46 x1 = 2147483647)) → dp (pH σ) x1 = dp (σ.I 44) x1 := fun q => by
    refine dp_eq (H := σ.I 47) (n := σ.I 0 39) (fun k h0 h1 => (ob.2.2.1 k h0 h1).2) (fun k h0 h1 => (tr k h0 (by rw [← ob.1.1]; exact h1)).2.1) (fun k h0 h1 hh => ?_) 601 x1 (by omega) (by omega) (fun _ => by omega)
    have y := (ob.2.1 k h0 h1)
    have y2 := y.2.2 hh
    refine ⟨?_, fun h => (y2.2.2.2 h).1⟩
    unfold pH
    rw [← y.1, if_pos hh, y2.1.1]
  by_cases w : (x1 = -1 ∨ (0 ≤ x1 ∧ x1 < σ.I 0 39 ∧ σ.I 47 x1 = 1 ∧ σ.I 46 x1 = 2147483647)) ∧ ¬ (σ.I 0 39 = 600 ∨ 10 ≤ dp (σ.I 44) x1)
  · refine OPI.mk (sp_X0_add (by omega) r.Lay ob.1.2 ob.2.2.1 h1 ⟨va2.1, va2.2.1⟩ va2.2.2.1 ⟨by omega, by omega⟩ te.2.2.2.2.2.1 te.2.2.2.2.2.2 (VA_VL r _ _ va2.1 (Int.le_refl _)) ⟨te2.1, by omega⟩ r.FL.1.2) (fun y σ1 p s1 => by
        have P1 := fun (c : Nat) (i : Int) => (congrFun (congrFun p.2.1.2 c) i).trans (if_pos w)
        have S : ∀ (c : Nat) (i : Int), 555 ≤ c → σ1.I c i = σ.I c i := by
          intro c i q
          rw [P1 c i]
          repeat rw [if_neg (fun h => by (try simp only [at2, rg, fgX, fgM] at h); omega)]
        have SP : pH σ1 = pH σ := by
          funext k
          unfold pH
          rw [S 594 k (by omega), S 591 k (by omega)]
        have TRM : trH σ1 (σ1.I 555 52) := by
          intro k h0 h1
          rw [S 555 52 (by omega)] at h1
          have q := tr k h0 h1
          rw [SP, S 594 _ (by omega)]
          exact q
        clear P1
        clear p
        exact sp_X9_add (by omega) (r.Lay.sf s1) (by clear w wq dq; rw [S 555 52 (by omega)]; omega) TRM h1 (by clear w wq dq; rw [S 555 45 (by omega), S 555 30 (by omega)]; omega) (by clear w wq dq; rw [S 555 30 (by omega)]; omega) (by clear w wq dq; rw [S 555 54 (by omega)]; omega)) ?_
    intro y σ1 z σ2 p s1 g s2
    have P1 := fun (c : Nat) (i : Int) => (congrFun (congrFun p.2.1.2 c) i).trans (if_pos w)
    have S : ∀ (c : Nat) (i : Int), 555 ≤ c → σ1.I c i = σ.I c i := by
      intro c i q
      rw [P1 c i]
      repeat rw [if_neg (fun h => by (try simp only [at2, rg, fgX, fgM] at h); omega)]
    have SP : pH σ1 = pH σ := by
      funext k
      unfold pH
      rw [S 594 k (by omega), S 591 k (by omega)]
    have TRM : trH σ1 (σ1.I 555 52) := by
      intro k h0 h1
      rw [S 555 52 (by omega)] at h1
      have q := tr k h0 h1
      rw [SP, S 594 _ (by omega)]
      exact q
    rw [S 555 52 (by omega), S 594 x1 (by omega), S 593 x1 (by omega), SP, S 555 54 (by omega), S 555 45 (by omega), S 555 30 (by omega), ← ob1.1, ← vs1.2.1, ← va1.1.1, ← va1.1.2.1] at g
    have w2 := wq.mpr w.1
    have w3 := dq w.1
    rw [w3] at g
    have P2 := fun (c : Nat) (i : Int) => (congrFun (congrFun g.2.2 c) i).trans (if_pos ⟨w2, w.2⟩)
    have n6 : σ.I 0 39 < 600 := by omega
    have wh : Hd _ := w
    have w2h : Hd _ := w2
    clear w w2 w3 wq dq
    have pe : Hd _ := p.1
    have pr := p.2
    have ge : Hd _ := g.1
    have gr := g.2
    clear p g
    have F1 : ∀ (c : Nat) (i : Int), ¬ ((c = 22 ∨ c = 23 ∨ c = 34 ∨ c = 37 ∨ c = 27) ∨ ((42 ≤ c ∧ c ≤ 47) ∧ i = σ.I 0 39) ∨ (c = 0 ∧ (i = 31 ∨ i = 32 ∨ i = 39))) → σ1.I c i = σ.I c i := by
      intro c i q
      rw [P1 c i]
      repeat rw [if_neg (fun h => by (try simp only [at2, rg, fgX, fgM] at h); omega)]
    have F2 : ∀ (c : Nat) (i : Int), ¬ (((591 ≤ c ∧ c ≤ 596) ∧ i = σ.I 0 39) ∨ (c = 555 ∧ (i = 45 ∨ i = 52))) → σ2.I c i = σ1.I c i := by
      intro c i q
      rw [P2 c i]
      repeat rw [if_neg (fun h => by (try simp only [at2, rg, fgX, fgM] at h); omega)]
    have F : ∀ (c : Nat) (i : Int), ¬ ((c = 22 ∨ c = 23 ∨ c = 34 ∨ c = 37 ∨ c = 27) ∨ ((42 ≤ c ∧ c ≤ 47) ∧ i = σ.I 0 39) ∨ (c = 0 ∧ (i = 31 ∨ i = 32 ∨ i = 39))) → ¬ (((591 ≤ c ∧ c ≤ 596) ∧ i = σ.I 0 39) ∨ (c = 555 ∧ (i = 45 ∨ i = 52))) → σ2.I c i = σ.I c i := fun c i a b => (F2 c i b).trans (F1 c i a)
    have hR : σ2.R = σ.R := gr.1.1.trans pr.1.1.1
    have hS : σ2.sh = σ.sh := gr.1.2.1.trans pr.1.1.2.1
    have hN : σ2.n = σ.n := gr.1.2.2.trans pr.1.1.2.2
    have A31 : σ2.I 0 31 = σ.I 0 20 := by
      rw [F2 0 31 (by omega), P1 0 31]
      ((try simp only [at2, rg, fgX, fgM, CQF, and_false, false_and, and_true, true_and, or_false, false_or, or_true, true_or, if_false, if_true, not_false_eq_true, not_true_eq_false])  <;> (repeat' split)) <;> first | rfl | omega
    have A32 : σ2.I 0 32 = σ.I 18 7 := by
      rw [F2 0 32 (by omega), P1 0 32]
      ((try simp only [at2, rg, fgX, fgM, CQF, and_false, false_and, and_true, true_and, or_false, false_or, or_true, true_or, if_false, if_true, not_false_eq_true, not_true_eq_false])  <;> (repeat' split)) <;> first | rfl | omega
    have A39 : σ2.I 0 39 = σ.I 0 39 + 1 := by
      rw [F2 0 39 (by omega), P1 0 39]
      ((try simp only [at2, rg, fgX, fgM, CQF, and_false, false_and, and_true, true_and, or_false, false_or, or_true, true_or, if_false, if_true, not_false_eq_true, not_true_eq_false])  <;> (repeat' split)) <;> first | rfl | omega
    have A42 : σ2.I 42 (σ.I 0 39) = σ.I 0 31 := by
      rw [F2 42 (σ.I 0 39) (by omega), P1 42 (σ.I 0 39)]
      ((try simp only [at2, rg, fgX, fgM, CQF, and_false, false_and, and_true, true_and, or_false, false_or, or_true, true_or, if_false, if_true, not_false_eq_true, not_true_eq_false])  <;> (repeat' split)) <;> first | rfl | omega
    have A43 : σ2.I 43 (σ.I 0 39) = σ.I 0 20 - σ.I 0 31 := by
      rw [F2 43 (σ.I 0 39) (by omega), P1 43 (σ.I 0 39)]
      ((try simp only [at2, rg, fgX, fgM, CQF, and_false, false_and, and_true, true_and, or_false, false_or, or_true, true_or, if_false, if_true, not_false_eq_true, not_true_eq_false])  <;> (repeat' split)) <;> first | rfl | omega
    have A44 : σ2.I 44 (σ.I 0 39) = x1 := by
      rw [F2 44 (σ.I 0 39) (by omega), P1 44 (σ.I 0 39)]
      ((try simp only [at2, rg, fgX, fgM, CQF, and_false, false_and, and_true, true_and, or_false, false_or, or_true, true_or, if_false, if_true, not_false_eq_true, not_true_eq_false])  <;> (repeat' split)) <;> first | rfl | omega
    have A45 : σ2.I 45 (σ.I 0 39) = σ.I 0 41 + 1 := by
      rw [F2 45 (σ.I 0 39) (by omega), P1 45 (σ.I 0 39)]
      ((try simp only [at2, rg, fgX, fgM, CQF, and_false, false_and, and_true, true_and, or_false, false_or, or_true, true_or, if_false, if_true, not_false_eq_true, not_true_eq_false])  <;> (repeat' split)) <;> first | rfl | omega
    have A46 : σ2.I 46 (σ.I 0 39) = 2147483647 := by
      rw [F2 46 (σ.I 0 39) (by omega), P1 46 (σ.I 0 39)]
      ((try simp only [at2, rg, fgX, fgM, CQF, and_false, false_and, and_true, true_and, or_false, false_or, or_true, true_or, if_false, if_true, not_false_eq_true, not_true_eq_false])  <;> (repeat' split)) <;> first | rfl | omega
    have A47 : σ2.I 47 (σ.I 0 39) = 1 := by
      rw [F2 47 (σ.I 0 39) (by omega), P1 47 (σ.I 0 39)]
      ((try simp only [at2, rg, fgX, fgM, CQF, and_false, false_and, and_true, true_and, or_false, false_or, or_true, true_or, if_false, if_true, not_false_eq_true, not_true_eq_false])  <;> (repeat' split)) <;> first | rfl | omega
    have B45 : σ2.I 555 45 = σ.I 0 20 := by
      rw [P2 555 45]
      ((try simp only [at2, rg, fgX, fgM, CQF, and_false, false_and, and_true, true_and, or_false, false_or, or_true, true_or, if_false, if_true, not_false_eq_true, not_true_eq_false])  <;> (repeat' split)) <;> first | rfl | omega
    have B52 : σ2.I 555 52 = σ.I 0 39 + 1 := by
      rw [P2 555 52]
      ((try simp only [at2, rg, fgX, fgM, CQF, and_false, false_and, and_true, true_and, or_false, false_or, or_true, true_or, if_false, if_true, not_false_eq_true, not_true_eq_false])  <;> (repeat' split)) <;> first | rfl | omega
    have B591 : σ2.I 591 (σ.I 0 39) = x1 := by
      rw [P2 591 (σ.I 0 39)]
      ((try simp only [at2, rg, fgX, fgM, CQF, and_false, false_and, and_true, true_and, or_false, false_or, or_true, true_or, if_false, if_true, not_false_eq_true, not_true_eq_false])  <;> (repeat' split)) <;> first | rfl | omega
    have B592 : σ2.I 592 (σ.I 0 39) = σ.I 0 41 + 1 := by
      rw [P2 592 (σ.I 0 39)]
      ((try simp only [at2, rg, fgX, fgM, CQF, and_false, false_and, and_true, true_and, or_false, false_or, or_true, true_or, if_false, if_true, not_false_eq_true, not_true_eq_false])  <;> (repeat' split)) <;> first | rfl | omega
    have B593 : σ2.I 593 (σ.I 0 39) = 2147483647 := by
      rw [P2 593 (σ.I 0 39)]
      ((try simp only [at2, rg, fgX, fgM, CQF, and_false, false_and, and_true, true_and, or_false, false_or, or_true, true_or, if_false, if_true, not_false_eq_true, not_true_eq_false])  <;> (repeat' split)) <;> first | rfl | omega
    have B594 : σ2.I 594 (σ.I 0 39) = 1 := by
      rw [P2 594 (σ.I 0 39)]
      ((try simp only [at2, rg, fgX, fgM, CQF, and_false, false_and, and_true, true_and, or_false, false_or, or_true, true_or, if_false, if_true, not_false_eq_true, not_true_eq_false])  <;> (repeat' split)) <;> first | rfl | omega
    have B595 : σ2.I 595 (σ.I 0 39) = σ.I 0 31 := by
      rw [P2 595 (σ.I 0 39)]
      ((try simp only [at2, rg, fgX, fgM, CQF, and_false, false_and, and_true, true_and, or_false, false_or, or_true, true_or, if_false, if_true, not_false_eq_true, not_true_eq_false])  <;> (repeat' split)) <;> first | rfl | omega
    have B596 : σ2.I 596 (σ.I 0 39) = σ.I 0 20 - σ.I 0 31 := by
      rw [P2 596 (σ.I 0 39)]
      ((try simp only [at2, rg, fgX, fgM, CQF, and_false, false_and, and_true, true_and, or_false, false_or, or_true, true_or, if_false, if_true, not_false_eq_true, not_true_eq_false])  <;> (repeat' split)) <;> first | rfl | omega
    have A27 : ∀ i, σ2.I 27 i = if σ.I 0 31 ≤ i ∧ i < σ.I 0 20 then σ.I 0 39 else σ.I 27 i := by
      intro i
      rw [F2 27 i (by omega), P1 27 i]
      ((try simp only [at2, rg, fgX, fgM, CQF, and_false, false_and, and_true, true_and, or_false, false_or, or_true, true_or, if_false, if_true, not_false_eq_true, not_true_eq_false])  <;> (repeat' split)) <;> first | rfl | omega
    have PTt : PT σ2 (σ.I 0 29) := by
      have q := pr.2.1 wh
      unfold PT isWt at q ⊢
      have z : ∀ c, c = 16 ∨ c = 20 ∨ c = 22 ∨ c = 23 ∨ c = 36 ∨ c = 37 → σ2.I c = σ1.I c := fun c h => funext fun i => F2 c i (by omega)
      have z2 : tkQ σ2 = tkQ σ1 := by funext a b; unfold tkQ; rw [z 36 (by omega)]
      rw [z 16 (by omega), z 20 (by omega), z 22 (by omega), z 23 (by omega), z 36 (by omega), z 37 (by omega), F2 18 7 (by omega), z2]
      exact q
    have PWt : PW σ2 (σ.I 0 20) := by
      have q := pr.2.2 wh
      unfold PW isWt at q ⊢
      have z : ∀ c, c = 16 ∨ c = 20 ∨ c = 22 ∨ c = 23 ∨ c = 26 ∨ c = 33 ∨ c = 34 → σ2.I c = σ1.I c := fun c h => funext fun i => F2 c i (by omega)
      have z2 : wkQ σ2 = wkQ σ1 := by funext a b; unfold wkQ; rw [z 16 (by omega), z 26 (by omega), z 33 (by omega)]
      rw [z 16 (by omega), z 20 (by omega), z 22 (by omega), z 23 (by omega), z 26 (by omega), z 33 (by omega), z 34 (by omega), F2 18 7 (by omega), z2]
      exact q
    refine ⟨by have pq : y = _ := pe; have gq : z = _ := ge; rw [gq, pq, if_neg (show ¬ ¬ (x1 = -1 ∨ (0 ≤ x1 ∧ x1 < σ.I 0 39 ∧ σ.I 47 x1 = 1 ∧ σ.I 46 x1 = 2147483647)) from fun z => z (And.left wh)), if_neg (show ¬ ¬ (x1 = -1 ∨ (0 ≤ x1 ∧ x1 < σ.I 0 39 ∧ σ.I 594 x1 = 1 ∧ σ.I 593 x1 = 2147483647)) from fun z => z w2h)], r.Lay.sf (s1.tr s2), RK_cg hS hN (F 0 1 (by omega) (by omega)) (F 0 41 (by omega) (by omega)) (fun i => F 211 i (by omega) (by omega)) r.RK, ?_, ?_, ?_, ?_, ?_, ?_, ?_, ?_, ?_, ?_, ?_, ?_, ?_, ?_, ?_, ?_, ?_, ?_, ?_, ?_, ?_, ?_, ?_, ?_, ?_⟩
    · exact rTP_cg (fun c i h => F c i (by unfold fTP at h; omega) (by unfold fTP at h; omega)) r.TP
    · exact rFL_cg (fun c i h => F c i (by unfold fFL at h; omega) (by unfold fFL at h; omega)) r.FL
    · exact rVS_cg (fun c i h => F c i (by unfold fVS at h; omega) (by unfold fVS at h; omega)) r.VS
    · exact OB_add r hk (And.left wh) n6 A39 B52 (F 0 41 (by omega) (by omega)) (fun c i h q => F c i (by omega) (by omega)) ⟨A42, B595⟩ ⟨A43, B596⟩ ⟨A44, B591⟩ ⟨A45, B592⟩ ⟨A46, B593⟩ ⟨A47, B594⟩
    · exact VA_add va A31 B45 (F 0 9 (by omega) (by omega)) (funext fun i => F 16 i (by omega) (by omega)) (fun i h => F 0 i (by omega) (by omega)) (fun i h => F 555 i (by omega) (by omega)) (fun c h => funext fun i => F c i (by unfold cVA at h; omega) (by unfold cVA at h; omega)) (fun c h => funext fun i => F c i (by unfold cTK at h; omega) (by unfold cTK at h; omega)) (funext fun i => F 582 i (by omega) (by omega)) (funext fun i => F 584 i (by omega) (by omega)) (funext fun i => F 35 i (by omega) (by omega)) (funext fun i => F 585 i (by omega) (by omega)) (F 18 7 (by omega) (by omega))
    · exact rBD_cg (fun c i h => F c i (by unfold fBD at h; omega) (by unfold fBD at h; omega)) r.BD
    · exact TE_add te va r.FL A31 A32 (fun i h => F 0 i (by omega) (by omega)) (fun c h => funext fun i => F c i (by omega) (by omega)) (F 18 7 (by omega) (by omega)) PTt PWt
    · exact PK_add r.PK va n6 (F 0 20 (by omega) (by omega)) A31 A39 (fun c i h q => F c i (by omega) (by omega)) A42 A43 A47 A27
    · exact rUS_cg (fun c i h => F c i (by unfold fUS at h; omega) (by unfold fUS at h; omega)) r.US
    · exact rFO_cg (fun c i h => F c i (by unfold fFO at h; omega) (by unfold fFO at h; omega)) r.FO
    · exact rSH_cg (fun c i h => F c i (by unfold fSH at h; omega) (by unfold fSH at h; omega)) r.SH
    · exact rSW_cg (fun c i h => F c i (by unfold fSW at h; omega) (by unfold fSW at h; omega)) r.SW
    · have hi := r.HI
      refine ⟨by rw [F 0 70 (by omega) (by omega), F 555 115 (by omega) (by omega)]; exact hi.1, fun i h0 h1 => ?_, fun i j h0 h1 h2 => ?_, by rw [F 0 71 (by omega) (by omega)]; exact hi.2.2.2.1, by rw [F 0 71 (by omega) (by omega), F 555 114 (by omega) (by omega)]; exact hi.2.2.2.2.1, fun h f h0 h1 => ?_, fun i h0 h1 => by rw [F 637 i (by omega) (by omega)]; exact hi.2.2.2.2.2.2 i h0 h1⟩
      · rw [F 0 70 (by omega) (by omega)] at h1
        have q := hi.2.1 i h0 h1
        have q2 := q.2.1
        rw [F 189 i (by omega) (by omega), F 637 i (by omega) (by omega), F 190 i (by omega) (by omega), F 638 i (by omega) (by omega), A39, F 47 (σ.I 189 i) (by omega) (by omega)]
        exact ⟨q.1, by omega, q.2.2⟩
      · rw [F 0 70 (by omega) (by omega)] at h2
        rw [F 189 i (by omega) (by omega), F 189 j (by omega) (by omega)]
        exact hi.2.2.1 i j h0 h1 h2
      · rw [F 0 70 (by omega) (by omega)] at h
        rw [F 102 1 (by omega) (by omega), F 639 f (by omega) (by omega)]
        exact hi.2.2.2.2.2.1 h f h0 h1
    · exact rLN_cg (fun c i h => F c i (by unfold fLN at h; omega) (by unfold fLN at h; omega)) r.LN
    · exact rMK_cg (fun c i h => F c i (by unfold fMK at h; omega) (by unfold fMK at h; omega)) r.MK
    · exact GR_add r.GR va r.FL te A31 A32 (fun i h => F 0 i (by omega) (by omega)) (fun i h => F 555 i (by omega) (by omega)) (fun c h => funext fun i => F c i (by omega) (by omega))
    · exact rTT_cg (fun c i h => F c i (by unfold fTT at h; omega) (by unfold fTT at h; omega)) r.TT
    · exact rMT_cg (fun c i h => F c i (by unfold fMT at h; omega) (by unfold fMT at h; omega)) r.MT
    · exact rSC_cg (fun c i h => F c i (by unfold fSC at h; omega) (by unfold fSC at h; omega)) r.SC
    · exact rQU_cg (fun c i h => F c i (by unfold fQU at h; omega) (by unfold fQU at h; omega)) r.QU
    · exact rKQ_cg (fun c i h => F c i (by unfold fKQ at h; omega) (by unfold fKQ at h; omega)) r.KQ
    · exact rHQ_cg (fun c i h => F c i (by unfold fHQ at h; omega) (by unfold fHQ at h; omega)) r.HQ
    · exact rPP_cg (fun c i h => F c i (by unfold fPP at h; omega) (by unfold fPP at h; omega)) (by rw [hR]) (by rw [hR]) r.PP
    · exact rAN_cg (fun c i h => F c i (by unfold fAN at h; omega) (by unfold fAN at h; omega)) hR hS hN r.AN
    · exact rSE_cg r.SE
  · refine OPI.mk (sp_X0_add (by omega) r.Lay ob.1.2 ob.2.2.1 h1 ⟨va2.1, va2.2.1⟩ va2.2.2.1 ⟨by omega, by omega⟩ te.2.2.2.2.2.1 te.2.2.2.2.2.2 (VA_VL r _ _ va2.1 (Int.le_refl _)) ⟨te2.1, by omega⟩ r.FL.1.2) (fun y σ1 p s1 => by
        have S : ∀ (c : Nat) (i : Int), 555 ≤ c → σ1.I c i = σ.I c i := fun c i _ => (congrFun (congrFun p.2.1.2 c) i).trans (if_neg w)
        have SP : pH σ1 = pH σ := by
          funext k
          unfold pH
          rw [S 594 k (by omega), S 591 k (by omega)]
        have TRM : trH σ1 (σ1.I 555 52) := by
          intro k h0 h1
          rw [S 555 52 (by omega)] at h1
          have q := tr k h0 h1
          rw [SP, S 594 _ (by omega)]
          exact q
        clear p
        exact sp_X9_add (by omega) (r.Lay.sf s1) (by clear w wq dq; rw [S 555 52 (by omega)]; omega) TRM h1 (by clear w wq dq; rw [S 555 45 (by omega), S 555 30 (by omega)]; omega) (by clear w wq dq; rw [S 555 30 (by omega)]; omega) (by clear w wq dq; rw [S 555 54 (by omega)]; omega)) ?_
    intro y σ1 z σ2 p s1 g s2
    have S : ∀ (c : Nat) (i : Int), 555 ≤ c → σ1.I c i = σ.I c i := fun c i _ => (congrFun (congrFun p.2.1.2 c) i).trans (if_neg w)
    have SP : pH σ1 = pH σ := by
      funext k
      unfold pH
      rw [S 594 k (by omega), S 591 k (by omega)]
    have TRM : trH σ1 (σ1.I 555 52) := by
      intro k h0 h1
      rw [S 555 52 (by omega)] at h1
      have q := tr k h0 h1
      rw [SP, S 594 _ (by omega)]
      exact q
    rw [S 555 52 (by omega), S 594 x1 (by omega), S 593 x1 (by omega), SP, S 555 54 (by omega), S 555 45 (by omega), S 555 30 (by omega), ← ob1.1, ← vs1.2.1, ← va1.1.1, ← va1.1.2.1] at g
    have w2 : ¬ ((x1 = -1 ∨ (0 ≤ x1 ∧ x1 < σ.I 0 39 ∧ σ.I 594 x1 = 1 ∧ σ.I 593 x1 = 2147483647)) ∧ ¬ (σ.I 0 39 = 600 ∨ 10 ≤ dp (pH σ) x1)) := fun z => w ⟨wq.mp z.1, by rw [← dq (wq.mp z.1)]; exact z.2⟩
    have wh : Hd _ := w
    have w2h : Hd _ := w2
    have wqh : Hd _ := wq
    have dqh : Hd _ := dq
    clear w w2 wq dq
    have pe : Hd _ := p.1
    have pr := p.2
    have ge : Hd _ := g.1
    have gr := g.2
    clear p g
    have F1 : ∀ (c : Nat) (i : Int), ¬ (c = 0 ∧ c = 1) → σ1.I c i = σ.I c i := by
      intro c i q
      rw [congrFun (congrFun pr.1.2 c) i]
      exact if_neg wh
    have F2 : ∀ (c : Nat) (i : Int), ¬ (c = 0 ∧ c = 1) → σ2.I c i = σ1.I c i := by
      intro c i q
      rw [congrFun (congrFun gr.2 c) i]
      exact if_neg w2h
    have F : ∀ (c : Nat) (i : Int), ¬ (c = 0 ∧ c = 1) → ¬ (c = 0 ∧ c = 1) → σ2.I c i = σ.I c i := fun c i a b => (F2 c i b).trans (F1 c i a)
    have hR : σ2.R = σ.R := gr.1.1.trans pr.1.1.1
    have hS : σ2.sh = σ.sh := gr.1.2.1.trans pr.1.1.2.1
    have hN : σ2.n = σ.n := gr.1.2.2.trans pr.1.1.2.2
    refine ⟨by
      have wq : (x1 = -1 ∨ (0 ≤ x1 ∧ x1 < σ.I 0 39 ∧ σ.I 594 x1 = 1 ∧ σ.I 593 x1 = 2147483647)) ↔ (x1 = -1 ∨ (0 ≤ x1 ∧ x1 < σ.I 0 39 ∧ σ.I 47 x1 = 1 ∧ σ.I 46 x1 = 2147483647)) := wqh
      have dq : (x1 = -1 ∨ (0 ≤ x1 ∧ x1 < σ.I 0 39 ∧ σ.I 47 x1 = 1 ∧ σ.I 46 x1 = 2147483647)) → dp (pH σ) x1 = dp (σ.I 44) x1 := dqh
      have pq : y = _ := pe
      have gq : z = _ := ge
      rw [gq, pq]
      by_cases q : (x1 = -1 ∨ (0 ≤ x1 ∧ x1 < σ.I 0 39 ∧ σ.I 47 x1 = 1 ∧ σ.I 46 x1 = 2147483647))
      · rw [if_neg (show ¬ ¬ (x1 = -1 ∨ (0 ≤ x1 ∧ x1 < σ.I 0 39 ∧ σ.I 47 x1 = 1 ∧ σ.I 46 x1 = 2147483647)) from fun z => z q), if_neg (show ¬ ¬ (x1 = -1 ∨ (0 ≤ x1 ∧ x1 < σ.I 0 39 ∧ σ.I 594 x1 = 1 ∧ σ.I 593 x1 = 2147483647)) from fun z => z (wq.mpr q)), dq q]
      · rw [if_pos q, if_pos (show ¬ (x1 = -1 ∨ (0 ≤ x1 ∧ x1 < σ.I 0 39 ∧ σ.I 594 x1 = 1 ∧ σ.I 593 x1 = 2147483647)) from fun z => q (wq.mp z))], r.Lay.sf (s1.tr s2), RK_cg hS hN (F 0 1 (by omega) (by omega)) (F 0 41 (by omega) (by omega)) (fun i => F 211 i (by omega) (by omega)) r.RK, ?_, ?_, ?_, ?_, ?_, ?_, ?_, ?_, ?_, ?_, ?_, ?_, ?_, ?_, ?_, ?_, ?_, ?_, ?_, ?_, ?_, ?_, ?_, ?_, ?_⟩
    · exact rTP_cg (fun c i h => F c i (by unfold fTP at h; omega) (by unfold fTP at h; omega)) r.TP
    · exact rFL_cg (fun c i h => F c i (by unfold fFL at h; omega) (by unfold fFL at h; omega)) r.FL
    · exact rVS_cg (fun c i h => F c i (by unfold fVS at h; omega) (by unfold fVS at h; omega)) r.VS
    · exact rOB_cg (fun c i h => F c i (by unfold fOB at h; omega) (by unfold fOB at h; omega)) r.OB
    · exact rVA_cg (fun c i h => F c i (by unfold fVA at h; omega) (by unfold fVA at h; omega)) r.VA
    · exact rBD_cg (fun c i h => F c i (by unfold fBD at h; omega) (by unfold fBD at h; omega)) r.BD
    · exact rTE_cg (fun c i h => F c i (by unfold fTE at h; omega) (by unfold fTE at h; omega)) r.TE
    · exact rPK_cg (fun c i h => F c i (by unfold fPK at h; omega) (by unfold fPK at h; omega)) r.PK
    · exact rUS_cg (fun c i h => F c i (by unfold fUS at h; omega) (by unfold fUS at h; omega)) r.US
    · exact rFO_cg (fun c i h => F c i (by unfold fFO at h; omega) (by unfold fFO at h; omega)) r.FO
    · exact rSH_cg (fun c i h => F c i (by unfold fSH at h; omega) (by unfold fSH at h; omega)) r.SH
    · exact rSW_cg (fun c i h => F c i (by unfold fSW at h; omega) (by unfold fSW at h; omega)) r.SW
    · exact rHI_cg (fun c i h => F c i (by unfold fHI at h; omega) (by unfold fHI at h; omega)) r.HI
    · exact rLN_cg (fun c i h => F c i (by unfold fLN at h; omega) (by unfold fLN at h; omega)) r.LN
    · exact rMK_cg (fun c i h => F c i (by unfold fMK at h; omega) (by unfold fMK at h; omega)) r.MK
    · exact rGR_cg (fun c i h => F c i (by unfold fGR at h; omega) (by unfold fGR at h; omega)) r.GR
    · exact rTT_cg (fun c i h => F c i (by unfold fTT at h; omega) (by unfold fTT at h; omega)) r.TT
    · exact rMT_cg (fun c i h => F c i (by unfold fMT at h; omega) (by unfold fMT at h; omega)) r.MT
    · exact rSC_cg (fun c i h => F c i (by unfold fSC at h; omega) (by unfold fSC at h; omega)) r.SC
    · exact rQU_cg (fun c i h => F c i (by unfold fQU at h; omega) (by unfold fQU at h; omega)) r.QU
    · exact rKQ_cg (fun c i h => F c i (by unfold fKQ at h; omega) (by unfold fKQ at h; omega)) r.KQ
    · exact rHQ_cg (fun c i h => F c i (by unfold fHQ at h; omega) (by unfold fHQ at h; omega)) r.HQ
    · exact rPP_cg (fun c i h => F c i (by unfold fPP at h; omega) (by unfold fPP at h; omega)) (by rw [hR]) (by rw [hR]) r.PP
    · exact rAN_cg (fun c i h => F c i (by unfold fAN at h; omega) (by unfold fAN at h; omega)) hR hS hN r.AN
    · exact rSE_cg r.SE
end OPK

