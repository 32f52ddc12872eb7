/-! contracts: printed by tools/mk.py out of s98zzzzzg_opR.py -/
set_option maxRecDepth 100000
set_option maxHeartbeats 3000000
/-! the operation crash -/
theorem DIX_v {σ δ : Sto} (va : rVA σ) (te : rTE σ) (h : DIX σ δ) : (∀ (c : Nat) (i : Int), c ≠ 25 → ¬ (c = 18 ∧ i = 7) → ¬ (c = 0 ∧ (i = 20 ∨ i = 22 ∨ i = 29 ∨ i = 30)) → δ.I c i = σ.I c i) ∧ (δ.I 0 20 = σ.I 0 31 ∧ δ.I 0 22 = smP (fun _ => True) (σ.I 29) (σ.I 0 31) ∧ δ.I 0 29 = smP (fun _ => True) (σ.I 32) (σ.I 0 31) ∧ δ.I 0 30 = cn (isWv σ) (σ.I 0 31) ∧ δ.I 18 7 = σ.I 0 32) ∧ δ.2 = σ.2 := by
  have va2 := va.1.2.1
  have vb := va.2.1
  have te3 := te.2.2.1
  have wsum : cn (isWv σ) (σ.I 0 20) = cn (isWv σ) (σ.I 0 31) + cn (fun j => isWv σ (σ.I 0 31 + j)) (σ.I 0 20 - σ.I 0 31) := by
    have q := cn_sum (p := isWv σ) va2.1 (σ.I 0 20 - σ.I 0 31).toNat
    rw [show (((σ.I 0 20 - σ.I 0 31).toNat : Nat) : Int) = σ.I 0 20 - σ.I 0 31 by omega, show σ.I 0 31 + (σ.I 0 20 - σ.I 0 31) = σ.I 0 20 by omega] at q
    exact q
  have P := fun (c : Nat) (i : Int) => congrFun (congrFun h.2 c) i
  refine ⟨fun c i q0 q1 q2 => ?_, ⟨?_, ?_, ?_, ?_, ?_⟩, Prod.ext h.1.1 (Prod.ext h.1.2.1 h.1.2.2)⟩
  · rw [P c i]
    simp only [at2, rg]
    rw [if_neg (by omega), if_neg (by omega), if_neg (by omega)]
    split
    · rw [if_neg (by omega), if_neg (by omega), if_neg (by omega)]
    · rfl
  · rw [P 0 20]
    ((try simp only [at2, rg, fgX, fgM, CQF, and_false, false_and, and_true, true_and, or_false, false_or, or_true, true_or, if_false, if_true, not_false_eq_true, not_true_eq_false])  <;> (repeat' split)) <;> first | rfl | omega
  · rw [P 0 22]
    by_cases q : σ.I 0 31 < σ.I 0 20
    · rw [← (va.2.2.1 _ va2.1 q).1]
      ((try simp only [at2, rg, fgX, fgM, CQF, and_false, false_and, and_true, true_and, or_false, false_or, or_true, true_or, if_false, if_true, not_false_eq_true, not_true_eq_false])  <;> (repeat' split)) <;> first | rfl | omega
    · rw [show σ.I 0 31 = σ.I 0 20 by omega, ← vb.2.2.1]
      ((try simp only [at2, rg, fgX, fgM, CQF, and_false, false_and, and_true, true_and, or_false, false_or, or_true, true_or, if_false, if_true, not_false_eq_true, not_true_eq_false])  <;> (repeat' split)) <;> first | rfl | omega
  · rw [P 0 29]
    by_cases q : σ.I 0 31 < σ.I 0 20
    · rw [← (va.2.2.1 _ va2.1 q).2.1]
      ((try simp only [at2, rg, fgX, fgM, CQF, and_false, false_and, and_true, true_and, or_false, false_or, or_true, true_or, if_false, if_true, not_false_eq_true, not_true_eq_false])  <;> (repeat' split)) <;> first | rfl | omega
    · rw [show σ.I 0 31 = σ.I 0 20 by omega, ← vb.2.2.2.1]
      ((try simp only [at2, rg, fgX, fgM, CQF, and_false, false_and, and_true, true_and, or_false, false_or, or_true, true_or, if_false, if_true, not_false_eq_true, not_true_eq_false])  <;> (repeat' split)) <;> first | rfl | omega
  · rw [P 0 30]
    show (if at2 0 30 0 30 then _ else _) = _
    rw [if_pos ⟨rfl, rfl⟩, vb.2.2.2.2, wsum]
    omega
  · rw [P 18 7]
    ((try simp only [at2, rg, fgX, fgM, CQF, and_false, false_and, and_true, true_and, or_false, false_or, or_true, true_or, if_false, if_true, not_false_eq_true, not_true_eq_false])  <;> (repeat' split)) <;> first | rfl | omega
theorem NTM_v {σ τ δ : Sto} (va : rVA σ) (S : ∀ (c : Nat) (i : Int), 555 ≤ c → τ.I c i = σ.I c i) (h : NTM τ δ) : (∀ (c : Nat) (i : Int), ¬ (c = 555 ∧ (i = 30 ∨ i = 38 ∨ i = 44)) → δ.I c i = if fgM c i then 0 else τ.I c i) ∧ (δ.I 555 30 = σ.I 0 31 ∧ δ.I 555 38 = smP (fun _ => True) (σ.I 29) (σ.I 0 31) ∧ δ.I 555 44 = σ.I 582 (σ.I 0 31)) ∧ δ.2 = τ.2 := by
  obtain ⟨ε, e1, e2⟩ := h
  have va2 := va.1.2.1
  have va1 := va.1.1
  have vb := va.2.1
  have Q : ∀ (c : Nat) (i : Int), ¬ (c = 555 ∧ (i = 114 ∨ i = 115 ∨ i = 133 ∨ i = 134 ∨ i = 135)) → ε.I c i = τ.I c i := fun c i q => by
    rw [e1.2]
    exact if_neg (by unfold fgM; omega)
  have P := fun (c : Nat) (i : Int) => congrFun (congrFun e2.2 c) i
  have c45 : ε.I 555 45 = σ.I 0 31 := by rw [Q 555 45 (by omega), S 555 45 (by omega)]; exact va1.2.1.symm
  have c30 : ε.I 555 30 = σ.I 0 20 := by rw [Q 555 30 (by omega), S 555 30 (by omega)]; exact va1.1.symm
  have c44 : ε.I 555 44 = σ.I 555 44 := by rw [Q 555 44 (by omega), S 555 44 (by omega)]
  have c38 : ε.I 555 38 = σ.I 0 22 := by rw [Q 555 38 (by omega), S 555 38 (by omega)]; exact va1.2.2.1.symm
  have c582 : ∀ i, ε.I 582 i = σ.I 582 i := fun i => by rw [Q 582 i (by omega), S 582 i (by omega)]
  have c580 : ∀ i, ε.I 580 i = σ.I 580 i := fun i => by rw [Q 580 i (by omega), S 580 i (by omega)]
  have top : σ.I 582 (σ.I 0 20) = σ.I 555 44 := by rw [va1.1]; exact vb.2.1
  refine ⟨fun c i q => ?_, ⟨?_, ?_, ?_⟩, (Prod.ext e2.1.1 (Prod.ext e2.1.2.1 e2.1.2.2) : δ.2 = ε.2).trans (Prod.ext e1.1.1 (Prod.ext e1.1.2.1 e1.1.2.2))⟩
  · rw [P c i]
    have ei : ε.I c i = if fgM c i then 0 else τ.I c i := by rw [e1.2]
    simp only [at2, c45, c30, c44, c582]
    rw [← ei, if_neg (by omega), if_neg (by omega), if_neg (by omega)]
    by_cases w : σ.I 0 31 < σ.I 0 20
    · by_cases u : c = 582 ∧ i = σ.I 0 31
      · rw [if_pos ⟨w, u⟩, u.1, u.2, c582]
      · rw [if_neg (fun z => u z.2), if_neg (fun z => z.1 w)]
    · rw [if_neg (fun z => w z.1)]
      by_cases u : c = 582 ∧ i = σ.I 0 20
      · rw [if_pos ⟨w, u⟩, u.1, u.2, c582, top]
      · rw [if_neg (fun z => u z.2)]
  · rw [P 555 30]
    simp only [at2, c45, c30]
    ((try simp only [at2, rg, fgX, fgM, CQF, and_false, false_and, and_true, true_and, or_false, false_or, or_true, true_or, if_false, if_true, not_false_eq_true, not_true_eq_false])  <;> (repeat' split)) <;> first | rfl | omega
  · rw [P 555 38]
    simp only [at2, c45, c30, c580]
    by_cases q : σ.I 0 31 < σ.I 0 20
    · have z := va.2.2.1 _ va2.1 q
      rw [← z.1, z.2.2.2.1.1]
      ((try simp only [at2, rg, fgX, fgM, CQF, and_false, false_and, and_true, true_and, or_false, false_or, or_true, true_or, if_false, if_true, not_false_eq_true, not_true_eq_false])  <;> (repeat' split)) <;> first | rfl | omega
    · rw [show σ.I 0 31 = σ.I 0 20 by omega, ← vb.2.2.1, ← c38]
      ((try simp only [at2, rg, fgX, fgM, CQF, and_false, false_and, and_true, true_and, or_false, false_or, or_true, true_or, if_false, if_true, not_false_eq_true, not_true_eq_false])  <;> (repeat' split)) <;> first | rfl | omega
  · rw [P 555 44]
    simp only [at2, c45, c30, c582]
    by_cases q : σ.I 0 31 < σ.I 0 20
    · ((try simp only [at2, rg, fgX, fgM, CQF, and_false, false_and, and_true, true_and, or_false, false_or, or_true, true_or, if_false, if_true, not_false_eq_true, not_true_eq_false])  <;> (repeat' split)) <;> first | rfl | omega
    · rw [show σ.I 0 31 = σ.I 0 20 by omega, top, ← c44]
      ((try simp only [at2, rg, fgX, fgM, CQF, and_false, false_and, and_true, true_and, or_false, false_or, or_true, true_or, if_false, if_true, not_false_eq_true, not_true_eq_false])  <;> (repeat' split)) <;> first | rfl | omega
section OPR
variable {E : XE} {d : Nat}

theorem op_crash (hd : 30 ≤ d) : OP_crash E d RR := by
  intro k σ hk r
  have va := r.VA
  have fl := r.FL
  have te := r.TE
  have ob := r.OB
  have ob1 := ob.1
  have pk := r.PK
  have vs := r.VS
  have vs1 := vs.1
  have vs2 := vs.2.1
  have k4 := r.RK.2.2.2.1
  have x29 := VA_29 va
  have va1 := va.1
  have va2 := va.1.2.1
  refine OPI.mk (sp_X0_crash (by omega) r.Lay (LAP_T va fl te r.BD pk.1 pk.2.2) te.2.2.2.1 (fun v v0 v1 => (va.2.2.1 v v0 v1).2.2.1.2) fl.1.2 te.1.1 ⟨x29.2, by omega⟩ ⟨by omega, by omega⟩) (fun y σ1 p s1 => by
      obtain ⟨γ, ρ, ⟨δ, dx, cr⟩, ly, rd⟩ := p.1
      obtain ⟨dF, ⟨d20, d22, d29, d30, d7⟩, d2⟩ := DIX_v va te dx
      have LF : ∀ (c : Nat) (i : Int), ¬ wsLy c i → ¬ wsT3 c i → ¬ wsT4 c → ρ.I c i = γ.I c i := fun c i a b e => LAYR_f ly a b e
      have R1 : ∀ (c : Nat) (i : Int), ¬ (c = 0 ∧ (i = 70 ∨ i = 71 ∨ i = 59 ∨ i = 75 ∨ i = 79 ∨ i = 40)) → σ1.I c i = ρ.I c i := fun c i q => by
        rw [rd.2]
        show (if fgX c i then _ else (ρ.wI 0 40 (ρ.I 0 42)).I c i) = _
        rw [if_neg (by unfold fgX; omega), I_wI, if_neg (by omega)]
      have S : ∀ (c : Nat) (i : Int), 555 ≤ c → σ1.I c i = σ.I c i := fun c i h => by
        rw [R1 c i (by omega), LF c i (by unfold wsLy; omega) (by unfold wsT3; omega) (by unfold wsT4; omega), cr.1 c i (by omega) (by omega) (by omega)]
        exact dF c i (by omega) (by omega) (by omega)
      have S' : ∀ c : Nat, 555 ≤ c → σ1.I c = σ.I c := fun c h => funext fun i => S c i h
      have bm : BOM σ1 := by
        have z := BOM_V va fl r.BD
        have ln : lnT σ1 = lnT σ := by funext v; unfold lnT; rw [S' 582 (by omega)]
        unfold BOM bd_0_20 at z ⊢
        rw [S' 555 (by omega), S' 582 (by omega), S' 580 (by omega), S' 581 (by omega), S' 587 (by omega), ln]
        exact z
      have lm : LOM σ1 := by
        have z := LOM_V va ob pk.1
        unfold LOM at z ⊢
        rw [S' 555 (by omega), S' 594 (by omega), S' 595 (by omega), S' 596 (by omega)]
        exact z
      exact sp_X9_crash (by omega) (r.Lay.sf s1) bm lm (by rw [S 582 _ (by omega), S 555 30 (by omega), S 555 44 (by omega)]; exact va.2.1.2.1) (by rw [S 555 55 (by omega)]; exact ⟨by omega, by omega⟩)) ?_
  intro y σ1 z σ2 p s1 g s2
  obtain ⟨γ, ρ, ⟨δ, dx, cr⟩, ly, rd⟩ := p.1
  obtain ⟨dF, ⟨d20, d22, d29, d30, d7⟩, d2⟩ := DIX_v va te dx
  have LF : ∀ (c : Nat) (i : Int), ¬ wsLy c i → ¬ wsT3 c i → ¬ wsT4 c → ρ.I c i = γ.I c i := fun c i a b e => LAYR_f ly a b e
  have R1 : ∀ (c : Nat) (i : Int), ¬ (c = 0 ∧ (i = 70 ∨ i = 71 ∨ i = 59 ∨ i = 75 ∨ i = 79 ∨ i = 40)) → σ1.I c i = ρ.I c i := fun c i q => by
    rw [rd.2]
    show (if fgX c i then _ else (ρ.wI 0 40 (ρ.I 0 42)).I c i) = _
    rw [if_neg (by unfold fgX; omega), I_wI, if_neg (by omega)]
  have S : ∀ (c : Nat) (i : Int), 555 ≤ c → σ1.I c i = σ.I c i := fun c i h => by
    rw [R1 c i (by omega), LF c i (by unfold wsLy; omega) (by unfold wsT3; omega) (by unfold wsT4; omega), cr.1 c i (by omega) (by omega) (by omega)]
    exact dF c i (by omega) (by omega) (by omega)
  obtain ⟨⟨γm, ρm, ⟨δm, nt, cm⟩, pm, pn⟩, gy⟩ := g
  obtain ⟨nF, ⟨n30, n38, n44⟩, n2⟩ := NTM_v va S nt
  rw [S 555 52 (by omega), ← ob1.1] at cm gy
  obtain ⟨cr1, cr2, cr47, cr46, cr48⟩ := cr
  obtain ⟨cm1, cm2, cm594, cm593⟩ := cm
  have D42 : δ.I 0 42 = σ.I 0 42 := dF 0 42 (by omega) (by omega) (by omega)
  have N55 : δm.I 555 55 = σ.I 0 42 := by rw [nF 555 55 (by omega), if_neg (by unfold fgM; omega), S 555 55 (by omega)]; exact vs1.2.2.symm
  have X45 : ∀ o, δ.I 45 o = σ.I 45 o := fun o => dF 45 o (by omega) (by omega) (by omega)
  have X46 : ∀ o, δ.I 46 o = σ.I 46 o := fun o => dF 46 o (by omega) (by omega) (by omega)
  have X47 : ∀ o, δ.I 47 o = σ.I 47 o := fun o => dF 47 o (by omega) (by omega) (by omega)
  have X48 : ∀ o, δ.I 48 o = σ.I 48 o := fun o => dF 48 o (by omega) (by omega) (by omega)
  have MM : ∀ (c : Nat) (i : Int), 556 ≤ c → δm.I c i = σ.I c i := fun c i h => by rw [nF c i (by omega), if_neg (by unfold fgM; omega), S c i (by omega)]
  obtain ⟨κ, hκ⟩ : ∃ κ : Sto, κ = (fun c i => if c < 555 then γ.I c i else γm.I c i, σ.2) := ⟨_, rfl⟩
  have K1 : ∀ (c : Nat) (i : Int), c < 555 → κ.I c i = γ.I c i := fun c i h => by rw [hκ]; exact if_pos h
  have K2 : ∀ (c : Nat) (i : Int), 555 ≤ c → κ.I c i = γm.I c i := fun c i h => by rw [hκ]; exact if_neg (by omega)
  have KX : ∀ (c : Nat) (i : Int), c < 555 → c ≠ 46 → c ≠ 47 → c ≠ 48 → κ.I c i = δ.I c i := fun c i h a b e => by rw [K1 c i h]; exact cr1 c i a b e
  have KM : ∀ (c : Nat) (i : Int), 555 ≤ c → c ≠ 593 → c ≠ 594 → κ.I c i = δm.I c i := fun c i h a b => by rw [K2 c i h]; exact cm1 c i a b
  have K3 : ∀ (c : Nat) (i : Int), c ≠ 25 → ¬ (c = 18 ∧ i = 7) → ¬ (c = 0 ∧ (i = 20 ∨ i = 22 ∨ i = 29 ∨ i = 30)) → c ≠ 46 → c ≠ 47 → c ≠ 48 → c ≠ 593 → c ≠ 594 → ¬ (c = 555 ∧ (i = 30 ∨ i = 38 ∨ i = 44)) → ¬ (c = 555 ∧ (i = 114 ∨ i = 115 ∨ i = 133 ∨ i = 134 ∨ i = 135)) → κ.I c i = σ.I c i := fun c i a1 a2 a3 a4 a5 a6 a7 a8 a9 e => by
    by_cases q : c < 555
    · rw [KX c i q a4 a5 a6]; exact dF c i a1 a2 a3
    · rw [KM c i (by omega) a7 a8, nF c i a9, if_neg (by unfold fgM; omega), S c i (by omega)]
  have k47 : ∀ o, κ.I 47 o = if (0 ≤ o ∧ o < σ.I 0 39) ∧ σ.I 0 42 < σ.I 45 o then 0 else σ.I 47 o := fun o => by rw [K1 47 o (by omega), cr47 o, D42, X45, X47]
  have k46 : ∀ o, κ.I 46 o = if (0 ≤ o ∧ o < σ.I 0 39) ∧ σ.I 0 42 < σ.I 46 o then 2147483647 else σ.I 46 o := fun o => by rw [K1 46 o (by omega), cr46 o, D42, X46]
  have k594 : ∀ o, κ.I 594 o = if (0 ≤ o ∧ o < σ.I 0 39) ∧ σ.I 594 o ≠ 0 ∧ σ.I 0 42 < σ.I 592 o then 0 else σ.I 594 o := fun o => by rw [K2 594 o (by omega), cm594 o, N55, MM 594 o (by omega), MM 592 o (by omega)]
  have k593 : ∀ o, κ.I 593 o = if (0 ≤ o ∧ o < σ.I 0 39) ∧ (σ.I 594 o ≠ 0 ∧ ¬ σ.I 0 42 < σ.I 592 o) ∧ σ.I 0 42 < σ.I 593 o then 2147483647 else σ.I 593 o := fun o => by rw [K2 593 o (by omega), cm593 o, N55, MM 594 o (by omega), MM 592 o (by omega), MM 593 o (by omega)]
  clear cr47 cr46 cm594 cm593
  have Z : ∀ (c : Nat) (i : Int), c ≠ 0 → c ≠ 18 → c ≠ 25 → c ≠ 46 → c ≠ 47 → c ≠ 48 → c ≠ 555 → c ≠ 593 → c ≠ 594 → κ.I c i = σ.I c i := fun c i a b e f g h j l m => K3 c i e (by omega) (by omega) f g h l m (by omega) (by omega)
  have c31 : κ.I 0 31 = σ.I 0 31 := K3 0 31 (by omega) (by omega) (by omega) (by omega) (by omega) (by omega) (by omega) (by omega) (by omega) (by omega)
  have c39 : κ.I 0 39 = σ.I 0 39 := K3 0 39 (by omega) (by omega) (by omega) (by omega) (by omega) (by omega) (by omega) (by omega) (by omega) (by omega)
  have c41 : κ.I 0 41 = σ.I 0 41 := K3 0 41 (by omega) (by omega) (by omega) (by omega) (by omega) (by omega) (by omega) (by omega) (by omega) (by omega)
  have c9 : κ.I 0 9 = σ.I 0 9 := K3 0 9 (by omega) (by omega) (by omega) (by omega) (by omega) (by omega) (by omega) (by omega) (by omega) (by omega)
  have c032 : κ.I 0 32 = σ.I 0 32 := K3 0 32 (by omega) (by omega) (by omega) (by omega) (by omega) (by omega) (by omega) (by omega) (by omega) (by omega)
  have c52 : κ.I 555 52 = σ.I 555 52 := K3 555 52 (by omega) (by omega) (by omega) (by omega) (by omega) (by omega) (by omega) (by omega) (by omega) (by omega)
  have c45 : κ.I 555 45 = σ.I 555 45 := K3 555 45 (by omega) (by omega) (by omega) (by omega) (by omega) (by omega) (by omega) (by omega) (by omega) (by omega)
  have c20 : κ.I 0 20 = σ.I 0 31 := (KX 0 20 (by omega) (by omega) (by omega) (by omega)).trans d20
  have c22 := (KX 0 22 (by omega) (by omega) (by omega) (by omega)).trans d22
  have c29 := (KX 0 29 (by omega) (by omega) (by omega) (by omega)).trans d29
  have c30 := (KX 0 30 (by omega) (by omega) (by omega) (by omega)).trans d30
  have c7 := (KX 18 7 (by omega) (by omega) (by omega) (by omega)).trans d7
  have m30 := (KM 555 30 (by omega) (by omega) (by omega)).trans n30
  have m38 := (KM 555 38 (by omega) (by omega) (by omega)).trans n38
  have m44 := (KM 555 44 (by omega) (by omega) (by omega)).trans n44
  have ZF : ∀ c : Nat, c ≠ 0 → c ≠ 18 → c ≠ 25 → c ≠ 46 → c ≠ 47 → c ≠ 48 → c ≠ 555 → c ≠ 593 → c ≠ 594 → κ.I c = σ.I c := fun c a b e f g h j l m => funext fun i => Z c i a b e f g h j l m
  have e5 := VA_e582 va fl (σ.I 0 31).toNat (by omega)
  rw [show (((σ.I 0 31).toNat : Nat) : Int) = σ.I 0 31 by omega] at e5
  have kva : rVA κ := VA_dis va fl te c20 c31 m30 (by rw [c45]; exact va1.1.2.1.symm) c22 c29 c30 (by rw [m38, c22]) (by rw [m44, c29, c30]; exact e5) (fun i _ => Z 582 i (by omega) (by omega) (by omega) (by omega) (by omega) (by omega) (by omega) (by omega) (by omega)) c9 (ZF 16 (by omega) (by omega) (by omega) (by omega) (by omega) (by omega) (by omega) (by omega) (by omega)) (fun c q => by unfold cVA at q; exact ZF c (by omega) (by omega) (by omega) (by omega) (by omega) (by omega) (by omega) (by omega) (by omega)) (ZF 584 (by omega) (by omega) (by omega) (by omega) (by omega) (by omega) (by omega) (by omega) (by omega)) (fun c q => by unfold cTK at q; exact ZF c (by omega) (by omega) (by omega) (by omega) (by omega) (by omega) (by omega) (by omega) (by omega)) c7 (ZF 35 (by omega) (by omega) (by omega) (by omega) (by omega) (by omega) (by omega) (by omega) (by omega)) (ZF 585 (by omega) (by omega) (by omega) (by omega) (by omega) (by omega) (by omega) (by omega) (by omega))
  have kfl : rFL κ := rFL_cg (fun c i h => by unfold fFL at h; exact K3 c i (by omega) (by omega) (by omega) (by omega) (by omega) (by omega) (by omega) (by omega) (by omega) (by omega)) fl
  have kbd : rBD κ := rBD_cg (fun c i h => by unfold fBD at h; exact K3 c i (by omega) (by omega) (by omega) (by omega) (by omega) (by omega) (by omega) (by omega) (by omega) (by omega)) r.BD
  have f42 := ZF 42 (by omega) (by omega) (by omega) (by omega) (by omega) (by omega) (by omega) (by omega) (by omega)
  have f43 := ZF 43 (by omega) (by omega) (by omega) (by omega) (by omega) (by omega) (by omega) (by omega) (by omega)
  have f27 := ZF 27 (by omega) (by omega) (by omega) (by omega) (by omega) (by omega) (by omega) (by omega) (by omega)
  have klo : LOX κ := by
    have w := pk.1
    unfold LOX ofsX at w ⊢
    rw [c39, c31, c20, f42, f43]
    exact ⟨w.1, ⟨w.2.1.1, Int.le_refl _⟩, w.2.2⟩
  have kob : rOB κ := by
    refine ⟨by rw [c39, c52]; exact ob1, fun o o0 o1 => ?_, fun j j0 j1 => ?_, fun o o0 o1 => ?_, fun o o0 o1 => ?_, fun o o0 o1 => ?_⟩
    · rw [c39] at o1
      have w := ob.2.1 o o0 o1
      by_cases q : σ.I 47 o = 1
      · have u := w.2.2 q
        by_cases q2 : σ.I 0 42 < σ.I 45 o
        · rw [k47 o, k594 o, if_pos ⟨⟨o0, o1⟩, q2⟩, if_pos ⟨⟨o0, o1⟩, by omega, by rw [← u.1.2.1]; exact q2⟩]
          exact ⟨rfl, Or.inl rfl, fun e => by omega⟩
        · have a47 : κ.I 47 o = 1 := by rw [k47 o, if_neg (fun z => q2 z.2)]; exact q
          have a594 : κ.I 594 o = 1 := by rw [k594 o, if_neg (fun z => q2 (by rw [u.1.2.1]; exact z.2.2)), ← w.1]; exact q
          rw [a47, a594]
          refine ⟨rfl, Or.inr rfl, fun _ => ?_⟩
          have a46 : κ.I 593 o = κ.I 46 o := by
            rw [k46 o, k593 o, ← u.1.2.2.1, ← u.1.2.1, ← w.1]
            by_cases q3 : σ.I 0 42 < σ.I 46 o
            · rw [if_pos ⟨⟨o0, o1⟩, ⟨by omega, q2⟩, q3⟩, if_pos ⟨⟨o0, o1⟩, q3⟩]
            · rw [if_neg (fun z => q3 z.2.2), if_neg (fun z => q3 z.2)]
          unfold hOb at u ⊢
          have Y : ∀ (c : Nat) (i : Int), c = 42 ∨ c = 43 ∨ c = 44 ∨ c = 45 ∨ c = 591 ∨ c = 592 ∨ c = 595 ∨ c = 596 → κ.I c i = σ.I c i := fun c i e => Z c i (by omega) (by omega) (by omega) (by omega) (by omega) (by omega) (by omega) (by omega) (by omega)
          rw [Y 44 o (by omega), Y 591 o (by omega), Y 45 o (by omega), Y 592 o (by omega), a46, Y 42 o (by omega), Y 595 o (by omega), Y 43 o (by omega), Y 596 o (by omega), c41, Y 45 _ (by omega)]
          refine ⟨⟨u.1.1, u.1.2.1, rfl, u.1.2.2.2⟩, ⟨u.2.1.1, u.2.1.2.1, ?_⟩, ?_, fun a => ?_⟩
          · rw [k46 o]
            have := u.2.1
            split <;> omega
          · rw [k46 o]
            have := u.2.2.1
            split
            · exact Or.inl rfl
            · exact this
          · have p' := u.2.2.2 a
            have tr := ob.2.2.1 o o0 o1
            have pb := ((ob.2.1 _ a (by omega)).2.2 p'.1).2.2.1
            refine ⟨?_, p'.2.1, ?_⟩
            · rw [k47 _, if_neg (fun z => by have := z.2; omega)]
              exact p'.1
            · rw [k46 o, k46 (σ.I 44 o)]
              have := p'.2.2
              split
              · rw [if_pos ⟨⟨a, by omega⟩, by omega⟩]
                exact Int.le_refl _
              · split <;> omega
      · have e47 : σ.I 47 o = 0 := by omega
        have b47 : κ.I 47 o = 0 := by rw [k47 o]; split <;> omega
        have b594 : κ.I 594 o = 0 := by rw [k594 o, if_neg (fun z => z.2.1 (by omega))]; omega
        rw [b47, b594]
        exact ⟨rfl, Or.inl rfl, fun e => by omega⟩
    · rw [c39] at j1
      rw [Z 44 j (by omega) (by omega) (by omega) (by omega) (by omega) (by omega) (by omega) (by omega) (by omega)]
      exact ob.2.2.1 j j0 j1
    · rw [f42, f43]
      exact ob.2.2.2.1 o o0 o1
    · rw [Z 595 o (by omega) (by omega) (by omega) (by omega) (by omega) (by omega) (by omega) (by omega) (by omega), Z 596 o (by omega) (by omega) (by omega) (by omega) (by omega) (by omega) (by omega) (by omega) (by omega)]
      exact ob.2.2.2.2.1 o o0 o1
    · rw [Z 591 o (by omega) (by omega) (by omega) (by omega) (by omega) (by omega) (by omega) (by omega) (by omega)]
      exact ob.2.2.2.2.2 o o0 o1
  have ko27 : ∀ o, 0 ≤ o → o < κ.I 0 39 → ∀ j, 0 ≤ j → j < κ.I 43 o → κ.I 27 (κ.I 42 o + j) = o := fun o o0 o1 j j0 j1 => by
    rw [c39] at o1
    rw [f43] at j1
    rw [f42, f27]
    exact (pk.2.1 o o0 o1).2 j j0 j1
  have kb27 : ∀ v, 0 ≤ v → v < 6000 → 0 ≤ κ.I 27 v ∧ κ.I 27 v < 600 := fun v v0 v1 => by
    rw [f27]
    exact pk.2.2 v v0 v1
  have t3 := te.2.2.1
  have ktu : TU κ := by
    intro s u h0 h1 h2
    rw [c7] at h2
    rw [ZF 19 (by omega) (by omega) (by omega) (by omega) (by omega) (by omega) (by omega) (by omega) (by omega), ZF 20 (by omega) (by omega) (by omega) (by omega) (by omega) (by omega) (by omega) (by omega) (by omega), ZF 21 (by omega) (by omega) (by omega) (by omega) (by omega) (by omega) (by omega) (by omega) (by omega)]
    exact te.1.2 s u h0 h1 (by omega)
  have t2 := te.2.1
  have klap : LAP κ := LAP_V kva kfl ktu (by rw [c7]; omega) (by rw [c032]; omega) kbd klo kb27
  have k1f : ∀ c : Nat, c < 555 → γ.I c = κ.I c := fun c h => (funext fun i => K1 c i h).symm
  have glap : LAP γ := LAP_k k1f klap
  have gtek : TEK γ := by
    have dt := te.2.2.2.1
    unfold TEK DTX at *
    rw [k1f 0 (by omega), k1f 18 (by omega), k1f 16 (by omega), k1f 26 (by omega), k1f 33 (by omega), k1f 32 (by omega), k1f 36 (by omega), k1f 31 (by omega), k1f 20 (by omega), c7, c032, c31, c9, ZF 16 (by omega) (by omega) (by omega) (by omega) (by omega) (by omega) (by omega) (by omega) (by omega), ZF 26 (by omega) (by omega) (by omega) (by omega) (by omega) (by omega) (by omega) (by omega) (by omega), ZF 33 (by omega) (by omega) (by omega) (by omega) (by omega) (by omega) (by omega) (by omega) (by omega), ZF 32 (by omega) (by omega) (by omega) (by omega) (by omega) (by omega) (by omega) (by omega) (by omega), ZF 36 (by omega) (by omega) (by omega) (by omega) (by omega) (by omega) (by omega) (by omega) (by omega), ZF 31 (by omega) (by omega) (by omega) (by omega) (by omega) (by omega) (by omega) (by omega) (by omega), ZF 20 (by omega) (by omega) (by omega) (by omega) (by omega) (by omega) (by omega) (by omega) (by omega)]
    exact ⟨t3.1, ⟨t3.1, Int.le_refl _⟩, ⟨Int.le_refl _, dt.2⟩, fun s s0 s1 => te.2.2.2.2.1 s s0 (by omega)⟩
  have px : PXF γ ρ := PXF_l gtek (by rw [k1f 0 (by omega), c31, c20]; omega) glap ly
  have PMF := PKM_f pm
  have H2 : ∀ (c : Nat) (i : Int), c < 555 → ρm.I c i = σ1.I c i := fun c i h => by
    rw [PMF c i (by unfold wsPm; omega) (by omega), cm1 c i (by omega) (by omega), nF c i (by omega), if_neg (by unfold fgM; omega)]
  have G : ∀ (c : Nat) (i : Int), c < 555 → ¬ (c = 0 ∧ (i = 70 ∨ i = 71 ∨ i = 59 ∨ i = 75 ∨ i = 79 ∨ i = 40)) → ρm.I c i = ρ.I c i := fun c i h q => by
    rw [H2 c i h, R1 c i q]
  obtain ⟨⟨nva, nte, nob, npk, nbd⟩, fx, fm, n22⟩ := PACK kva kfl kob kbd klo ko27 kb27 px pm K1 K2 G
  have W : ∀ (c : Nat) (i : Int), c ≠ 597 → ¬ (c = 555 ∧ i = 53) → σ2.I c i = ρm.I c i := fun c i a b => by
    rw [pn.1 c i a, I_wI, if_neg b]
  have s12 : σ1.2 = σ.2 := by
    have a : σ1.2 = ρ.2 := Prod.ext rd.1.1 (Prod.ext rd.1.2.1 rd.1.2.2)
    rw [a, px.2.2.2.2.2.2.2.1, cr2]
    exact d2
  have s22 : σ2.2 = σ.2 := by
    rw [pn.2.1]
    show ρm.2 = _
    rw [n22, cm2, n2]
    exact s12
  have G1 : ∀ i, (i = 70 ∨ i = 71 ∨ i = 59 ∨ i = 75 ∨ i = 79) → σ2.I 0 i = 0 := fun i q => by
    rw [W 0 i (by omega) (by omega), H2 0 i (by omega), rd.2]
    exact if_pos (by unfold fgX; omega)
  have G2 : ∀ i, (i = 114 ∨ i = 115 ∨ i = 133 ∨ i = 134 ∨ i = 135) → σ2.I 555 i = 0 := fun i q => by
    rw [W 555 i (by omega) (by omega), PMF 555 i (by unfold wsPm; omega) (by omega), cm1 555 i (by omega) (by omega), nF 555 i (by omega)]
    exact if_pos (by unfold fgM; omega)
  have P42 : ρ.I 0 42 = σ.I 0 42 := by
    rw [LF 0 42 (by unfold wsLy; omega) (by unfold wsT3; omega) (by unfold wsT4; omega), cr1 0 42 (by omega) (by omega) (by omega)]
    exact D42
  have Y40 : σ1.I 0 40 = σ.I 0 42 := by
    rw [rd.2]
    show (if fgX 0 40 then _ else (ρ.wI 0 40 (ρ.I 0 42)).I 0 40) = _
    rw [if_neg (by unfold fgX; omega), I_same]
    exact P42
  have A40 : σ2.I 0 40 = σ.I 0 42 := by rw [W 0 40 (by omega) (by omega), H2 0 40 (by omega)]; exact Y40
  have M55 : ρm.I 555 55 = σ.I 0 42 := by
    rw [PMF 555 55 (by unfold wsPm; omega) (by omega), cm1 555 55 (by omega) (by omega)]
    exact N55
  have B53 : σ2.I 555 53 = σ.I 0 42 := by
    rw [pn.1 555 53 (by omega), I_same]
    exact M55
  have A48 : ∀ i, σ2.I 48 i = if (0 ≤ i ∧ i < 4) ∧ σ.I 0 42 < σ.I 48 i then -1 else σ.I 48 i := fun i => by
    rw [W 48 i (by omega) (by omega), H2 48 i (by omega), R1 48 i (by omega), LF 48 i (by unfold wsLy; omega) (by unfold wsT3; omega) (by unfold wsT4; omega), cr48 i, D42, X48]
  have B597 : ∀ i, σ2.I 597 i = if (0 ≤ i ∧ i < 4) ∧ σ.I 0 42 < σ.I 597 i then -1 else σ.I 597 i := fun i => by
    have e : (ρm.wI 555 53 (ρm.I 555 55)).I 597 i = σ.I 597 i := by
      rw [I_ne _ _ _ _ (by omega), PMF 597 i (by unfold wsPm; omega) (by omega), cm1 597 i (by omega) (by omega)]
      exact MM 597 i (by omega)
    have e2 : (ρm.wI 555 53 (ρm.I 555 55)).I 555 55 = σ.I 0 42 := by rw [I_nj _ _ _ _ (by omega)]; exact M55
    rw [pn.2.2 i, e, e2]
  have hy : z = y := by
    rw [gy, p.2]
    have E39 : σ1.I 0 39 = σ.I 0 39 := by rw [← H2 0 39 (by omega), fx 0 39 (by omega) (by unfold wsLy; omega) (by unfold wsT3; omega) (by unfold wsT4; omega) (by omega)]; exact c39
    rw [E39]
    refine cn_cg (fun o o0 o1 => ?_)
    have w := ob.2.1 o o0 o1
    have q46 : σ1.I 46 o = κ.I 46 o := by rw [← H2 46 o (by omega), fx 46 o (by omega) (by unfold wsLy; omega) (by unfold wsT3; omega) (by unfold wsT4; omega) (by omega)]
    have q47 : σ1.I 47 o = κ.I 47 o := by rw [← H2 47 o (by omega), fx 47 o (by omega) (by unfold wsLy; omega) (by unfold wsT3; omega) (by unfold wsT4; omega) (by omega)]
    have q45 : σ1.I 45 o = σ.I 45 o := by rw [← H2 45 o (by omega), fx 45 o (by omega) (by unfold wsLy; omega) (by unfold wsT3; omega) (by unfold wsT4; omega) (by omega)]; exact Z 45 o (by omega) (by omega) (by omega) (by omega) (by omega) (by omega) (by omega) (by omega) (by omega)
    unfold inM inV
    rw [q46, q47, q45, Y40, S 594 o (by omega), S 592 o (by omega), S 593 o (by omega), S 555 55 (by omega), ← vs1.2.2, k46 o, k47 o, ← w.1]
    by_cases h1 : σ.I 47 o = 1
    · have u := (w.2.2 h1).1
      rw [← u.2.1, ← u.2.2.1]
      constructor
      · rintro ⟨a, b, c⟩
        rw [if_neg (fun z => by have := z.2; omega), if_pos ⟨⟨o0, o1⟩, c⟩]
        exact ⟨a, b, by omega⟩
      · rintro ⟨a, b, c⟩
        refine ⟨h1, b, ?_⟩
        by_cases q : σ.I 0 42 < σ.I 46 o
        · exact q
        · rw [if_neg (fun z => q z.2)] at c; exact c
    · constructor
      · rintro ⟨a, _⟩; exact absurd a h1
      · rintro ⟨a, _⟩
        split at a <;> omega
  have F : ∀ (c : Nat) (i : Int), ¬ (c < 555 ∧ ((19 ≤ c ∧ c ≤ 43) ∨ c = 46 ∨ c = 47 ∨ c = 48 ∨ c = 49 ∨ (c = 18 ∧ i = 7) ∨ (c = 0 ∧ (i = 20 ∨ i = 22 ∨ i = 29 ∨ i = 30 ∨ i = 31 ∨ i = 32 ∨ i = 40 ∨ i = 70 ∨ i = 71 ∨ i = 59 ∨ i = 75 ∨ i = 79)))) → ¬ (555 ≤ c ∧ ((579 ≤ c ∧ c ≤ 590) ∨ c = 593 ∨ c = 594 ∨ c = 595 ∨ c = 597 ∨ (c = 555 ∧ (i = 45 ∨ i = 53 ∨ i = 30 ∨ i = 38 ∨ i = 44 ∨ i = 114 ∨ i = 115 ∨ i = 133 ∨ i = 134 ∨ i = 135)))) → σ2.I c i = σ.I c i := fun c i a b => by
    rw [W c i (by omega) (by omega)]
    by_cases q : c < 555
    · rw [fx c i q (by unfold wsLy; omega) (by unfold wsT3; omega) (by unfold wsT4; omega) (by omega)]
      exact K3 c i (by omega) (by omega) (by omega) (by omega) (by omega) (by omega) (by omega) (by omega) (by omega) (by omega)
    · rw [fm c i (by omega) (by unfold wsPm; omega) (by omega)]
      exact K3 c i (by omega) (by omega) (by omega) (by omega) (by omega) (by omega) (by omega) (by omega) (by omega) (by omega)
  have hR : σ2.R = σ.R := congrArg Prod.fst s22
  have hS : σ2.sh = σ.sh := congrArg (fun x => x.2.1) s22
  have hN : σ2.n = σ.n := congrArg (fun x => x.2.2) s22
  have G70 := G1 70 (by omega)
  have G71 := G1 71 (by omega)
  have G59 := G1 59 (by omega)
  have G75 := G1 75 (by omega)
  have G79 := G1 79 (by omega)
  have G114 := G2 114 (by omega)
  have G115 := G2 115 (by omega)
  have G133 := G2 133 (by omega)
  have G134 := G2 134 (by omega)
  have G135 := G2 135 (by omega)
  refine ⟨hy, r.Lay.sf (s1.tr s2), RK_cg hS hN (F 0 1 (by omega) (by omega)) (F 0 41 (by omega) (by omega)) (fun i => F 211 i (by omega) (by omega)) r.RK, ?_, ?_, ?_, ?_, ?_, ?_, ?_, ?_, ?_, ?_, ?_, ?_, ?_, ?_, ?_, ?_, ?_, ?_, ?_, ?_, ?_, ?_, ?_, ?_, ?_⟩
  · exact rTP_cg (fun c i h => F c i (by unfold fTP at h; omega) (by unfold fTP at h; omega)) r.TP
  · exact rFL_cg (fun c i h => F c i (by unfold fFL at h; omega) (by unfold fFL at h; omega)) r.FL
  · refine ⟨⟨A40.trans B53.symm, by rw [F 0 41 (by omega) (by omega), F 555 54 (by omega) (by omega)]; exact vs1.2.1, by rw [F 0 42 (by omega) (by omega), F 555 55 (by omega) (by omega)]; exact vs1.2.2⟩, ⟨by rw [A40, F 0 41 (by omega) (by omega)]; omega, by rw [F 0 42 (by omega) (by omega), F 0 41 (by omega) (by omega)]; omega⟩, fun i i0 i1 => ?_⟩
    have u := vs.2.2 i i0 i1
    rw [A48 i, B597 i, F 0 41 (by omega) (by omega), ← u.1]
    refine ⟨rfl, ?_⟩
    split <;> omega
  · exact rOB_cg (fun c i h => W c i (by unfold fOB at h; omega) (by unfold fOB at h; omega)) nob
  · exact rVA_cg (fun c i h => W c i (by unfold fVA at h; omega) (by unfold fVA at h; omega)) nva
  · exact rBD_cg (fun c i h => W c i (by unfold fBD at h; omega) (by unfold fBD at h; omega)) nbd
  · exact rTE_cg (fun c i h => W c i (by unfold fTE at h; omega) (by unfold fTE at h; omega)) nte
  · exact rPK_cg (fun c i h => W c i (by unfold fPK at h; omega) (by unfold fPK at h; omega)) npk
  · exact rUS_cg (fun c i h => F c i (by unfold fUS at h; omega) (by unfold fUS at h; omega)) r.US
  · exact rFO_cg (fun c i h => F c i (by unfold fFO at h; omega) (by unfold fFO at h; omega)) r.FO
  · exact rSH_cg (fun c i h => F c i (by unfold fSH at h; omega) (by unfold fSH at h; omega)) r.SH
  · exact rSW_cg (fun c i h => F c i (by unfold fSW at h; omega) (by unfold fSW at h; omega)) r.SW
  · exact HI_0 r G70 G71 G114 G115 (fun i => F 637 i (by omega) (by omega))
  · exact LN_0 G59 G133
  · exact MK_0 G75 G134
  · exact GRz_0 G79 G135
  · exact rTT_cg (fun c i h => F c i (by unfold fTT at h; omega) (by unfold fTT at h; omega)) r.TT
  · exact rMT_cg (fun c i h => F c i (by unfold fMT at h; omega) (by unfold fMT at h; omega)) r.MT
  · exact rSC_cg (fun c i h => F c i (by unfold fSC at h; omega) (by unfold fSC at h; omega)) r.SC
  · exact rQU_cg (fun c i h => F c i (by unfold fQU at h; omega) (by unfold fQU at h; omega)) r.QU
  · exact rKQ_cg (fun c i h => F c i (by unfold fKQ at h; omega) (by unfold fKQ at h; omega)) r.KQ
  · exact rHQ_cg (fun c i h => F c i (by unfold fHQ at h; omega) (by unfold fHQ at h; omega)) r.HQ
  · exact rPP_cg (fun c i h => F c i (by unfold fPP at h; omega) (by unfold fPP at h; omega)) (by rw [hR]) (by rw [hR]) r.PP
  · exact rAN_cg (fun c i h => F c i (by unfold fAN at h; omega) (by unfold fAN at h; omega)) hR hS hN r.AN
  · exact rSE_cg r.SE
end OPR

