/-! contracts: printed by tools/mk.py out of s98zzzzl_disc.py -/
set_option maxRecDepth 100000
set_option maxHeartbeats 1200000
/-! the draft goes: plain -/
theorem cn_sum {p : Int → Prop} {a : Int} (ha : 0 ≤ a) : ∀ b : Nat, cn p (a + b) = cn p a + cn (fun j => p (a + j)) b := by
  intro b
  induction b with
  | zero => rw [cn_0 _ ((0 : Nat) : Int) (by omega)]; simp
  | succ b ih =>
    rw [cn_s p (a + b) (a + ((b + 1 : Nat) : Int)) (by omega) (by omega), ih, cn_s (fun j => p (a + j)) (b : Int) ((b + 1 : Nat) : Int) (by omega) (by omega)]
    omega
theorem VA_e582 {σ : Sto} (r : rVA σ) (fl : rFL σ) : ∀ v : Nat, (v : Int) ≤ σ.I 0 20 → σ.I 582 v = smP (fun _ => True) (σ.I 32) v + cn (isWv σ) v := by
  intro v
  induction v with
  | zero =>
    intro _
    rw [smP_0 _ _ _ (by omega), cn_0 _ _ (by omega)]
    exact r.2.1.1
  | succ v ih =>
    intro h
    have i := ih (by omega)
    have z := (r.2.2.1 v (by omega) (by omega)).2.2
    have f := (fl.2 (σ.I 26 v) z.1.2.1 z.1.2.2).2.1
    rw [smP_t _ _ (v : Int) ((v + 1 : Nat) : Int) (by omega) (by omega) trivial, cn_s _ (v : Int) ((v + 1 : Nat) : Int) (by omega) (by omega)]
    obtain ⟨-, -, z3, z4, z5, z6, -⟩ := z
    have e : ((v + 1 : Nat) : Int) = (v : Int) + 1 := by omega
    rw [e]
    by_cases c0 : σ.I 16 (σ.I 26 v) = 0
    · have := (z4 c0).1
      rw [zb_f (show ¬ isWv σ v from fun q => by unfold isWv at q; omega)]
      omega
    by_cases c1 : σ.I 16 (σ.I 26 v) = 1
    · have q1 := (z5 c1).1
      have q2 := (z5 c1).2.1
      rw [zb_t (show isWv σ v from c1)]
      omega
    have q1 := (z6 (by omega)).1
    have q2 := (z6 (by omega)).2.1
    rw [zb_f (show ¬ isWv σ v from fun q => c1 q)]
    omega
/-- a value that is in stays when the draft's terms go -/
theorem vaE_dr {σ τ : Sto} {v : Int} (h9 : τ.I 0 9 = σ.I 0 9) (h16 : τ.I 16 = σ.I 16) (hv : ∀ c, cVA c → τ.I c = σ.I c) (h1 : τ.I 582 v = σ.I 582 v) (h2 : τ.I 582 (v + 1) = σ.I 582 (v + 1)) (h3 : τ.I 584 = σ.I 584) (ht : ∀ c, cTK c → τ.I c = σ.I c) (h7 : τ.I 18 7 = σ.I 0 32) (dt : (σ.I 16 (σ.I 26 v) = 1 → σ.I 33 v < σ.I 0 32) ∧ ∀ i, 0 ≤ i → i < σ.I 32 v → σ.I 36 (σ.I 31 v + i) < σ.I 0 32) (e : vaE σ v) : vaE τ v := by
  have t36 := ht 36 (by unfold cTK; omega)
  have v33 := hv 33 (by unfold cVA; omega)
  obtain ⟨e1, e2, e3, e4, e5, e6, e7, e8, e9⟩ := e
  unfold vaE
  rw [hv 26 (by unfold cVA; omega), hv 28 (by unfold cVA; omega), hv 29 (by unfold cVA; omega), hv 30 (by unfold cVA; omega), hv 31 (by unfold cVA; omega), hv 32 (by unfold cVA; omega), hv 579 (by unfold cVA; omega), hv 580 (by unfold cVA; omega), hv 581 (by unfold cVA; omega), hv 583 (by unfold cVA; omega), h1, h2, h16, h9, h3]
  refine ⟨e1, e2, e3, fun q => ⟨(e4 q).1, fun j p0 p1 => ?_⟩, fun q => ⟨(e5 q).1, (e5 q).2.1, (e5 q).2.2.1, ?_⟩, e6, e7, e8, e9⟩
  · have z := (e4 q).2 j p0 p1
    have y := dt.2 j p0 p1
    unfold tkE at z ⊢
    rw [ht 19 (by unfold cTK; omega), ht 20 (by unfold cTK; omega), ht 21 (by unfold cTK; omega), t36, ht 38 (by unfold cTK; omega), ht 39 (by unfold cTK; omega), ht 40 (by unfold cTK; omega), ht 41 (by unfold cTK; omega), ht 586 (by unfold cTK; omega), ht 587 (by unfold cTK; omega), ht 588 (by unfold cTK; omega), ht 589 (by unfold cTK; omega), ht 590 (by unfold cTK; omega), h7]
    exact ⟨⟨⟨z.1.1.1, y⟩, z.1.2⟩, z.2⟩
  · have z := (e5 q).2.2.2
    have y := dt.1 q
    unfold wdE at z ⊢
    rw [ht 19 (by unfold cTK; omega), ht 20 (by unfold cTK; omega), ht 21 (by unfold cTK; omega), ht 586 (by unfold cTK; omega), ht 587 (by unfold cTK; omega), h7, v33, hv 26 (by unfold cVA; omega)]
    exact ⟨⟨z.1.1, y⟩, z.2⟩

