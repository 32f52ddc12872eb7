/-! contracts: printed by tools/mk.py out of s98zzzzf_val.py -/
set_option maxRecDepth 100000
set_option maxHeartbeats 1200000
/-! values: what of the relation goes on when values come or go -/
def cVA (c : Nat) : Prop := c = 26 ∨ c = 28 ∨ c = 29 ∨ c = 30 ∨ c = 31 ∨ c = 32 ∨ c = 33 ∨ c = 579 ∨ c = 580 ∨ c = 581 ∨ c = 583
def cTK (c : Nat) : Prop := c = 19 ∨ c = 20 ∨ c = 21 ∨ c = 36 ∨ c = 38 ∨ c = 39 ∨ c = 40 ∨ c = 41 ∨ c = 586 ∨ c = 587 ∨ c = 588 ∨ c = 589 ∨ c = 590
theorem vaE_cg {σ τ : Sto} {v : Int} (h9 : σ.I 0 9 ≤ τ.I 0 9) (h16 : τ.I 16 (σ.I 26 v) = σ.I 16 (σ.I 26 v)) (hv : ∀ c, cVA c → τ.I c v = σ.I c v) (h1 : τ.I 582 v = σ.I 582 v) (h2 : τ.I 582 (v + 1) = σ.I 582 (v + 1)) (h3 : ∀ j, 0 ≤ j → j < 4 → τ.I 584 (4 * v + j) = σ.I 584 (4 * v + j)) (ht : ∀ c, cTK c → τ.I c = σ.I c) (h7 : τ.I 18 7 = σ.I 18 7) (e : vaE σ v) : vaE τ v := by
  have v26 : τ.I 26 v = σ.I 26 v := hv 26 (by unfold cVA; omega)
  have v28 : τ.I 28 v = σ.I 28 v := hv 28 (by unfold cVA; omega)
  have v29 : τ.I 29 v = σ.I 29 v := hv 29 (by unfold cVA; omega)
  have v30 : τ.I 30 v = σ.I 30 v := hv 30 (by unfold cVA; omega)
  have v31 : τ.I 31 v = σ.I 31 v := hv 31 (by unfold cVA; omega)
  have v32 : τ.I 32 v = σ.I 32 v := hv 32 (by unfold cVA; omega)
  have v33 : τ.I 33 v = σ.I 33 v := hv 33 (by unfold cVA; omega)
  have v579 : τ.I 579 v = σ.I 579 v := hv 579 (by unfold cVA; omega)
  have v580 : τ.I 580 v = σ.I 580 v := hv 580 (by unfold cVA; omega)
  have v581 : τ.I 581 v = σ.I 581 v := hv 581 (by unfold cVA; omega)
  have v583 : τ.I 583 v = σ.I 583 v := hv 583 (by unfold cVA; omega)
  have t19 : τ.I 19 = σ.I 19 := ht 19 (by unfold cTK; omega)
  have t20 : τ.I 20 = σ.I 20 := ht 20 (by unfold cTK; omega)
  have t21 : τ.I 21 = σ.I 21 := ht 21 (by unfold cTK; omega)
  have t36 : τ.I 36 = σ.I 36 := ht 36 (by unfold cTK; omega)
  have t38 : τ.I 38 = σ.I 38 := ht 38 (by unfold cTK; omega)
  have t39 : τ.I 39 = σ.I 39 := ht 39 (by unfold cTK; omega)
  have t40 : τ.I 40 = σ.I 40 := ht 40 (by unfold cTK; omega)
  have t41 : τ.I 41 = σ.I 41 := ht 41 (by unfold cTK; omega)
  have t586 : τ.I 586 = σ.I 586 := ht 586 (by unfold cTK; omega)
  have t587 : τ.I 587 = σ.I 587 := ht 587 (by unfold cTK; omega)
  have t588 : τ.I 588 = σ.I 588 := ht 588 (by unfold cTK; omega)
  have t589 : τ.I 589 = σ.I 589 := ht 589 (by unfold cTK; omega)
  have t590 : τ.I 590 = σ.I 590 := ht 590 (by unfold cTK; omega)
  have b0 := h3 0 (by omega) (by omega)
  have b1 := h3 1 (by omega) (by omega)
  have b2 := h3 2 (by omega) (by omega)
  have b3 := h3 3 (by omega) (by omega)
  rw [Int.add_zero] at b0
  obtain ⟨e1, e2, e3, e4, e5, e6, e7, e8, e9⟩ := e
  unfold vaE
  rw [v26, v28, v29, v30, v31, v32, v579, v580, v581, v583, h1, h2, h16, b0, b1, b2, b3]
  refine ⟨⟨e1.1, e1.2.1, by have := e1.2.2; omega⟩, e2, e3, fun q => ⟨(e4 q).1, fun j p0 p1 => ?_⟩, fun q => ⟨(e5 q).1, (e5 q).2.1, (e5 q).2.2.1, ?_⟩, e6, e7, e8, fun q => ⟨(e9 q).1, fun j p0 p1 => ?_⟩⟩
  · have z := (e4 q).2 j p0 p1
    unfold tkE at z ⊢
    rw [t19, t20, t21, t36, t38, t39, t40, t41, t586, t587, t588, t589, t590, h7]
    exact z
  · have z := (e5 q).2.2.2
    unfold wdE at z ⊢
    rw [t19, t20, t21, t586, t587, h7, v33, v26]
    exact z
  · rw [h3 j p0 p1]
    exact (e9 q).2 j p0 p1
/-- a value more that is no text -/
theorem VA_pl {σ τ : Sto} (r : rVA σ) (h20 : τ.I 0 20 = σ.I 0 20 + 1) (h30 : τ.I 555 30 = σ.I 0 20 + 1) (hF : ∀ i, i = 9 ∨ i = 22 ∨ i = 29 ∨ i = 30 ∨ i = 31 → τ.I 0 i = σ.I 0 i) (hM : ∀ i, i = 38 ∨ i = 44 ∨ i = 45 → τ.I 555 i = σ.I 555 i) (h16 : τ.I 16 = σ.I 16) (hd : σ.I 0 20 < 6000 ∧ σ.I 0 20 - σ.I 0 31 < 24)
    (hv : ∀ c i, cVA c → i < σ.I 0 20 → τ.I c i = σ.I c i) (h1 : ∀ i, i ≤ σ.I 0 20 → τ.I 582 i = σ.I 582 i) (h3 : ∀ i, i < 4 * σ.I 0 20 → τ.I 584 i = σ.I 584 i) (ht : ∀ c, cTK c → τ.I c = σ.I c) (h7 : τ.I 18 7 = σ.I 18 7) (h35 : τ.I 35 = σ.I 35) (h585 : τ.I 585 = σ.I 585)
    (n1 : τ.I 28 (σ.I 0 20) = σ.I 0 22 ∧ τ.I 29 (σ.I 0 20) = 0 ∧ τ.I 31 (σ.I 0 20) = σ.I 0 29 ∧ τ.I 32 (σ.I 0 20) = 0) (n2 : τ.I 582 (σ.I 0 20 + 1) = σ.I 555 44) (nk : 2 ≤ σ.I 16 (τ.I 26 (σ.I 0 20))) (nv : vaE τ (σ.I 0 20)) : rVA τ := by
  obtain ⟨⟨⟨a1, a2, a3, a4⟩, a5, a6, a7⟩, ⟨b1, b2, b3, b4, b5⟩, c, d⟩ := r
  have e9 := hF 9 (by omega)
  have e22 := hF 22 (by omega)
  have e29 := hF 29 (by omega)
  have e30 := hF 30 (by omega)
  have e31 := hF 31 (by omega)
  have m38 := hM 38 (by omega)
  have m44 := hM 44 (by omega)
  have m45 := hM 45 (by omega)
  have s29 : ∀ v, v ≤ σ.I 0 20 → smP (fun _ => True) (τ.I 29) v = smP (fun _ => True) (σ.I 29) v := fun v hh => smP_cg (fun _ _ _ => Iff.rfl) (fun k p0 p1 _ => hv 29 k (by unfold cVA; omega) (by omega))
  have s32 : ∀ v, v ≤ σ.I 0 20 → smP (fun _ => True) (τ.I 32) v = smP (fun _ => True) (σ.I 32) v := fun v hh => smP_cg (fun _ _ _ => Iff.rfl) (fun k p0 p1 _ => hv 32 k (by unfold cVA; omega) (by omega))
  have w : cn (isWv τ) (σ.I 0 20) = cn (isWv σ) (σ.I 0 20) := cn_cg (fun k p0 p1 => by unfold isWv; rw [h16, hv 26 k (by unfold cVA; omega) p1])
  have nz : 0 ≤ σ.I 0 20 := by omega
  refine ⟨⟨⟨by omega, by omega, by omega, by omega⟩, by omega, by omega, by omega⟩, ⟨?_, ?_, ?_, ?_, ?_⟩, fun v p0 p1 => ?_, ?_⟩
  · rw [h1 0 nz]; exact b1
  · rw [h30, n2, m44]
  · rw [e22, h20, smP_t _ _ (σ.I 0 20) _ nz rfl trivial, s29 _ (by omega), n1.2.1, Int.add_zero]; exact b3
  · rw [e29, h20, smP_t _ _ (σ.I 0 20) _ nz rfl trivial, s32 _ (by omega), n1.2.2.2, Int.add_zero]; exact b4
  · rw [e30, h20, cn_s _ (σ.I 0 20) _ nz rfl, w, zb_f (show ¬ isWv τ (σ.I 0 20) from fun z => by unfold isWv at z; rw [h16] at z; omega), Int.add_zero]; exact b5
  · rw [h20] at p1
    by_cases q : v = σ.I 0 20
    · subst q
      rw [s29 _ (by omega), s32 _ (by omega), n1.1, n1.2.2.1]
      exact ⟨b3, b4, nv⟩
    · have z := c v p0 (by omega)
      rw [s29 v (by omega), s32 v (by omega), hv 28 v (by unfold cVA; omega) (by omega), hv 31 v (by unfold cVA; omega) (by omega)]
      refine ⟨z.1, z.2.1, vaE_cg (by omega) (by rw [h16]) (fun c hc => hv c v hc (by omega)) (h1 v (by omega)) (h1 (v + 1) (by omega)) (fun j q0 q1 => h3 _ (by omega)) ht h7 z.2.2⟩
  · rw [e22, h35, h585]
    exact d

