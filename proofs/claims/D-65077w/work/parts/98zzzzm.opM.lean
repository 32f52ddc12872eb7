/-! contracts: printed by tools/mk.py out of s98zzzzm_opM.py -/
set_option maxRecDepth 100000
set_option maxHeartbeats 3000000
/-! the draft goes -/
theorem smP_lq {f : Int → Int} {n : Int} (h : ∀ k, 0 ≤ k → k < n → 0 ≤ f k) : ∀ u, 0 ≤ u → u ≤ n → smP (fun _ => True) f u ≤ smP (fun _ => True) f n := by
  refine up_ind (Int.le_refl _) (fun u p0 p1 ih => ?_)
  rw [smP_t _ _ u _ p0 rfl trivial] at ih
  have := h u p0 p1
  omega
theorem VA_dis {σ τ : Sto} (r : rVA σ) (fl : rFL σ) (te : rTE σ) (h20 : τ.I 0 20 = σ.I 0 31) (h31 : τ.I 0 31 = σ.I 0 31) (h30 : τ.I 555 30 = σ.I 0 31) (h45 : τ.I 555 45 = σ.I 0 31) (g22 : τ.I 0 22 = smP (fun _ => True) (σ.I 29) (σ.I 0 31)) (g29 : τ.I 0 29 = smP (fun _ => True) (σ.I 32) (σ.I 0 31)) (g30 : τ.I 0 30 = cn (isWv σ) (σ.I 0 31)) (m38 : τ.I 555 38 = τ.I 0 22) (m44 : τ.I 555 44 = τ.I 0 29 + τ.I 0 30) (g582 : ∀ i, i ≤ σ.I 0 31 → τ.I 582 i = σ.I 582 i)
    (h9 : τ.I 0 9 = σ.I 0 9) (h16 : τ.I 16 = σ.I 16) (hv : ∀ c, cVA c → τ.I c = σ.I c) (h3 : τ.I 584 = σ.I 584) (ht : ∀ c, cTK c → τ.I c = σ.I c) (h7 : τ.I 18 7 = σ.I 0 32) (h35 : τ.I 35 = σ.I 35) (h585 : τ.I 585 = σ.I 585) : rVA τ := by
  have dr := r.1.2.1
  have a6 := r.1.2.2.1
  have a7 := r.1.2.2.2
  have m := smP_lq (f := σ.I 29) (n := σ.I 0 20) (fun k p0 p1 => (r.2.2.1 k p0 p1).2.2.2.1.2.2.1) (σ.I 0 31) dr.1 dr.2.1
  rw [← r.2.1.2.2.1] at m
  have e5 := VA_e582 r fl (σ.I 0 31).toNat (by omega)
  rw [show (((σ.I 0 31).toNat : Nat) : Int) = σ.I 0 31 by omega] at e5
  have b5 := VA_582 r fl (σ.I 0 31) dr.1 dr.2.1
  have w : isWv τ = isWv σ := by funext v; unfold isWv; rw [h16, hv 26 (by unfold cVA; omega)]
  have f29 := hv 29 (by unfold cVA; omega)
  have f32 := hv 32 (by unfold cVA; omega)
  refine ⟨⟨⟨by omega, by omega, by omega, by omega⟩, by omega, by omega, by omega⟩, ⟨?_, ?_, ?_, ?_, ?_⟩, fun v p0 p1 => ?_, fun i p0 p1 => ?_⟩
  · rw [g582 0 dr.1]; exact r.2.1.1
  · rw [h30, g582 _ (Int.le_refl _)]; omega
  · rw [h20, f29]; exact g22
  · rw [h20, f32]; exact g29
  · rw [h20, w]; exact g30
  · rw [h20] at p1
    have z := r.2.2.1 v p0 (by omega)
    rw [f29, f32, hv 28 (by unfold cVA; omega), hv 31 (by unfold cVA; omega)]
    exact ⟨z.1, z.2.1, vaE_dr h9 h16 hv (g582 v (by omega)) (g582 (v + 1) (by omega)) h3 ht h7 (te.2.2.2.1.2 v p0 p1) z.2.2⟩
  · rw [h35, h585]
    exact r.2.2.2 i p0 (by omega)
theorem TE_dis {σ τ : Sto} (r : rTE σ) (va : rVA σ) (tc : TC τ) (h20 : τ.I 0 20 = σ.I 0 31) (h31 : τ.I 0 31 = σ.I 0 31) (h32 : τ.I 0 32 = σ.I 0 32) (h9 : τ.I 0 9 = σ.I 0 9) (g29 : τ.I 0 29 = smP (fun _ => True) (σ.I 32) (σ.I 0 31)) (g30 : τ.I 0 30 = cn (isWv σ) (σ.I 0 31)) (hc : ∀ c, c = 16 ∨ c = 19 ∨ c = 20 ∨ c = 21 ∨ c = 22 ∨ c = 23 ∨ c = 26 ∨ c = 31 ∨ c = 32 ∨ c = 33 ∨ c = 34 ∨ c = 36 ∨ c = 37 → τ.I c = σ.I c) (h7 : τ.I 18 7 = σ.I 0 32) : rTE τ := by
  obtain ⟨⟨-, r2⟩, r3, r4, r5, r6, r7, r8⟩ := r
  have dr := va.1.2.1
  have wv : isWv τ = isWv σ := by funext v; unfold isWv; rw [hc 16 (by omega), hc 26 (by omega)]
  have wt : isWt τ = isWt σ := by funext v; unfold isWt; rw [hc 16 (by omega), hc 20 (by omega)]
  have tq : tkQ τ = tkQ σ := by funext a b; unfold tkQ; rw [hc 36 (by omega)]
  have wq : wkQ τ = wkQ σ := by funext a b; unfold wkQ; rw [hc 16 (by omega), hc 26 (by omega), hc 33 (by omega)]
  have t : tkAt τ (σ.I 0 31) = tkAt σ (σ.I 0 31) := by
    unfold tkAt
    rw [h20, if_neg (by omega), g29]
    by_cases q : σ.I 0 31 < σ.I 0 20
    · rw [if_pos q, (va.2.2.1 _ dr.1 q).2.1]
    · rw [if_neg q, va.2.1.2.2.2.1, show σ.I 0 20 = σ.I 0 31 by omega]
  refine ⟨⟨tc, fun s u h0 h1 h2 => ?_⟩, ?_, ?_, ?_, fun s h0 h1 => ?_, ?_, ?_⟩
  · rw [h7] at h2
    rw [hc 19 (by omega), hc 20 (by omega), hc 21 (by omega)]
    exact r2 s u h0 h1 (by omega)
  · rw [h7, g29, g30]; omega
  · rw [h32, h7, h31, hc 32 (by omega), wv]; omega
  · unfold DTX at r5 ⊢
    rw [h32, h7, h31, hc 16 (by omega), hc 26 (by omega), hc 33 (by omega), hc 32 (by omega), hc 31 (by omega), hc 36 (by omega)]
    exact ⟨Int.le_refl _, r5.2⟩
  · rw [h7] at h1
    rw [hc 20 (by omega), h9]
    exact r6 s h0 (by omega)
  · rw [h31, t]
    unfold PT at r7 ⊢
    rw [h7, wt, tq, hc 22 (by omega), hc 23 (by omega), hc 36 (by omega), hc 37 (by omega)]
    exact ⟨fun s h0 h1 hh => r7.1 s h0 (by omega) hh, r7.2⟩
  · rw [h31]
    unfold PW at r8 ⊢
    rw [h7, wt, wq, hc 16 (by omega), hc 22 (by omega), hc 23 (by omega), hc 26 (by omega), hc 33 (by omega), hc 34 (by omega)]
    exact ⟨fun s h0 h1 hh => r8.1 s h0 (by omega) hh, r8.2⟩
theorem PK_dis {σ τ : Sto} (r : rPK σ) (h20 : τ.I 0 20 = σ.I 0 31) (h31 : τ.I 0 31 = σ.I 0 31) (h39 : τ.I 0 39 = σ.I 0 39) (hc : ∀ c, c = 27 ∨ c = 42 ∨ c = 43 ∨ c = 47 → τ.I c = σ.I c) : rPK τ := by
  obtain ⟨⟨a, b, c, d⟩, r2, r3⟩ := r
  refine ⟨⟨by rw [h39]; exact a, by rw [h31, h20]; omega, ?_, fun k h0 h1 => ?_⟩, ?_, ?_⟩
  · unfold ofsX at c ⊢
    rw [h39, hc 42 (by omega), h31]
    exact c
  · rw [h39] at h1
    have z := d k h0 h1
    unfold ofsX at z ⊢
    rw [h39, hc 42 (by omega), h31, hc 43 (by omega)]
    exact z
  · rw [h39, hc 47 (by omega), hc 43 (by omega), hc 42 (by omega), hc 27 (by omega)]
    exact r2
  · rw [hc 27 (by omega)]
    exact r3

