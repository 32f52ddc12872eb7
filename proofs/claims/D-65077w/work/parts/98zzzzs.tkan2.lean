/-! contracts: printed by tools/mk.py out of s98zzzzs_tkan2.py -/
set_option maxRecDepth 100000
set_option maxHeartbeats 1200000
/-! the tokens of an analyser of the program are those of the model's -/
theorem tk_AN {σ : Sto} {o : Nat} {k : Int} (hk : 0 ≤ k ∧ k < 6) (ac : AC σ) (h : anE σ o k) : tk (anS σ o) 0 = tk σ k := by
  obtain ⟨⟨a1, a2, a3⟩, ⟨b1, b2⟩, ⟨c1, c2⟩, d⟩ := h
  have n1 := ac.2.2.2.1 k hk.1 hk.2
  have n2 := ac.2.2.2.2.1 k hk.1 hk.2
  have z : ∀ t, 0 ≤ t → t < 360 → 0 ≤ σ.I 564 t ∧ σ.I 564 t ≤ 20 := ac.2.2.2.2.2
  have f4 : ∀ i, (anS σ o).I 564 i = if i < 20 then σ.I (o + 3) i else if i % 2 = 0 then σ.I (o + 6) ((i - 20) / 2) else σ.I (o + 9) ((i - 20) / 2) := fun i => rfl
  have f3 : ∀ i, (anS σ o).I 563 i = if i < 400 then σ.I (o + 2) i else if i / 20 % 2 = 0 then σ.I (o + 5) (20 * ((i / 20 - 20) / 2) + i % 20) else σ.I (o + 8) (20 * ((i / 20 - 20) / 2) + i % 20) := fun i => rfl
  refine tk_an a1 a2 a3 b1 c1 (fun j p0 p1 => ?_) (fun j p0 p1 => ?_)
  · have q := b2 j p0 p1
    have y := z (60 * k + j) (by omega) (by omega)
    refine ⟨?_, fun t q0 q1 => ?_⟩
    · rw [f4, if_pos (by omega), show 60 * 0 + j = j by omega]
      exact q.1
    · rw [f3, if_pos (by omega), show 20 * (60 * 0 + j) + t = 20 * j + t by omega]
      exact q.2 t q0 (by omega)
  · have q := d j p0 p1
    have y1 := z (60 * k + 20 + 2 * j) (by omega) (by omega)
    have y2 := z (60 * k + 20 + 2 * j + 1) (by omega) (by omega)
    refine ⟨⟨?_, fun t q0 q1 => ?_⟩, ?_, fun t q0 q1 => ?_⟩
    · rw [f4, if_neg (by omega), if_pos (by omega), show (60 * 0 + 20 + 2 * j - 20) / 2 = j by omega]
      exact q.1.1
    · rw [f3, if_neg (by omega), if_pos (by omega), show 20 * (((20 * (60 * 0 + 20 + 2 * j) + t) / 20 - 20) / 2) + (20 * (60 * 0 + 20 + 2 * j) + t) % 20 = 20 * j + t by omega]
      exact q.1.2 t q0 (by omega)
    · rw [f4, if_neg (by omega), if_neg (by omega), show (60 * 0 + 20 + 2 * j + 1 - 20) / 2 = j by omega]
      exact q.2.1
    · rw [f3, if_neg (by omega), if_neg (by omega), show 20 * (((20 * (60 * 0 + 20 + 2 * j + 1) + t) / 20 - 20) / 2) + (20 * (60 * 0 + 20 + 2 * j + 1) + t) % 20 = 20 * j + t by omega]
      exact q.2.2 t q0 (by omega)

