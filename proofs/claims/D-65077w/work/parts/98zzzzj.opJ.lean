/-! contracts: printed by tools/mk.py out of s98zzzzj_opJ.py -/
set_option maxRecDepth 100000
set_option maxHeartbeats 3000000
/-! an object more -/
theorem dp_eq {P Q H : Int → Int} {n : Int} (hP : ∀ k, 0 ≤ k → k < n → P k < k) (hQ : ∀ k, 0 ≤ k → k < n → Q k < k) (hH : ∀ k, 0 ≤ k → k < n → H k = 1 → Q k = P k ∧ (0 ≤ P k → H (P k) = 1)) : ∀ (m : Nat) (o : Int), o < m → o < n → (0 ≤ o → H o = 1) → dp Q o = dp P o := by
  intro m
  induction m with
  | zero => intro o h1 h2 _; rw [dp_0 Q o (by omega), dp_0 P o (by omega)]
  | succ m ih =>
    intro o h1 h2 h3
    by_cases q : 0 ≤ o
    · have z := hH o q h2 (h3 q)
      have y := hP o q h2
      rw [dp_s hP o q h2, dp_s hQ o q h2, z.1, ih (P o) (by omega) (by omega) z.2]
    · rw [dp_0 Q o (by omega), dp_0 P o (by omega)]
theorem VA_tk {σ : Sto} (r : rVA σ) (v : Int) (h0 : 0 ≤ v) (h1 : v < σ.I 0 20) : 0 ≤ σ.I 31 v ∧ σ.I 31 v + σ.I 32 v = tkAt σ (v + 1) ∧ tkAt σ (v + 1) ≤ σ.I 0 29 := by
  have z := r.2.2.1 v h0 h1
  have nn : ∀ k, 0 ≤ k → k < σ.I 0 20 → 0 ≤ σ.I 32 k := fun k p0 p1 => (r.2.2.1 k p0 p1).2.2.2.2.1.1
  have a : 0 ≤ smP (fun _ => True) (σ.I 32) v := smP_n0 (fun k p0 p1 => nn k p0 (by omega))
  have e : σ.I 31 v + σ.I 32 v = smP (fun _ => True) (σ.I 32) (v + 1) := by rw [smP_t _ _ v _ h0 rfl trivial, z.2.1]
  have key : ∀ u, 0 ≤ u → u ≤ σ.I 0 20 → smP (fun _ => True) (σ.I 32) u ≤ σ.I 0 29 := by
    rw [r.2.1.2.2.2.1]
    refine up_ind (Int.le_refl _) (fun u p0 p1 ih => ?_)
    rw [smP_t _ _ u _ p0 rfl trivial] at ih
    have := nn u p0 p1
    omega
  have t : tkAt σ (v + 1) = smP (fun _ => True) (σ.I 32) (v + 1) := by
    unfold tkAt
    by_cases q : v + 1 < σ.I 0 20
    · rw [if_pos q, (r.2.2.1 (v + 1) (by omega) q).2.1]
    · rw [if_neg q, r.2.1.2.2.2.1, show σ.I 0 20 = v + 1 by omega]
  exact ⟨by rw [z.2.1]; exact a, e.trans t.symm, by rw [t]; exact key (v + 1) (by omega) (by omega)⟩
theorem VA_VL {k : Nat} {σ : Sto} (r : RR k σ) (a b : Int) (ha : 0 ≤ a) (hb : b ≤ σ.I 0 20) : VL σ a b := by
  intro v h0 h1
  have va := r.VA
  have z := va.2.2.1 v (by omega) (by omega)
  have t := VA_tk va v (by omega) (by omega)
  have x1 := va.1.2.2.2
  have x2 := VA_29 va
  obtain ⟨e1, e2, e3, e4, e5, e6, -⟩ := z.2.2
  refine ⟨⟨t.1, e3.1, e3.2, t.2.1, by omega⟩, e1.2, fun q => ?_, fun j p0 p1 => ?_⟩
  · have w := (e5 q).2.2.2
    refine ⟨w.1.1, w.1.2, ?_⟩
    unfold isWt
    rw [w.2.1]
    exact q
  · by_cases c0 : σ.I 16 (σ.I 26 v) = 0
    · have w := (e4 c0).2 (j - σ.I 31 v) (by omega) (by omega)
      rw [show σ.I 31 v + (j - σ.I 31 v) = j by omega] at w
      refine ⟨w.1.1.1, w.1.1.2, fun q => ?_⟩
      unfold isWt at q
      rw [w.1.2.1] at q
      omega
    · exfalso
      have f := (r.FL.2 (σ.I 26 v) e1.2.1 e1.2.2).2.1
      by_cases c1 : σ.I 16 (σ.I 26 v) = 1
      · have := (e5 c1).2.1; omega
      · have := (e6 (by omega)).2.1; omega
theorem LOX_le {σ : Sto} (r : LOX σ) : ∀ k, 0 ≤ k → k ≤ σ.I 0 39 → ofsX σ k ≤ σ.I 0 31 := by
  refine up_ind (by unfold ofsX; rw [if_neg (by omega)]; omega) (fun k p0 p1 ih => ?_)
  have z := r.2.2.2 k p0 p1
  have e : ofsX σ k = σ.I 42 k := by unfold ofsX; rw [if_pos p1]
  omega
/-- the draft becomes an object -/
theorem OB_add {k : Nat} {σ τ : Sto} {x : Int} (r : RR k σ) (hk : k < 64) (hx : x = -1 ∨ (0 ≤ x ∧ x < σ.I 0 39 ∧ σ.I 47 x = 1 ∧ σ.I 46 x = 2147483647)) (hn : σ.I 0 39 < 600) (h39 : τ.I 0 39 = σ.I 0 39 + 1) (h52 : τ.I 555 52 = σ.I 0 39 + 1) (h41 : τ.I 0 41 = σ.I 0 41)
    (h : ∀ c i, (42 ≤ c ∧ c ≤ 47) ∨ (591 ≤ c ∧ c ≤ 596) → i ≠ σ.I 0 39 → τ.I c i = σ.I c i) (n42 : τ.I 42 (σ.I 0 39) = σ.I 0 31 ∧ τ.I 595 (σ.I 0 39) = σ.I 0 31) (n43 : τ.I 43 (σ.I 0 39) = σ.I 0 20 - σ.I 0 31 ∧ τ.I 596 (σ.I 0 39) = σ.I 0 20 - σ.I 0 31) (n44 : τ.I 44 (σ.I 0 39) = x ∧ τ.I 591 (σ.I 0 39) = x) (n45 : τ.I 45 (σ.I 0 39) = σ.I 0 41 + 1 ∧ τ.I 592 (σ.I 0 39) = σ.I 0 41 + 1) (n46 : τ.I 46 (σ.I 0 39) = 2147483647 ∧ τ.I 593 (σ.I 0 39) = 2147483647) (n47 : τ.I 47 (σ.I 0 39) = 1 ∧ τ.I 594 (σ.I 0 39) = 1) : rOB τ := by
  have ob := r.OB
  have g41 := r.RK.2.2.2.1
  have vs := r.VS.2.1
  have va := r.VA.1.2.1
  obtain ⟨o1, o2, o3, o4, o5, o6⟩ := ob
  refine ⟨by rw [h39, h52]; omega, fun o h0 h1 => ?_, fun j h0 h1 => ?_, fun o h0 h1 => ?_, fun o h0 h1 => ?_, fun o h0 h1 => ?_⟩
  · rw [h39] at h1
    by_cases q : o = σ.I 0 39
    · subst q
      rw [n47.1, n47.2]
      refine ⟨rfl, Or.inr rfl, fun _ => ?_⟩
      unfold hOb
      rw [n42.1, n42.2, n43.1, n43.2, n44.1, n44.2, n45.1, n45.2, n46.1, n46.2, h41]
      refine ⟨⟨rfl, rfl, rfl, rfl, rfl⟩, by omega, Or.inl rfl, fun hx0 => ?_⟩
      have hl : 0 ≤ x ∧ x < σ.I 0 39 ∧ σ.I 47 x = 1 ∧ σ.I 46 x = 2147483647 := by
        rcases hx with e | e
        · omega
        · exact e
      have y := (o2 x hl.1 hl.2.1).2.2 hl.2.2.1
      rw [h 47 x (by omega) (by omega), h 45 x (by omega) (by omega), h 46 x (by omega) (by omega)]
      exact ⟨hl.2.2.1, y.2.1.2.1, by rw [hl.2.2.2]; omega⟩
    · have z := o2 o h0 (by omega)
      rw [h 47 o (by omega) q, h 594 o (by omega) q]
      refine ⟨z.1, z.2.1, fun y => ?_⟩
      have u := z.2.2 y
      have t := o3 o h0 (by omega)
      unfold hOb at u ⊢
      rw [h 44 o (by omega) q, h 591 o (by omega) q, h 45 o (by omega) q, h 592 o (by omega) q, h 46 o (by omega) q, h 593 o (by omega) q, h 42 o (by omega) q, h 595 o (by omega) q, h 43 o (by omega) q, h 596 o (by omega) q, h41]
      refine ⟨u.1, u.2.1, u.2.2.1, fun e => ?_⟩
      rw [h 47 _ (by omega) (by omega), h 45 _ (by omega) (by omega), h 46 _ (by omega) (by omega)]
      exact u.2.2.2 e
  · rw [h39] at h1
    by_cases q : j = σ.I 0 39
    · rw [q, n44.1]; omega
    · rw [h 44 j (by omega) q]; exact o3 j h0 (by omega)
  · by_cases q : o = σ.I 0 39
    · rw [q, n42.1, n43.1]; omega
    · rw [h 42 o (by omega) q, h 43 o (by omega) q]; exact o4 o h0 h1
  · by_cases q : o = σ.I 0 39
    · rw [q, n42.2, n43.2]; omega
    · rw [h 595 o (by omega) q, h 596 o (by omega) q]; exact o5 o h0 h1
  · by_cases q : o = σ.I 0 39
    · rw [q, n44.2]; omega
    · rw [h 591 o (by omega) q]; exact o6 o h0 h1

