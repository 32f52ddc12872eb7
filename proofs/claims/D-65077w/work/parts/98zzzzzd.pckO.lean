/-! contracts: printed by tools/mk.py out of s98zzzzzd_pckO.py -/
set_option maxRecDepth 100000
set_option maxHeartbeats 2000000
/-! objects and bounds behind the packing -/
theorem sm_kp {p : Int → Prop} {g : Int → Int} {i : Int} (i0 : 0 ≤ i) : ∀ x : Nat, i < smP p g x → ∃ u, 0 ≤ u ∧ u < (x : Int) ∧ p u ∧ smP p g u ≤ i ∧ i < smP p g u + g u := by
  intro x
  induction x with
  | zero => intro h; rw [smP_0 _ _ _ (by omega)] at h; omega
  | succ x ih =>
    intro h
    by_cases q : i < smP p g x
    · obtain ⟨u, a, b, c⟩ := ih q
      exact ⟨u, a, by omega, c⟩
    · by_cases kx : p x
      · rw [smP_t _ _ (x : Int) _ (by omega) (by omega) kx] at h
        exact ⟨x, by omega, by omega, kx, by omega, h⟩
      · rw [smP_f _ _ (x : Int) _ (by omega) (by omega) kx] at h
        omega
section PKO
variable {κ τ : Sto}
theorem nX_run (lo : LOX κ) {k : Int} (k0 : 0 ≤ k) (k1 : k < κ.I 0 39) : ∀ j : Nat, (j : Int) ≤ κ.I 43 k → nX κ (κ.I 42 k + j) = nX κ (κ.I 42 k) + (if κ.I 47 k ≠ 0 then (j : Int) else 0) := by
  have lk := lo.2.2.2 k k0 k1
  have b0 := (ofs_b lo k0).1
  rw [ofs_lt k1] at b0
  intro j
  induction j with
  | zero =>
    intro _
    rw [show κ.I 42 k + ((0 : Nat) : Int) = κ.I 42 k by omega]
    split <;> omega
  | succ j ih =>
    intro hj
    have i := ih (by omega)
    have kh := kp_h lo k0 k1 (v := κ.I 42 k + j) (by omega) (by omega)
    have s : nX κ (κ.I 42 k + ((j + 1 : Nat) : Int)) = nX κ (κ.I 42 k + j) + zb (kpX κ (κ.I 42 k + j)) := by
      unfold nX
      exact cn_s _ (κ.I 42 k + j) _ (by omega) (by omega)
    rw [s, i]
    by_cases q : κ.I 47 k ≠ 0
    · rw [zb_t (kh.mpr q), if_pos q, if_pos q]; omega
    · rw [zb_f (fun z => q (kh.mp z)), if_neg q, if_neg q]; omega
theorem nX_le (x : Int) (h : 0 ≤ x) : 0 ≤ nX κ x ∧ nX κ x ≤ x := by
  have := cn_in (kpX κ) x
  unfold nX
  omega
theorem ofs_pk (h39 : τ.I 0 39 = κ.I 0 39) (hX : ∀ j, 0 ≤ j → j < κ.I 0 39 → τ.I 42 j = nX κ (κ.I 42 j)) (h31 : τ.I 0 31 = nX κ (κ.I 0 31)) (k : Int) (k0 : 0 ≤ k) : ofsX τ k = nX κ (ofsX κ k) := by
  unfold ofsX
  rw [h39]
  by_cases q : k < κ.I 0 39
  · rw [if_pos q, if_pos q, hX k k0 q]
  · rw [if_neg q, if_neg q, h31]
theorem OB_pk (ob : rOB κ) (va : rVA κ) (fl : rFL κ) (kpE : ∀ v, 0 ≤ v → v < κ.I 0 20 → (kpV κ v ↔ kpX κ v)) (py : PKY κ τ) (lo : LOX κ) (hX : ∀ j, 0 ≤ j → j < κ.I 0 39 → τ.I 42 j = nX κ (κ.I 42 j) ∧ τ.I 43 j = if κ.I 47 j ≠ 0 then κ.I 43 j else 0) (hX2 : ∀ c j, c = 42 ∨ c = 43 → κ.I 0 39 ≤ j → τ.I c j = κ.I c j)
    (hM : ∀ j, 0 ≤ j → j < κ.I 0 39 → κ.I 594 j ≠ 0 → τ.I 595 j = nM κ (κ.I 595 j)) (hM2 : ∀ j, ¬ ((0 ≤ j ∧ j < κ.I 0 39) ∧ κ.I 594 j ≠ 0) → τ.I 595 j = κ.I 595 j) (h596 : τ.I 596 = κ.I 596) (hc : ∀ c, c = 44 ∨ c = 45 ∨ c = 46 ∨ c = 47 ∨ c = 591 ∨ c = 592 ∨ c = 593 ∨ c = 594 → τ.I c = κ.I c) (h39 : τ.I 0 39 = κ.I 0 39) (h52 : τ.I 555 52 = κ.I 555 52) (h41 : τ.I 0 41 = κ.I 0 41) : rOB τ := by
  obtain ⟨r1, r2, r3, r4, r5, r6⟩ := ob
  have dr := va.1.2.1
  have rng : ∀ o, 0 ≤ o → o < κ.I 0 39 → 0 ≤ κ.I 42 o ∧ κ.I 42 o ≤ κ.I 0 20 := fun o o0 o1 => by
    have z := ofs_b lo o0
    rw [ofs_lt o1] at z
    omega
  refine ⟨by rw [h39, h52]; exact r1, fun o o0 o1 => ?_, fun k k0 k1 => ?_, fun o o0 o1 => ?_, fun o o0 o1 => ?_, fun o o0 o1 => ?_⟩
  · rw [h39] at o1
    have z := r2 o o0 o1
    rw [hc 47 (by omega), hc 594 (by omega)]
    refine ⟨z.1, z.2.1, fun q => ?_⟩
    have w := z.2.2 q
    have x := hX o o0 o1
    rw [if_pos (by omega)] at x
    have y := hM o o0 o1 (by omega)
    have e := (PK_at va fl kpE py (κ.I 42 o) (rng o o0 o1).1 (rng o o0 o1).2).1.1
    unfold hOb at w ⊢
    rw [hc 44 (by omega), hc 45 (by omega), hc 46 (by omega), hc 47 (by omega), hc 591 (by omega), hc 592 (by omega), hc 593 (by omega), x.1, x.2, y, h596, h41, ← w.1.2.2.2.1, e]
    exact ⟨⟨w.1.1, w.1.2.1, w.1.2.2.1, rfl, w.1.2.2.2.2⟩, w.2⟩
  · rw [h39] at k1
    rw [hc 44 (by omega)]
    exact r3 k k0 k1
  · have z := r4 o o0 o1
    by_cases q : o < κ.I 0 39
    · have x := hX o o0 q
      have le := nX_le (κ := κ) (κ.I 42 o) z.1
      rw [x.1, x.2]
      split <;> omega
    · rw [hX2 42 o (by omega) (by omega), hX2 43 o (by omega) (by omega)]
      exact z
  · have z := r5 o o0 o1
    rw [h596]
    by_cases q : (0 ≤ o ∧ o < κ.I 0 39) ∧ κ.I 594 o ≠ 0
    · have e := r2 o o0 q.1.2
      have w := (e.2.2 (by omega)).1
      have f := (PK_at va fl kpE py (κ.I 42 o) (rng o o0 q.1.2).1 (rng o o0 q.1.2).2).1.1
      have le := nX_le (κ := κ) (κ.I 42 o) (rng o o0 q.1.2).1
      rw [hM o o0 q.1.2 q.2, ← w.2.2.2.1, f]
      omega
    · rw [hM2 o q]
      exact z
  · rw [hc 591 (by omega)]
    exact r6 o o0 o1
theorem PK_pk (lo : LOX κ) (o27 : ∀ o, 0 ≤ o → o < κ.I 0 39 → ∀ j, 0 ≤ j → j < κ.I 43 o → κ.I 27 (κ.I 42 o + j) = o) (b27 : ∀ v, 0 ≤ v → v < 6000 → 0 ≤ κ.I 27 v ∧ κ.I 27 v < 600) (n6 : κ.I 0 20 ≤ 6000) (h20 : τ.I 0 20 = nX κ (κ.I 0 20)) (h31 : τ.I 0 31 = nX κ (κ.I 0 31)) (h39 : τ.I 0 39 = κ.I 0 39) (h47 : τ.I 47 = κ.I 47)
    (hX : ∀ j, 0 ≤ j → j < κ.I 0 39 → τ.I 42 j = nX κ (κ.I 42 j) ∧ τ.I 43 j = if κ.I 47 j ≠ 0 then κ.I 43 j else 0) (h27 : ∀ u, 0 ≤ u → u < κ.I 0 20 → kpX κ u → τ.I 27 (nX κ u) = κ.I 27 u) (g27 : ∀ i, nX κ (κ.I 0 20) ≤ i → τ.I 27 i = κ.I 27 i) : rPK τ := by
  have dr := lo.2.1
  have op := ofs_pk h39 (fun j a b => (hX j a b).1) h31
  refine ⟨⟨by rw [h39]; exact lo.1, ?_, ?_, fun k k0 k1 => ?_⟩, fun o o0 o1 => ?_, fun v v0 v1 => ?_⟩
  · rw [h31, h20]
    exact ⟨(nX_le _ dr.1).1, cn_mo dr.1 dr.2⟩
  · rw [op 0 (Int.le_refl _), lo.2.2.1]
    exact cn_0 _ _ (Int.le_refl _)
  · rw [h39] at k1
    have x := hX k k0 k1
    have lk := lo.2.2.2 k k0 k1
    have run := nX_run lo k0 k1 (κ.I 43 k).toNat (by omega)
    rw [Int.toNat_of_nonneg lk.1, lk.2] at run
    rw [x.1, x.2, op (k + 1) (by omega), run]
    refine ⟨?_, rfl⟩
    split <;> omega
  · rw [h39] at o1
    have x := hX o o0 o1
    have lk := lo.2.2.2 o o0 o1
    have b0 := ofs_b lo o0
    have b1 := ofs_b lo (show 0 ≤ o + 1 by omega)
    rw [ofs_lt o1] at b0
    rw [h47, x.1, x.2]
    refine ⟨fun q => by rw [if_neg (by omega)], fun j j0 j1 => ?_⟩
    by_cases q : κ.I 47 o ≠ 0
    · rw [if_pos q] at j1
      have run := nX_run lo o0 o1 j.toNat (by omega)
      rw [Int.toNat_of_nonneg j0, if_pos q] at run
      rw [← run, h27 (κ.I 42 o + j) (by omega) (by omega) ((kp_h lo o0 o1 (by omega) (by omega)).mpr q)]
      exact o27 o o0 o1 j j0 j1
    · rw [if_neg q] at j1
      omega
  · by_cases q : v < nX κ (κ.I 0 20)
    · obtain ⟨u, ⟨u0, u1⟩, uk, ue⟩ := nX_on (show 0 ≤ κ.I 0 20 by omega) v0 q
      rw [← ue, h27 u u0 u1 uk]
      exact b27 u u0 (by omega)
    · rw [g27 v (by omega)]
      exact b27 v v0 v1
theorem BD_pk (r : rBD κ) (va : rVA κ) (fl : rFL κ) (kpE : ∀ v, 0 ≤ v → v < κ.I 0 20 → (kpV κ v ↔ kpX κ v)) (py : PKY κ τ) (pm : PMY κ τ) (g32 : ∀ i, nX κ (κ.I 0 20) ≤ i → τ.I 32 i = κ.I 32 i) (gt : ∀ c i, 39 ≤ c → c ≤ 41 → sTX κ (κ.I 0 20) ≤ i → τ.I c i = κ.I c i) (g584 : ∀ i, 4 * nM κ (κ.I 0 20) ≤ i → τ.I 584 i = κ.I 584 i) (g590 : ∀ i, sTM κ (κ.I 0 20) ≤ i → τ.I 590 i = κ.I 590 i) (b587 : bd_0_20 τ 587 24000) (b21 : bd_0_20 τ 21 36500) (b20 : bd_0_12 τ 20 36500) : rBD τ := by
  obtain ⟨⟨r1, r2, r3, r4⟩, r5, r6, r7, -, -⟩ := r
  have nz : 0 ≤ κ.I 0 20 := by have := va.1.2.1; omega
  have a7 := va.1.2.2.2
  have x29 := VA_29 va
  have eN := va.1.1.1
  have key : ∀ i, 0 ≤ i → i < 24000 → (0 ≤ τ.I 39 i ∧ τ.I 39 i ≤ 499) ∧ (0 ≤ τ.I 40 i ∧ τ.I 40 i ≤ 1000) ∧ 0 ≤ τ.I 41 i ∧ τ.I 41 i ≤ 1000 := by
    intro i i0 i1
    by_cases q : i < sTX κ (κ.I 0 20)
    · obtain ⟨u, u0, u1, uk, v1, v2⟩ := sm_kp (p := kpX κ) (g := κ.I 32) i0 (κ.I 0 20).toNat (by rw [Int.toNat_of_nonneg nz]; exact q)
      rw [Int.toNat_of_nonneg nz] at u1
      have v1' : sTX κ u ≤ i := v1
      have v2' : i < sTX κ u + κ.I 32 u := v2
      have kt := (py.1 u u0 u1 uk).2.2.2.2.1 (i - sTX κ u) (by omega) (by omega)
      rw [show sTX κ u + (i - sTX κ u) = i by omega] at kt
      have t := VA_tk va u u0 u1
      rw [kt.2.2.1, kt.2.2.2.1, kt.2.2.2.2]
      exact ⟨r1 _ (by omega) (by omega), r2 _ (by omega) (by omega), r3 _ (by omega) (by omega)⟩
    · rw [gt 39 i (by omega) (by omega) (by omega), gt 40 i (by omega) (by omega) (by omega), gt 41 i (by omega) (by omega) (by omega)]
      exact ⟨r1 i i0 i1, r2 i i0 i1, r3 i i0 i1⟩
  refine ⟨⟨fun i i0 i1 => (key i i0 i1).1, fun i i0 i1 => (key i i0 i1).2.1, fun i i0 i1 => (key i i0 i1).2.2, fun i i0 i1 => ?_⟩, b587, fun i i0 i1 => ?_, fun i i0 i1 => ?_, b21, b20⟩
  · by_cases q : i < nX κ (κ.I 0 20)
    · obtain ⟨u, ⟨u0, u1⟩, uk, ue⟩ := nX_on nz i0 q
      rw [← ue, (py.1 u u0 u1 uk).1.2.2.2]
      exact r4 u u0 (by have := va.1.2.1; omega)
    · rw [g32 i (by omega)]; exact r4 i i0 i1
  · by_cases q : i < sTM κ (κ.I 0 20)
    · obtain ⟨u, u0, u1, uk, v1, v2⟩ := sm_kp (p := kpV κ) (g := lnT κ) i0 (κ.I 0 20).toNat (by rw [Int.toNat_of_nonneg nz]; exact q)
      rw [Int.toNat_of_nonneg nz] at u1
      have v1' : sTM κ u ≤ i := v1
      have v2' : i < sTM κ u + lnT κ u := v2
      have kt := ((pm.1 u u0 (by omega) uk).2 (i - sTM κ u) (by omega) (by omega)).1 590 (by omega)
      rw [show sTM κ u + (i - sTM κ u) = i by omega] at kt
      rw [kt]
      have z := VA_582 va fl (u + 1) (by omega) (by omega)
      have ln : lnT κ u = κ.I 582 (u + 1) - κ.I 582 u := rfl
      have nn : 0 ≤ κ.I 582 u := by
        have e := VA_e582 va fl u.toNat (by omega)
        rw [Int.toNat_of_nonneg u0] at e
        rw [e]
        have e1 : 0 ≤ smP (fun _ => True) (κ.I 32) u := smP_n0 (fun k q0 q1 => (va.2.2.1 k q0 (by omega)).2.2.2.2.1.1)
        have e2 := cn_in (isWv κ) u
        omega
      exact r6 _ (by omega) (by omega)
    · rw [g590 i (by omega)]; exact r6 i i0 i1
  · by_cases q : i < 4 * nM κ (κ.I 0 20)
    · have aN := (PK_at va fl kpE py (κ.I 0 20) nz (Int.le_refl _)).1.1
      obtain ⟨u, ⟨u0, u1⟩, uk, ue⟩ := nX_on nz (j := i / 4) (by omega) (by rw [← aN]; omega)
      have k := (pm.1 u u0 (by omega) ((kpE u u0 u1).mpr uk)).1.2.1 (i % 4) (by omega) (by omega)
      rw [(PK_at va fl kpE py u u0 (by omega)).1.1, ue, show 4 * (i / 4) + i % 4 = i by omega] at k
      rw [k]
      have := va.1.2.1
      exact r7 _ (by omega) (by omega)
    · rw [g584 i (by omega)]; exact r7 i i0 i1
/-- every value belongs to an object that is held or to the draft, if none was dropped -/
theorem kp_all (lo : LOX κ) (h : ∀ o, 0 ≤ o → o < κ.I 0 39 → κ.I 47 o = 0 → κ.I 43 o = 0) (v : Int) (v0 : 0 ≤ v) : kpX κ v := by
  by_cases q : κ.I 0 31 ≤ v
  · exact Or.inr q
  · have key : ∀ m : Nat, (m : Int) ≤ κ.I 0 39 → v < ofsX κ m → kpX κ v := by
      intro m
      induction m with
      | zero => intro _ e; rw [show ofsX κ ((0 : Nat) : Int) = 0 from lo.2.2.1] at e; omega
      | succ m ih =>
        intro hm e
        by_cases c : v < ofsX κ m
        · exact ih (by omega) c
        · have lk := lo.2.2.2 m (by omega) (by omega)
          rw [ofs_lt (show (m : Int) < κ.I 0 39 by omega)] at c
          rw [show ((m + 1 : Nat) : Int) = (m : Int) + 1 by omega, ← lk.2] at e
          refine Or.inl ⟨m, by omega, by omega, fun z => ?_, by omega, by omega⟩
          have := h m (by omega) (by omega) z
          omega
    refine key (κ.I 0 39).toNat (by have := lo.1; omega) ?_
    rw [Int.toNat_of_nonneg lo.1.1, ofs_ge (Int.le_refl _)]
    omega
end PKO

