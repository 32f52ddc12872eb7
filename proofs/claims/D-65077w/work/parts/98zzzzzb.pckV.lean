/-! contracts: printed by tools/mk.py out of s98zzzzzb_pckV.py -/
set_option maxRecDepth 100000
set_option maxHeartbeats 2000000
/-! values are packed in both -/
def KVY (κ τ : Sto) (u : Int) : Prop := (τ.I 26 (nX κ u) = κ.I 26 u ∧ τ.I 29 (nX κ u) = κ.I 29 u ∧ τ.I 30 (nX κ u) = κ.I 30 u ∧ τ.I 32 (nX κ u) = κ.I 32 u) ∧ τ.I 28 (nX κ u) = sBX κ u ∧ τ.I 31 (nX κ u) = sTX κ u ∧ (∀ b, 0 ≤ b → b < κ.I 29 u → τ.I 35 (sBX κ u + b) = κ.I 35 (κ.I 28 u + b)) ∧
  (∀ t, 0 ≤ t → t < κ.I 32 u → rowX τ (τ.I 36 (sTX κ u + t)) (κ.I 20 (κ.I 36 (κ.I 31 u + t))) (κ.I 21 (κ.I 36 (κ.I 31 u + t))) (fun k => κ.I 19 (20 * κ.I 36 (κ.I 31 u + t) + k)) ∧ τ.I 38 (sTX κ u + t) = nX κ u ∧ τ.I 39 (sTX κ u + t) = κ.I 39 (κ.I 31 u + t) ∧ τ.I 40 (sTX κ u + t) = κ.I 40 (κ.I 31 u + t) ∧ τ.I 41 (sTX κ u + t) = κ.I 41 (κ.I 31 u + t)) ∧
  (isWv κ u → rowX τ (τ.I 33 (nX κ u)) (κ.I 20 (κ.I 33 u)) (κ.I 21 (κ.I 33 u)) (fun k => κ.I 19 (20 * κ.I 33 u + k)))
def PKY (κ τ : Sto) : Prop := (∀ u, 0 ≤ u → u < κ.I 0 20 → kpX κ u → KVY κ τ u) ∧ (τ.I 0 20 = nX κ (κ.I 0 20) ∧ τ.I 0 22 = sBX κ (κ.I 0 20) ∧ τ.I 0 29 = sTX κ (κ.I 0 20) ∧ τ.I 0 30 = sWX κ (κ.I 0 20)) ∧ τ.I 0 31 = nX κ (κ.I 0 31) ∧ τ.I 16 = κ.I 16 ∧ τ.I 0 9 = κ.I 0 9
def PMY (κ τ : Sto) : Prop := (∀ u, 0 ≤ u → u < κ.I 555 30 → kpV κ u → KV1 κ τ u ∧ KV2 κ τ u (lnT κ u)) ∧ (τ.I 555 30 = nM κ (κ.I 555 30) ∧ τ.I 555 38 = sBM κ (κ.I 555 30) ∧ τ.I 555 44 = sTM κ (κ.I 555 30) ∧ τ.I 582 (nM κ (κ.I 555 30)) = sTM κ (κ.I 555 30)) ∧ τ.I 555 45 = nM κ (κ.I 555 45)
section PCK
variable {κ τ : Sto}
theorem lnT_va (va : rVA κ) (fl : rFL κ) (v : Int) (h0 : 0 ≤ v) (h1 : v < κ.I 0 20) : lnT κ v = κ.I 32 v + zb (isWv κ v) := by
  obtain ⟨e1, e2, e3, e4, e5, e6, -⟩ := (va.2.2.1 v h0 h1).2.2
  have f := (fl.2 _ e1.2.1 e1.2.2).2.1
  unfold lnT
  by_cases c1 : κ.I 16 (κ.I 26 v) = 1
  · rw [zb_t (show isWv κ v from c1)]
    have := e5 c1
    omega
  · rw [zb_f (show ¬ isWv κ v from c1)]
    by_cases c0 : κ.I 16 (κ.I 26 v) = 0
    · have := (e4 c0).1; omega
    · have := e6 (by omega); omega
theorem PK_sums (va : rVA κ) (fl : rFL κ) (kpE : ∀ v, 0 ≤ v → v < κ.I 0 20 → (kpV κ v ↔ kpX κ v)) (py : PKY κ τ) : ∀ x : Nat, (x : Int) ≤ κ.I 0 20 → (nM κ x = nX κ x ∧ sBM κ x = sBX κ x ∧ sTM κ x = sTX κ x + sWX κ x) ∧ (smP (fun _ => True) (τ.I 29) (nX κ x) = sBX κ x ∧ smP (fun _ => True) (τ.I 32) (nX κ x) = sTX κ x ∧ cn (isWv τ) (nX κ x) = sWX κ x) ∧ 0 ≤ nX κ x := by
  intro x
  induction x with
  | zero =>
    intro _
    have z : nX κ ((0 : Nat) : Int) = 0 := cn_0 _ _ (by omega)
    rw [z]
    refine ⟨⟨cn_0 _ _ (by omega), ?_, ?_⟩, ⟨?_, ?_, ?_⟩, by omega⟩
    · rw [show sBM κ ((0 : Nat) : Int) = 0 from smP_0 _ _ _ (by omega), show sBX κ ((0 : Nat) : Int) = 0 from smP_0 _ _ _ (by omega)]
    · rw [show sTM κ ((0 : Nat) : Int) = 0 from smP_0 _ _ _ (by omega), show sTX κ ((0 : Nat) : Int) = 0 from smP_0 _ _ _ (by omega), show sWX κ ((0 : Nat) : Int) = 0 from cn_0 _ _ (by omega)]; rfl
    · rw [smP_0 _ _ _ (by omega)]; exact (smP_0 _ _ _ (by omega)).symm
    · rw [smP_0 _ _ _ (by omega)]; exact (smP_0 _ _ _ (by omega)).symm
    · rw [cn_0 _ _ (by omega)]; exact (cn_0 _ _ (by omega)).symm
  | succ x ih =>
    intro hx
    obtain ⟨⟨i1, i2, i3⟩, ⟨i4, i5, i6⟩, i7⟩ := ih (by omega)
    have hx' : (x : Int) < κ.I 0 20 := by omega
    have kk := kpE x (by omega) hx'
    have va2 := (va.2.2.1 x (by omega) hx').2.2.2.1
    have ln := lnT_va va fl x (by omega) hx'
    have c : ((x + 1 : Nat) : Int) = (x : Int) + 1 := by omega
    rw [c]
    by_cases q : kpX κ x
    · have ky := py.1 x (by omega) hx' q
      have a1 : nX κ ((x : Int) + 1) = nX κ x + 1 := by unfold nX; rw [cn_s _ (x : Int) _ (by omega) rfl, zb_t q]
      have a2 : nM κ ((x : Int) + 1) = nM κ x + 1 := by unfold nM; rw [cn_s _ (x : Int) _ (by omega) rfl, zb_t (kk.mpr q)]
      have a3 : sBX κ ((x : Int) + 1) = sBX κ x + κ.I 29 x := smP_t _ _ (x : Int) _ (by omega) rfl q
      have a4 : sBM κ ((x : Int) + 1) = sBM κ x + κ.I 581 x := smP_t _ _ (x : Int) _ (by omega) rfl (kk.mpr q)
      have a5 : sTX κ ((x : Int) + 1) = sTX κ x + κ.I 32 x := smP_t _ _ (x : Int) _ (by omega) rfl q
      have a6 : sTM κ ((x : Int) + 1) = sTM κ x + lnT κ x := smP_t _ _ (x : Int) _ (by omega) rfl (kk.mpr q)
      have a7 : sWX κ ((x : Int) + 1) = sWX κ x + zb (isWv κ x) := by
        unfold sWX
        rw [cn_s _ (x : Int) _ (by omega) rfl]
        rw [zb_iff (show (kpX κ x ∧ isWv κ x) ↔ isWv κ x from ⟨fun z => z.2, fun z => ⟨q, z⟩⟩)]
      have w : isWv τ (nX κ x) ↔ isWv κ x := by unfold isWv; rw [py.2.2.2.1, ky.1.1]
      rw [a1, a2, a3, a4, a5, a6, a7]
      refine ⟨⟨by omega, by omega, by omega⟩, ⟨?_, ?_, ?_⟩, by omega⟩
      · rw [smP_t _ _ (nX κ x) _ i7 rfl trivial, i4, ky.1.2.1]
      · rw [smP_t _ _ (nX κ x) _ i7 rfl trivial, i5, ky.1.2.2.2]
      · rw [cn_s _ (nX κ x) _ i7 rfl, i6, zb_iff w]
    · have qv : ¬ kpV κ x := fun z => q (kk.mp z)
      have a1 : nX κ ((x : Int) + 1) = nX κ x := by unfold nX; rw [cn_s _ (x : Int) _ (by omega) rfl, zb_f q]; omega
      have a2 : nM κ ((x : Int) + 1) = nM κ x := by unfold nM; rw [cn_s _ (x : Int) _ (by omega) rfl, zb_f qv]; omega
      have a3 : sBX κ ((x : Int) + 1) = sBX κ x := smP_f _ _ (x : Int) _ (by omega) rfl q
      have a4 : sBM κ ((x : Int) + 1) = sBM κ x := smP_f _ _ (x : Int) _ (by omega) rfl qv
      have a5 : sTX κ ((x : Int) + 1) = sTX κ x := smP_f _ _ (x : Int) _ (by omega) rfl q
      have a6 : sTM κ ((x : Int) + 1) = sTM κ x := smP_f _ _ (x : Int) _ (by omega) rfl qv
      have a7 : sWX κ ((x : Int) + 1) = sWX κ x := by unfold sWX; rw [cn_s _ (x : Int) _ (by omega) rfl, zb_f (fun z => q z.1)]; omega
      rw [a1, a2, a3, a4, a5, a6, a7]
      exact ⟨⟨i1, i2, i3⟩, ⟨i4, i5, i6⟩, i7⟩
theorem PK_at (va : rVA κ) (fl : rFL κ) (kpE : ∀ v, 0 ≤ v → v < κ.I 0 20 → (kpV κ v ↔ kpX κ v)) (py : PKY κ τ) (x : Int) (h0 : 0 ≤ x) (h1 : x ≤ κ.I 0 20) : (nM κ x = nX κ x ∧ sBM κ x = sBX κ x ∧ sTM κ x = sTX κ x + sWX κ x) ∧ (smP (fun _ => True) (τ.I 29) (nX κ x) = sBX κ x ∧ smP (fun _ => True) (τ.I 32) (nX κ x) = sTX κ x ∧ cn (isWv τ) (nX κ x) = sWX κ x) ∧ 0 ≤ nX κ x := by
  have z := PK_sums va fl kpE py x.toNat (by omega)
  rw [Int.toNat_of_nonneg h0] at z
  exact z
theorem PK_582 (va : rVA κ) (fl : rFL κ) (kpE : ∀ v, 0 ≤ v → v < κ.I 0 20 → (kpV κ v ↔ kpX κ v)) (py : PKY κ τ) (pm : PMY κ τ) (x : Int) (h0 : 0 ≤ x) (h1 : x ≤ κ.I 0 20) : τ.I 582 (nX κ x) = sTM κ x := by
  have eN := va.1.1.1
  have nz : 0 ≤ κ.I 0 20 := by omega
  have aN := PK_at va fl kpE py (κ.I 0 20) nz (Int.le_refl _)
  have ex : ∀ a b, 0 ≤ a → a ≤ b → b ≤ κ.I 0 20 → nX κ a = nX κ b → sTM κ b = sTM κ a := fun a b a0 ab b1 e => smP_ex a0 ab (fun k k0 k1 z => nX_gap a0 e k k0 k1 ((kpE k (by omega) (by omega)).mp z))
  by_cases q : nX κ x < nX κ (κ.I 0 20)
  · obtain ⟨u, ⟨u0, u1⟩, uk, ue⟩ := nX_on nz (PK_at va fl kpE py x h0 h1).2.2 q
    have k1 := (pm.1 u u0 (by omega) ((kpE u u0 u1).mpr uk)).1.2.2.2.1
    rw [(PK_at va fl kpE py u u0 (by omega)).1.1, ue] at k1
    rw [k1]
    by_cases c : x ≤ u
    · exact ex x u h0 c (by omega) ue.symm
    · exact absurd uk (nX_gap u0 ue u (Int.le_refl _) (by omega))
  · have mo : nX κ x ≤ nX κ (κ.I 0 20) := cn_mo h0 h1
    have e : nX κ x = nX κ (κ.I 0 20) := by omega
    have k1 := pm.2.1.2.2.2
    rw [← eN, aN.1.1] at k1
    rw [e, k1]
    exact ex x _ h0 h1 (Int.le_refl _) e
theorem VA_pk (va : rVA κ) (fl : rFL κ) (kpE : ∀ v, 0 ≤ v → v < κ.I 0 20 → (kpV κ v ↔ kpX κ v)) (py : PKY κ τ) (pm : PMY κ τ) (hd : nX κ (κ.I 0 20) ≤ nX κ (κ.I 0 31) + 24) : rVA τ := by
  have eN := va.1.1.1
  have eD := va.1.1.2.1
  have dr := va.1.2.1
  have nz : 0 ≤ κ.I 0 20 := by omega
  have PA := PK_at va fl kpE py
  have aN := PA (κ.I 0 20) nz (Int.le_refl _)
  have aD := PA (κ.I 0 31) dr.1 dr.2.1
  have T8 := PK_582 va fl kpE py pm
  obtain ⟨y1, ⟨y20, y22, y29, y30⟩, y31, y16, y9⟩ := py
  obtain ⟨m1, ⟨m30, m38, m44, m582⟩, m45⟩ := pm
  rw [← eN] at m30 m38 m44 m582 m1
  rw [← eD] at m45
  rw [aN.1.1] at m30 m582
  rw [aN.1.2.1] at m38
  rw [aN.1.2.2] at m44
  rw [aD.1.1] at m45
  have le : nX κ (κ.I 0 20) ≤ κ.I 0 20 := by
    have := cn_in (kpX κ) (κ.I 0 20)
    unfold nX
    omega
  have nn29 : ∀ k, 0 ≤ k → k < κ.I 0 20 → 0 ≤ κ.I 29 k := fun k p0 p1 => (va.2.2.1 k p0 p1).2.2.2.1.2.2.1
  have nn32 : ∀ k, 0 ≤ k → k < κ.I 0 20 → 0 ≤ κ.I 32 k := fun k p0 p1 => (va.2.2.1 k p0 p1).2.2.2.2.1.1
  have b29 := smP_sub' (p := kpX κ) nz nn29
  have b32 := smP_sub' (p := kpX κ) nz nn32
  have bW : sWX κ (κ.I 0 20) ≤ cn (isWv κ) (κ.I 0 20) := by
    have z := cn_imp (p := fun u => kpX κ u ∧ isWv κ u) (q := isWv κ) (fun o z => z.2) (κ.I 0 20).toNat
    rw [Int.toNat_of_nonneg nz] at z
    exact z
  have v3 := va.2.1.2.2
  have mo := cn_mo (p := kpX κ) dr.1 dr.2.1
  refine ⟨⟨⟨by omega, by omega, by omega, by omega⟩, ⟨by omega, by rw [y31, y20]; exact mo, by omega, by omega⟩, ?_, ?_⟩, ⟨?_, ?_, ?_, ?_, ?_⟩, fun w p0 p1 => ?_, fun i p0 p1 => ?_⟩
  · rw [y22]
    have z := va.1.2.2.1
    have e : sBX κ (κ.I 0 20) ≤ smP (fun _ => True) (κ.I 29) (κ.I 0 20) := b29.2
    omega
  · rw [y29, y30]
    have z := va.1.2.2.2
    have e : sTX κ (κ.I 0 20) ≤ smP (fun _ => True) (κ.I 32) (κ.I 0 20) := b32.2
    omega
  · have z := T8 0 (Int.le_refl _) nz
    rw [show nX κ 0 = 0 from cn_0 _ _ (Int.le_refl _), show sTM κ 0 = 0 from smP_0 _ _ _ (Int.le_refl _)] at z
    exact z
  · rw [m30, m582, m44, aN.1.2.2]
  · rw [y22, y20]; exact aN.2.1.1.symm
  · rw [y29, y20]; exact aN.2.1.2.1.symm
  · rw [y30, y20]; exact aN.2.1.2.2.symm
  · rw [y20] at p1
    obtain ⟨u, ⟨u0, u1⟩, uk, rfl⟩ := nX_on nz p0 p1
    have au := PA u u0 (by omega)
    have z := va.2.2.1 u u0 u1
    obtain ⟨⟨k26, k29, k30, k32⟩, k28, k31, k35, kt, kw⟩ := y1 u u0 u1 uk
    obtain ⟨⟨n1, n2, n3, n4, n5⟩, n6⟩ := m1 u u0 u1 ((kpE u u0 u1).mpr uk)
    rw [au.1.1] at n1 n2 n3 n4
    rw [au.1.2.1] at n3 n5
    have ln := lnT_va va fl u u0 u1
    have s1 : nX κ (u + 1) = nX κ u + 1 := by unfold nX; rw [cn_s _ u _ u0 rfl, zb_t uk]
    have s2 := T8 (u + 1) (by omega) (by omega)
    have s3 : sTM κ (u + 1) = sTM κ u + lnT κ u := smP_t _ _ u _ u0 rfl ((kpE u u0 u1).mpr uk)
    rw [s1, s3] at s2
    obtain ⟨e1, e2, e3, e4, e5, e6, e7, e8, e9⟩ := z.2.2
    refine ⟨by rw [k28, au.2.1.1], by rw [k31, au.2.1.2.1], ?_⟩
    have n579 := n1 579 (by omega)
    have n581 := n1 581 (by omega)
    have n583 := n1 583 (by omega)
    have q0 := n2 0 (by omega) (by omega)
    have q1 := n2 1 (by omega) (by omega)
    have q2 := n2 2 (by omega) (by omega)
    have q3 := n2 3 (by omega) (by omega)
    rw [Int.add_zero, Int.add_zero] at q0
    unfold vaE
    rw [y16, y9, k26, k28, k29, k30, k31, k32, n579, n581, n583, n3, n4, s2, q0, q1, q2, q3]
    refine ⟨e1, ⟨rfl, e2.2.1, e2.2.2⟩, e3, fun c0 => ?_, fun c1 => ?_, fun c2 => ?_, e7, e8, fun c4 => ⟨(e9 c4).1, fun j j0 j1 => by rw [n2 j j0 j1]; exact (e9 c4).2 j j0 j1⟩⟩
    · have w0 : ¬ isWv κ u := fun z => by unfold isWv at z; omega
      rw [zb_f w0] at ln
      refine ⟨by omega, fun j j0 j1 => ?_⟩
      obtain ⟨⟨t1, t2, t3, t4⟩, ⟨t5, t6, t7⟩, t8⟩ := (e4 c0).2 j j0 j1
      obtain ⟨⟨r1, r2, r3, r4⟩, r5, r6, r7, r8⟩ := kt j j0 j1
      obtain ⟨o1, o2⟩ := n6 j j0 (by omega)
      have o587 := o1 587 (by omega)
      have o588 := o1 588 (by omega)
      have o589 := o1 589 (by omega)
      have o590 := o1 590 (by omega)
      refine ⟨⟨r1, by rw [r2, t2], by rw [r3, t3, o587], fun k k0 k1 => ?_⟩, ⟨by rw [r6, t5, o590], by rw [r7, t6, o588], by rw [r8, t7, o589]⟩, r5⟩
      rw [o587] at k1
      rw [r4 k k0 (by rw [t3]; exact k1), o2 k k0 k1]
      exact t4 k k0 k1
    · have w1 : isWv κ u := c1
      rw [zb_t w1] at ln
      obtain ⟨f1, f2, f3, t1, t2, t3, t4⟩ := e5 c1
      obtain ⟨r1, r2, r3, r4⟩ := kw w1
      obtain ⟨o1, o2⟩ := n6 0 (by omega) (by omega)
      have o587 := o1 587 (by omega)
      rw [Int.add_zero, Int.add_zero] at o587 o2
      refine ⟨by omega, f2, f3, r1, by rw [k26, r2, t2], by rw [r3, t3, o587], fun k k0 k1 => ?_⟩
      rw [o587] at k1
      rw [r4 k k0 (by rw [t3]; exact k1), o2 k k0 k1]
      exact t4 k k0 k1
    · have w1 : ¬ isWv κ u := fun z => by unfold isWv at z; omega
      rw [zb_f w1] at ln
      have := e6 c2
      exact ⟨by omega, this.2⟩
  · rw [y22] at p1
    obtain ⟨u, u0, u1, uk, v1, v2⟩ : ∃ u, 0 ≤ u ∧ u < κ.I 0 20 ∧ kpX κ u ∧ sBX κ u ≤ i ∧ i < sBX κ u + κ.I 29 u := by
      have key : ∀ x : Nat, (x : Int) ≤ κ.I 0 20 → i < sBX κ x → ∃ u, 0 ≤ u ∧ u < κ.I 0 20 ∧ kpX κ u ∧ sBX κ u ≤ i ∧ i < sBX κ u + κ.I 29 u := by
        intro x
        induction x with
        | zero => intro _ h; rw [show sBX κ ((0 : Nat) : Int) = 0 from smP_0 _ _ _ (by omega)] at h; omega
        | succ x ih =>
          intro hx h
          by_cases q : i < sBX κ x
          · exact ih (by omega) q
          · by_cases kx : kpX κ x
            · rw [show sBX κ ((x + 1 : Nat) : Int) = sBX κ x + κ.I 29 x from smP_t _ _ (x : Int) _ (by omega) (by omega) kx] at h
              exact ⟨x, by omega, by omega, kx, by omega, h⟩
            · rw [show sBX κ ((x + 1 : Nat) : Int) = sBX κ x from smP_f _ _ (x : Int) _ (by omega) (by omega) kx] at h
              omega
      exact key (κ.I 0 20).toNat (by omega) (by rw [Int.toNat_of_nonneg nz]; exact p1)
    have k35 := (y1 u u0 u1 uk).2.2.2.1 (i - sBX κ u) (by omega) (by omega)
    obtain ⟨⟨n1, n2, n3, n4, n5⟩, n6⟩ := m1 u u0 u1 ((kpE u u0 u1).mpr uk)
    have au := PA u u0 (by omega)
    have z := (va.2.2.1 u u0 u1).2.2
    have n := n5 (i - sBX κ u) (by omega) (by have := z.2.1.2.1; omega)
    rw [au.1.2.1] at n
    rw [show sBX κ u + (i - sBX κ u) = i by omega] at k35 n
    rw [k35, n, ← z.2.1.1]
    have hp := VA_hp va u u0 u1
    exact va.2.2.2 _ (by omega) (by omega)
end PCK

