/-! contracts: printed by tools/mk.py out of s98zzzzze_pckE.py -/
set_option maxRecDepth 100000
set_option maxHeartbeats 2000000
/-! packing: told of other stores that are alike -/
section PCE
variable {κ κ' τ τ' : Sto}
theorem XE_e (h : ∀ c : Nat, c < 555 → κ'.I c = κ.I c) : kpX κ' = kpX κ ∧ nX κ' = nX κ ∧ sBX κ' = sBX κ ∧ sTX κ' = sTX κ ∧ sWX κ' = sWX κ ∧ isWv κ' = isWv κ := by
  have e1 : kpX κ' = kpX κ := by funext v; unfold kpX; rw [h 0 (by omega), h 42 (by omega), h 43 (by omega), h 47 (by omega)]
  have e2 : isWv κ' = isWv κ := by funext v; unfold isWv; rw [h 16 (by omega), h 26 (by omega)]
  refine ⟨e1, ?_, ?_, ?_, ?_, e2⟩
  · funext v; unfold nX; rw [e1]
  · funext v; unfold sBX; rw [e1, h 29 (by omega)]
  · funext v; unfold sTX; rw [e1, h 32 (by omega)]
  · funext v; unfold sWX; rw [e1, e2]
theorem PKY_cg (h : ∀ c : Nat, c < 555 → κ'.I c = κ.I c) (g : ∀ (c : Nat) (i : Int), c < 555 → ¬ (c = 0 ∧ (i = 70 ∨ i = 71 ∨ i = 59 ∨ i = 75 ∨ i = 79 ∨ i = 40)) → τ'.I c i = τ.I c i) (p : PKY κ τ) : PKY κ' τ' := by
  obtain ⟨e1, e2, e3, e4, e5, e6⟩ := XE_e h
  have gf : ∀ c : Nat, 0 < c → c < 555 → τ'.I c = τ.I c := fun c a b => funext fun i => g c i b (by omega)
  unfold PKY KVY rowX at p ⊢
  rw [e1, e2, e3, e4, e5, e6, h 0 (by omega), h 16 (by omega), h 19 (by omega), h 20 (by omega), h 21 (by omega), h 26 (by omega), h 28 (by omega), h 29 (by omega), h 30 (by omega), h 31 (by omega), h 32 (by omega), h 33 (by omega), h 35 (by omega), h 36 (by omega), h 39 (by omega), h 40 (by omega), h 41 (by omega), gf 16 (by omega) (by omega), gf 18 (by omega) (by omega), gf 19 (by omega) (by omega), gf 20 (by omega) (by omega), gf 21 (by omega) (by omega), gf 26 (by omega) (by omega), gf 28 (by omega) (by omega), gf 29 (by omega) (by omega), gf 30 (by omega) (by omega), gf 31 (by omega) (by omega), gf 32 (by omega) (by omega), gf 33 (by omega) (by omega), gf 35 (by omega) (by omega), gf 36 (by omega) (by omega), gf 38 (by omega) (by omega), gf 39 (by omega) (by omega), gf 40 (by omega) (by omega), gf 41 (by omega) (by omega), g 0 20 (by omega) (by omega), g 0 22 (by omega) (by omega), g 0 29 (by omega) (by omega), g 0 30 (by omega) (by omega), g 0 31 (by omega) (by omega), g 0 9 (by omega) (by omega)]
  exact p
theorem ME_e (h : ∀ c : Nat, 556 ≤ c → c < 675 → κ'.I c = κ.I c) (h5 : ∀ i, i = 30 ∨ i = 45 ∨ i = 52 → κ'.I 555 i = κ.I 555 i) : kpV κ' = kpV κ ∧ nM κ' = nM κ ∧ sBM κ' = sBM κ ∧ sTM κ' = sTM κ ∧ lnT κ' = lnT κ := by
  have e1 : kpV κ' = kpV κ := by funext v; unfold kpV; rw [h5 30 (by omega), h5 45 (by omega), h5 52 (by omega), h 594 (by omega) (by omega), h 595 (by omega) (by omega), h 596 (by omega) (by omega)]
  have e2 : lnT κ' = lnT κ := by funext v; unfold lnT; rw [h 582 (by omega) (by omega)]
  refine ⟨e1, ?_, ?_, ?_, e2⟩
  · funext v; unfold nM; rw [e1]
  · funext v; unfold sBM; rw [e1, h 581 (by omega) (by omega)]
  · funext v; unfold sTM; rw [e1, e2]
theorem PMY_cg (h : ∀ c : Nat, 556 ≤ c → c < 675 → κ'.I c = κ.I c) (h5 : ∀ i, i = 30 ∨ i = 45 ∨ i = 52 → κ'.I 555 i = κ.I 555 i) (p : PMY κ τ) : PMY κ' τ := by
  obtain ⟨e1, e2, e3, e4, e5⟩ := ME_e h h5
  have k1 : KV1 κ' τ = KV1 κ τ := by
    funext u
    unfold KV1
    rw [e2, e3, e4, h 584 (by omega) (by omega), h 581 (by omega) (by omega), h 580 (by omega) (by omega), h 585 (by omega) (by omega)]
    refine propext (and_congr_left fun _ => forall_congr' fun c => forall_congr' fun hc => ?_)
    rw [h c (by omega) (by omega)]
  have k2 : KV2 κ' τ = KV2 κ τ := by
    funext u m
    unfold KV2
    rw [e4, h 582 (by omega) (by omega), h 587 (by omega) (by omega), h 586 (by omega) (by omega)]
    refine propext (forall_congr' fun t => forall_congr' fun _ => forall_congr' fun _ => and_congr_left fun _ => forall_congr' fun c => forall_congr' fun hc => ?_)
    rw [h c (by omega) (by omega)]
  unfold PMY at p ⊢
  rw [k1, k2, e1, e2, e3, e4, e5, h5 30 (by omega), h5 45 (by omega)]
  exact p
/-- what the packing of the model leaves -/
theorem PKM_all (hb : BOM κ) (lo : LOM κ) (h : PKM κ τ) : PMY κ τ ∧ (∀ i, 4 * nM κ (κ.I 555 30) ≤ i → τ.I 584 i = κ.I 584 i) ∧ (∀ i, sTM κ (κ.I 555 30) ≤ i → τ.I 590 i = κ.I 590 i) ∧ bd_0_20 τ 587 24000 ∧ (∀ j, 0 ≤ j → j < κ.I 555 52 → κ.I 594 j ≠ 0 → τ.I 595 j = nM κ (κ.I 595 j)) ∧ (∀ j, ¬ ((0 ≤ j ∧ j < κ.I 555 52) ∧ κ.I 594 j ≠ 0) → τ.I 595 j = κ.I 595 j) ∧ (∀ c i, ¬ wsPm c i → ¬ (c = 555 ∧ (i = 30 ∨ i = 38 ∨ i = 44)) → τ.I c i = κ.I c i) ∧ τ.2 = κ.2 := by
  obtain ⟨ψ, A, B, T, ⟨⟨g1, g2, g3, g4, g5, g6, g7⟩, eA, eB, eT⟩, ⟨p1, p2, p3, p4, p5⟩, e⟩ := h
  have W : ∀ (c : Nat) (i : Int), τ.I c i = if c = 582 ∧ i = A then T else if c = 555 ∧ i = 44 then T else if c = 555 ∧ i = 38 then B else if c = 555 ∧ i = 30 then A else ψ.I c i := by
    intro c i
    rw [e, I_wI, I_wI, I_wI, I_wI]
  have V : ∀ (c : Nat) (i : Int), c ≠ 582 → ¬ (c = 555 ∧ (i = 30 ∨ i = 38 ∨ i = 44)) → τ.I c i = ψ.I c i := fun c i a b => by
    rw [W c i, if_neg (by omega), if_neg (by omega), if_neg (by omega), if_neg (by omega)]
  have e2 : τ.2 = ψ.2 := by rw [e]; rfl
  have lo1 := lo.1
  rw [if_pos (by omega)] at p5
  refine ⟨⟨fun u u0 u1 uk => ?_, ⟨?_, ?_, ?_, ?_⟩, ?_⟩, fun i q => ?_, fun i q => ?_, ?_, fun j j0 j1 jh => ?_, fun j q => ?_, fun c i q0 q1 => ?_, e2.trans p2⟩
  · obtain ⟨⟨k1, k2, k3, k4, k5⟩, k6⟩ := g1 u u0 u1 uk
    have lt : nM κ u < A := by rw [eA]; exact cn_lt u0 u1 uk
    refine ⟨⟨fun c hc => ?_, fun k k0 k1' => ?_, ?_, ?_, fun b b0 b1 => ?_⟩, fun t t0 t1 => ⟨fun c hc => ?_, fun j j0 j1 => ?_⟩⟩
    · rw [V c _ (by omega) (by omega)]; exact k1 c hc
    · rw [V 584 _ (by omega) (by omega)]; exact k2 k k0 k1'
    · rw [V 580 _ (by omega) (by omega)]; exact k3
    · rw [W 582 _, if_neg (by omega), if_neg (by omega), if_neg (by omega), if_neg (by omega)]; exact k4
    · rw [V 585 _ (by omega) (by omega)]; exact k5 b b0 b1
    · rw [V c _ (by omega) (by omega)]; exact (k6 t t0 t1).1 c hc
    · rw [V 586 _ (by omega) (by omega)]; exact (k6 t t0 t1).2 j j0 j1
  · rw [W 555 30, if_neg (by omega), if_neg (by omega), if_neg (by omega), if_pos ⟨rfl, rfl⟩]; exact eA
  · rw [W 555 38, if_neg (by omega), if_neg (by omega), if_pos ⟨rfl, rfl⟩]; exact eB
  · rw [W 555 44, if_neg (by omega), if_pos ⟨rfl, rfl⟩]; exact eT
  · rw [W 582 _, if_pos ⟨rfl, eA.symm⟩]; exact eT
  · rw [V 555 45 (by omega) (by omega)]; exact p5
  · rw [V 584 i (by omega) (by omega)]; exact g3 i (by rw [eA]; exact q)
  · rw [V 590 i (by omega) (by omega)]; exact g5 590 i (by omega) (by rw [eT]; exact q)
  · exact bd_0_20_eq g7 (funext fun i => V 587 i (by omega) (by omega))
  · rw [V 595 j (by omega) (by omega)]; exact p3 j (by omega) j1 jh
  · rw [V 595 j (by omega) (by omega)]; exact p4 j (by omega)
  · by_cases c8 : c = 582
    · exact absurd (show wsPm c i by unfold wsPm; omega) q0
    · rw [V c i c8 q1]; exact p1 c i q0
/-- a store that keeps all -/
theorem PKY_id (va : rVA κ) (fl : rFL κ) (all : ∀ v, 0 ≤ v → kpX κ v) : PKY κ κ ∧ ∀ x, 0 ≤ x → nX κ x = x := by
  have nz := va.1.2.1
  have n : ∀ x, 0 ≤ x → nX κ x = x := fun x x0 => by
    unfold nX
    have z := cn_all (p := kpX κ) x.toNat (fun k k0 k1 => all k k0)
    rw [Int.toNat_of_nonneg x0] at z
    exact z
  have sm : ∀ (g : Int → Int) (x : Int), 0 ≤ x → smP (kpX κ) g x = smP (fun _ => True) g x := fun g x x0 => smP_cg (fun k k0 k1 => ⟨fun _ => trivial, fun _ => all k k0⟩) (fun _ _ _ _ => rfl)
  refine ⟨⟨fun u u0 u1 uk => ?_, ⟨?_, ?_, ?_, ?_⟩, (n _ nz.1).symm, rfl, rfl⟩, n⟩
  · have z := va.2.2.1 u u0 u1
    obtain ⟨e1, e2, e3, e4, e5, e6, -⟩ := z.2.2
    have sb : sBX κ u = κ.I 28 u := by rw [z.1]; exact sm _ u u0
    have st : sTX κ u = κ.I 31 u := by rw [z.2.1]; exact sm _ u u0
    unfold KVY
    rw [n u u0, sb, st]
    refine ⟨⟨rfl, rfl, rfl, rfl⟩, rfl, rfl, fun _ _ _ => rfl, fun t t0 t1 => ?_, fun w => ?_⟩
    · by_cases c0 : κ.I 16 (κ.I 26 u) = 0
      · have y := (e4 c0).2 t t0 t1
        exact ⟨⟨y.1.1, rfl, rfl, fun _ _ _ => rfl⟩, y.2.2, rfl, rfl, rfl⟩
      · exfalso
        have f := (fl.2 _ e1.2.1 e1.2.2).2.1
        by_cases c1 : κ.I 16 (κ.I 26 u) = 1
        · have := (e5 c1).2.1; omega
        · have := (e6 (by omega)).2.1; omega
    · exact ⟨(e5 w).2.2.2.1, rfl, rfl, fun _ _ _ => rfl⟩
  · exact (n _ (by omega)).symm
  · rw [va.2.1.2.2.1]; exact (sm _ _ (by omega)).symm
  · rw [va.2.1.2.2.2.1]; exact (sm _ _ (by omega)).symm
  · rw [va.2.1.2.2.2.2]
    exact (cn_cg (fun k k0 k1 => ⟨fun z => z.2, fun z => ⟨all k k0, z⟩⟩)).symm
end PCE
/-- what the packing asks for, out of the relation -/
theorem LAP_V {σ : Sto} (va : rVA σ) (fl : rFL σ) (tu : TU σ) (t7 : 0 ≤ σ.I 18 7 ∧ σ.I 18 7 ≤ 36499) (t32 : 0 ≤ σ.I 0 32 ∧ σ.I 0 32 ≤ 36500) (bd : rBD σ) (lo : LOX σ) (b27 : ∀ v, 0 ≤ v → v < 6000 → 0 ≤ σ.I 27 v ∧ σ.I 27 v < 600) : LAP σ := by
  have v1 := va.1
  have x29 := VA_29 va
  refine ⟨⟨⟨by omega, by omega⟩, fun v v0 v1' => ?_, fun t t0 t1 => ?_⟩, lo, t7, tu, bd.2.2.2.2.1, bd.2.2.2.2.2, t32, fun v v0 v1' => ?_⟩
  · have z := va.2.2.1 v v0 v1'
    have e1 := z.2.2.1
    have e2 := z.2.2.2.1
    have e3 := z.2.2.2.2.1
    have h := VA_hp va v v0 v1'
    have t := VA_tk va v v0 v1'
    have f := fl.1
    exact ⟨⟨z.1, z.2.1⟩, ⟨e2.2.2.1, by omega⟩, ⟨e3.1, by omega⟩, ⟨e1.2.1, by omega⟩, b27 v v0 (by omega)⟩
  · have a := bd.1.1 t t0 t1
    have b := bd.1.2.1 t t0 t1
    have c := bd.1.2.2.1 t t0 t1
    omega
  · obtain ⟨e1, e2, e3, e4, e5, e6, -⟩ := (va.2.2.1 v v0 v1').2.2
    refine ⟨fun w => ?_, fun i i0 i1 => ?_⟩
    · have y := (e5 w).2.2.2
      exact ⟨y.1, by unfold isWt; rw [y.2.1]; exact w⟩
    · by_cases c0 : σ.I 16 (σ.I 26 v) = 0
      · have y := ((e4 c0).2 i i0 i1).1
        exact ⟨y.1, fun z => by unfold isWt at z; rw [y.2.1] at z; omega⟩
      · exfalso
        have f := (fl.2 _ e1.2.1 e1.2.2).2.1
        by_cases c1 : σ.I 16 (σ.I 26 v) = 1
        · have := (e5 c1).2.1; omega
        · have := (e6 (by omega)).2.1; omega
theorem LAP_T {σ : Sto} (va : rVA σ) (fl : rFL σ) (te : rTE σ) (bd : rBD σ) (lo : LOX σ) (b27 : ∀ v, 0 ≤ v → v < 6000 → 0 ≤ σ.I 27 v ∧ σ.I 27 v < 600) : LAP σ := by
  have v1 := va.1
  have a := te.2.1
  have b := te.2.2.1
  exact LAP_V va fl te.1.2 (by omega) (by omega) bd lo b27
theorem LAP_k {κ κ' : Sto} (h : ∀ c : Nat, c < 555 → κ'.I c = κ.I c) (p : LAP κ) : LAP κ' := by
  have w : isWt κ' = isWt κ := by funext t; unfold isWt; rw [h 16 (by omega), h 20 (by omega)]
  have t : TU κ' ↔ TU κ := by unfold TU; rw [h 18 (by omega), h 19 (by omega), h 20 (by omega), h 21 (by omega)]
  unfold LAP BOX LOX ofsX bd_0_20 bd_0_12 at p ⊢
  rw [w, t, h 0 (by omega), h 16 (by omega), h 18 (by omega), h 20 (by omega), h 21 (by omega), h 26 (by omega), h 27 (by omega), h 28 (by omega), h 29 (by omega), h 31 (by omega), h 32 (by omega), h 33 (by omega), h 36 (by omega), h 39 (by omega), h 40 (by omega), h 41 (by omega), h 42 (by omega), h 43 (by omega)]
  exact p
theorem BOM_V {σ : Sto} (va : rVA σ) (fl : rFL σ) (bd : rBD σ) : BOM σ := by
  have v1 := va.1
  have x29 := VA_29 va
  refine ⟨by omega, va.2.1.1, fun v v0 v1' => ?_, bd.2.1⟩
  rw [← va.1.1.1] at v1'
  have z := va.2.2.1 v v0 v1'
  have e2 := z.2.2.2.1
  have e3 := z.2.2.2.2.1
  have h := VA_hp va v v0 v1'
  have ln := lnT_va va fl v v0 v1'
  have q := zb_in (isWv σ v)
  have m := VA_582 va fl (v + 1) (by omega) (by omega)
  refine ⟨?_, ⟨by omega, by omega⟩, by omega, by omega⟩
  rw [← e2.1, z.1]
  exact smP_cg (fun _ _ _ => Iff.rfl) (fun k k0 k1 _ => (va.2.2.1 k k0 (by omega)).2.2.2.1.2.1)
theorem LOM_V {σ : Sto} (va : rVA σ) (ob : rOB σ) (lo : LOX σ) : LOM σ := by
  have v1 := va.1
  have o1 := ob.1
  refine ⟨by omega, by omega, fun j j0 j1 jh => ?_, fun j k j0 jk k1 jh kh => ?_⟩
  · have z := ob.2.1 j j0 (by omega)
    have e := (z.2.2 (by omega)).1
    have lk := lo.2.2.2 j j0 (by omega)
    have b := ofs_b lo (show 0 ≤ j + 1 by omega)
    have c := ofs_b lo j0
    rw [ofs_lt (by omega)] at c
    omega
  · have z := ob.2.1 j j0 (by omega)
    have e := (z.2.2 (by omega)).1
    have z2 := ob.2.1 k (by omega) (by omega)
    have e2 := (z2.2.2 (by omega)).1
    have lk := lo.2.2.2 j j0 (by omega)
    have mo := ofs_mo lo (show 0 ≤ j + 1 by omega) (show j + 1 ≤ k by omega)
    rw [ofs_lt (show k < σ.I 0 39 by omega)] at mo
    omega

