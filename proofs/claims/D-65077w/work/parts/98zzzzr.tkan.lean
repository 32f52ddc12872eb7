/-! contracts: printed by tools/mk.py out of s98zzzzr_tkan.py -/
set_option maxRecDepth 100000
set_option maxHeartbeats 1200000
/-! two analysers that are alike give the same tokens -/
/-- row s of one, row t of the other -/
def rwE (σ τ : Sto) (s t : Int) : Prop := τ.I 564 t = σ.I 564 s ∧ ∀ j, 0 ≤ j → j < σ.I 564 s → τ.I 563 (20 * t + j) = σ.I 563 (20 * s + j)
theorem tdQ_e {σ τ : Sto} {s t : Int} {w : Int → Int} {n : Int} (h : rwE σ τ s t) : tdQ τ w n t ↔ tdQ σ w n s := by
  unfold tdQ eqA
  rw [h.1]
  refine and_congr_right fun q => ?_
  constructor
  · intro y j p0 p1
    rw [← h.2 j p0 (by omega)]
    exact y j p0 p1
  · intro y j p0 p1
    rw [h.2 j p0 (by omega)]
    exact y j p0 p1
theorem aT_e {s : TS} {n : Int} {r q : Int → Int} (h : ∀ j, 0 ≤ j → j < n → r j = q j) : aT s n r = aT s n q := by
  have e : nrm n r = nrm n q := by
    funext j
    unfold nrm
    split
    · rename_i z
      exact h j z.1 z.2
    · rfl
  have f : aTq s n r ↔ aTq s n q := by
    unfold aTq
    refine or_congr_right ?_
    constructor
    · rintro ⟨t, a, b, c, d⟩
      exact ⟨t, a, b, c, fun j p0 p1 => (d j p0 p1).trans (by rw [h (0 + j) (by omega) (by omega)])⟩
    · rintro ⟨t, a, b, c, d⟩
      exact ⟨t, a, b, c, fun j p0 p1 => (d j p0 p1).trans (by rw [h (0 + j) (by omega) (by omega)])⟩
  unfold aT
  rw [zb_iff f, e]
theorem syN_e {σ τ : Sto} {a b : Int} {w : Int → Int} {n : Int} {s : TS} : ∀ k : Nat, (∀ j : Nat, j < k → rwE σ τ (60 * a + 20 + 2 * j) (60 * b + 20 + 2 * j) ∧ rwE σ τ (60 * a + 20 + 2 * j + 1) (60 * b + 20 + 2 * j + 1)) → syN τ b w n s k = syN σ a w n s k := by
  intro k
  induction k with
  | zero => intro _; rfl
  | succ k ih =>
    intro h
    have i := ih (fun j hj => h j (by omega))
    have z := h k (by omega)
    show (if zb (tdQ τ w n (60 * b + 20 + 2 * k)) = 1 then aT (syN τ b w n s k) (τ.I 564 (60 * b + 20 + 2 * k + 1)) (fun j => τ.I 563 (20 * (60 * b + 20 + 2 * k + 1) + j)) else syN τ b w n s k) = (if zb (tdQ σ w n (60 * a + 20 + 2 * k)) = 1 then aT (syN σ a w n s k) (σ.I 564 (60 * a + 20 + 2 * k + 1)) (fun j => σ.I 563 (20 * (60 * a + 20 + 2 * k + 1) + j)) else syN σ a w n s k)
    rw [zb_iff (tdQ_e z.1), i, z.2.1, aT_e (fun j p0 p1 => z.2.2 j p0 p1)]
theorem tk_an {σ τ : Sto} {a b : Int} (e8 : τ.I 558 b = σ.I 558 a) (e9 : τ.I 559 b = σ.I 559 a) (e0 : τ.I 560 b = σ.I 560 a) (e1 : τ.I 561 b = σ.I 561 a) (e2 : τ.I 562 b = σ.I 562 a) (hs : ∀ k, 0 ≤ k → k < σ.I 561 a → rwE σ τ (60 * a + k) (60 * b + k))
    (hw : ∀ k, 0 ≤ k → k < σ.I 562 a → rwE σ τ (60 * a + 20 + 2 * k) (60 * b + 20 + 2 * k) ∧ rwE σ τ (60 * a + 20 + 2 * k + 1) (60 * b + 20 + 2 * k + 1)) : tk τ b = tk σ a := by
  have w1 : wF τ b = wF σ a := by funext A f n k; unfold wF; rw [e8]
  have s1 : ∀ w n, isSt τ b w n ↔ isSt σ a w n := by
    intro w n
    unfold isSt
    rw [e1]
    constructor
    · rintro ⟨k, p0, p1, q⟩
      exact ⟨k, p0, p1, (tdQ_e (hs k p0 p1)).mp q⟩
    · rintro ⟨k, p0, p1, q⟩
      exact ⟨k, p0, p1, (tdQ_e (hs k p0 p1)).mpr q⟩
  have t1 : wT1 τ b = wT1 σ a := by funext w n; unfold wT1; rw [e9, e0]
  have t2 : wT τ b = wT σ a := by
    funext w n
    unfold wT sy
    rw [e2, t1]
    exact syN_e _ (fun j hj => hw j (by omega) (by omega))
  have t3 : tkS τ b = tkS σ a := by
    funext A f to s
    unfold tkS
    rw [w1, t2, zb_iff (s1 _ _)]
  funext A f to i p l
  unfold tk
  rw [t3]

