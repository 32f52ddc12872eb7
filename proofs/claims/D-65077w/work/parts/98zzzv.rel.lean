/-! contracts: printed by tools/mk.py out of s98zzzv_rel.py -/
set_option maxRecDepth 100000
set_option maxHeartbeats 800000
/-! the relation of both stores: blocks, their places, their congruences -/
/-- the tapes -/
def rTP (σ : Sto) : Prop := (σ.I 0 1 = σ.I 555 2 ∧ 0 ≤ σ.I 0 1) ∧ ∀ i, 0 ≤ i → i < 30000 → σ.I 1 i = σ.I 557 i
def fTP (c : Nat) (i : Int) : Prop := c = 1 ∨ c = 557 ∨ (c = 0 ∧ (i = 1)) ∨ (c = 555 ∧ (i = 2))
theorem rTP_cg {σ τ : Sto} (h : ∀ c i, fTP c i → τ.I c i = σ.I c i) (r : rTP σ) : rTP τ := by
  have e1 : τ.I 1 = σ.I 1 := funext fun i => h 1 i (by unfold fTP; omega)
  have e557 : τ.I 557 = σ.I 557 := funext fun i => h 557 i (by unfold fTP; omega)
  have e0_1 : τ.I 0 1 = σ.I 0 1 := h 0 1 (by unfold fTP; omega)
  have e555_2 : τ.I 555 2 = σ.I 555 2 := h 555 2 (by unfold fTP; omega)
  have q : rTP τ = rTP σ := by
    simp only [rTP, e1, e557, e0_1, e555_2]
  rw [q]
  exact r
/-- the fields -/
def rFL (σ : Sto) : Prop := (σ.I 0 9 = σ.I 555 27 ∧ 0 ≤ σ.I 0 9 ∧ σ.I 0 9 ≤ 12) ∧ ∀ f, 0 ≤ f → f < σ.I 0 9 → (σ.I 16 f = σ.I 577 f ∧ σ.I 17 f = σ.I 578 f) ∧ (0 ≤ σ.I 16 f ∧ σ.I 16 f ≤ 4) ∧ (σ.I 16 f = 0 → 0 ≤ σ.I 17 f ∧ σ.I 17 f < σ.I 0 4) ∧ (σ.I 16 f ≠ 0 → σ.I 17 f = 0)
def fFL (c : Nat) (i : Int) : Prop := c = 16 ∨ c = 17 ∨ c = 577 ∨ c = 578 ∨ (c = 0 ∧ (i = 4 ∨ i = 9)) ∨ (c = 555 ∧ (i = 27))
theorem rFL_cg {σ τ : Sto} (h : ∀ c i, fFL c i → τ.I c i = σ.I c i) (r : rFL σ) : rFL τ := by
  have e16 : τ.I 16 = σ.I 16 := funext fun i => h 16 i (by unfold fFL; omega)
  have e17 : τ.I 17 = σ.I 17 := funext fun i => h 17 i (by unfold fFL; omega)
  have e577 : τ.I 577 = σ.I 577 := funext fun i => h 577 i (by unfold fFL; omega)
  have e578 : τ.I 578 = σ.I 578 := funext fun i => h 578 i (by unfold fFL; omega)
  have e0_4 : τ.I 0 4 = σ.I 0 4 := h 0 4 (by unfold fFL; omega)
  have e0_9 : τ.I 0 9 = σ.I 0 9 := h 0 9 (by unfold fFL; omega)
  have e555_27 : τ.I 555 27 = σ.I 555 27 := h 555 27 (by unfold fFL; omega)
  have q : rFL τ = rFL σ := by
    simp only [rFL, e16, e17, e577, e578, e0_4, e0_9, e555_27]
  rw [q]
  exact r
/-- the versions -/
def rVS (σ : Sto) : Prop := (σ.I 0 40 = σ.I 555 53 ∧ σ.I 0 41 = σ.I 555 54 ∧ σ.I 0 42 = σ.I 555 55) ∧ ((0 ≤ σ.I 0 40 ∧ σ.I 0 40 ≤ σ.I 0 41) ∧ 0 ≤ σ.I 0 42 ∧ σ.I 0 42 ≤ σ.I 0 41) ∧ ∀ i, 0 ≤ i → i < 4 → σ.I 48 i = σ.I 597 i ∧ -1 ≤ σ.I 48 i ∧ σ.I 48 i ≤ σ.I 0 41
def fVS (c : Nat) (i : Int) : Prop := c = 48 ∨ c = 597 ∨ (c = 0 ∧ (i = 40 ∨ i = 41 ∨ i = 42)) ∨ (c = 555 ∧ (i = 53 ∨ i = 54 ∨ i = 55))
theorem rVS_cg {σ τ : Sto} (h : ∀ c i, fVS c i → τ.I c i = σ.I c i) (r : rVS σ) : rVS τ := by
  have e48 : τ.I 48 = σ.I 48 := funext fun i => h 48 i (by unfold fVS; omega)
  have e597 : τ.I 597 = σ.I 597 := funext fun i => h 597 i (by unfold fVS; omega)
  have e0_40 : τ.I 0 40 = σ.I 0 40 := h 0 40 (by unfold fVS; omega)
  have e0_41 : τ.I 0 41 = σ.I 0 41 := h 0 41 (by unfold fVS; omega)
  have e0_42 : τ.I 0 42 = σ.I 0 42 := h 0 42 (by unfold fVS; omega)
  have e555_53 : τ.I 555 53 = σ.I 555 53 := h 555 53 (by unfold fVS; omega)
  have e555_54 : τ.I 555 54 = σ.I 555 54 := h 555 54 (by unfold fVS; omega)
  have e555_55 : τ.I 555 55 = σ.I 555 55 := h 555 55 (by unfold fVS; omega)
  have q : rVS τ = rVS σ := by
    simp only [rVS, e48, e597, e0_40, e0_41, e0_42, e555_53, e555_54, e555_55]
  rw [q]
  exact r
/-- an object that is held: alike in both; its parent is held, came before it and goes not before it -/
def hOb (σ : Sto) (o : Int) : Prop := (σ.I 44 o = σ.I 591 o ∧ σ.I 45 o = σ.I 592 o ∧ σ.I 46 o = σ.I 593 o ∧ σ.I 42 o = σ.I 595 o ∧ σ.I 43 o = σ.I 596 o) ∧ (0 ≤ σ.I 45 o ∧ σ.I 45 o ≤ σ.I 0 41 + 1 ∧ σ.I 45 o ≤ σ.I 46 o) ∧ (σ.I 46 o = 2147483647 ∨ σ.I 46 o ≤ σ.I 0 41 + 1) ∧ (0 ≤ σ.I 44 o → σ.I 47 (σ.I 44 o) = 1 ∧ σ.I 45 (σ.I 44 o) ≤ σ.I 45 o ∧ σ.I 46 o ≤ σ.I 46 (σ.I 44 o))
/-- the objects -/
def rOB (σ : Sto) : Prop := (σ.I 0 39 = σ.I 555 52 ∧ 0 ≤ σ.I 0 39 ∧ σ.I 0 39 ≤ 600) ∧ (∀ o, 0 ≤ o → o < σ.I 0 39 → σ.I 47 o = σ.I 594 o ∧ (σ.I 47 o = 0 ∨ σ.I 47 o = 1) ∧ (σ.I 47 o = 1 → hOb σ o)) ∧ tre σ 44 (σ.I 0 39) ∧ OB σ 42 43 ∧ OB σ 595 596 ∧ bd_m1_599 σ 591 601
def fOB (c : Nat) (i : Int) : Prop := c = 42 ∨ c = 43 ∨ c = 44 ∨ c = 45 ∨ c = 46 ∨ c = 47 ∨ c = 591 ∨ c = 592 ∨ c = 593 ∨ c = 594 ∨ c = 595 ∨ c = 596 ∨ (c = 0 ∧ (i = 39 ∨ i = 41)) ∨ (c = 555 ∧ (i = 52))
theorem rOB_cg {σ τ : Sto} (h : ∀ c i, fOB c i → τ.I c i = σ.I c i) (r : rOB σ) : rOB τ := by
  have e42 : τ.I 42 = σ.I 42 := funext fun i => h 42 i (by unfold fOB; omega)
  have e43 : τ.I 43 = σ.I 43 := funext fun i => h 43 i (by unfold fOB; omega)
  have e44 : τ.I 44 = σ.I 44 := funext fun i => h 44 i (by unfold fOB; omega)
  have e45 : τ.I 45 = σ.I 45 := funext fun i => h 45 i (by unfold fOB; omega)
  have e46 : τ.I 46 = σ.I 46 := funext fun i => h 46 i (by unfold fOB; omega)
  have e47 : τ.I 47 = σ.I 47 := funext fun i => h 47 i (by unfold fOB; omega)
  have e591 : τ.I 591 = σ.I 591 := funext fun i => h 591 i (by unfold fOB; omega)
  have e592 : τ.I 592 = σ.I 592 := funext fun i => h 592 i (by unfold fOB; omega)
  have e593 : τ.I 593 = σ.I 593 := funext fun i => h 593 i (by unfold fOB; omega)
  have e594 : τ.I 594 = σ.I 594 := funext fun i => h 594 i (by unfold fOB; omega)
  have e595 : τ.I 595 = σ.I 595 := funext fun i => h 595 i (by unfold fOB; omega)
  have e596 : τ.I 596 = σ.I 596 := funext fun i => h 596 i (by unfold fOB; omega)
  have e0_39 : τ.I 0 39 = σ.I 0 39 := h 0 39 (by unfold fOB; omega)
  have e0_41 : τ.I 0 41 = σ.I 0 41 := h 0 41 (by unfold fOB; omega)
  have e555_52 : τ.I 555 52 = σ.I 555 52 := h 555 52 (by unfold fOB; omega)
  have q : rOB τ = rOB σ := by
    simp only [rOB, hOb, tre, OB, bd_m1_599, e42, e43, e44, e45, e46, e47, e591, e592, e593, e594, e595, e596, e0_39, e0_41, e555_52]
  rw [q]
  exact r
/-- token a of the program is token b of the model -/
def tkE (σ : Sto) (a b f v : Int) : Prop := ((0 ≤ σ.I 36 a ∧ σ.I 36 a < σ.I 18 7) ∧ σ.I 20 (σ.I 36 a) = f ∧ σ.I 21 (σ.I 36 a) = σ.I 587 b ∧ ∀ k, 0 ≤ k → k < σ.I 587 b → σ.I 19 (20 * σ.I 36 a + k) = σ.I 586 (20 * b + k)) ∧ (σ.I 39 a = σ.I 590 b ∧ σ.I 40 a = σ.I 588 b ∧ σ.I 41 a = σ.I 589 b) ∧ σ.I 38 a = v
/-- the WORD v of the program is token b of the model -/
def wdE (σ : Sto) (v b : Int) : Prop := (0 ≤ σ.I 33 v ∧ σ.I 33 v < σ.I 18 7) ∧ σ.I 20 (σ.I 33 v) = σ.I 26 v ∧ σ.I 21 (σ.I 33 v) = σ.I 587 b ∧ ∀ k, 0 ≤ k → k < σ.I 587 b → σ.I 19 (20 * σ.I 33 v + k) = σ.I 586 (20 * b + k)
/-- value v of both -/
def vaE (σ : Sto) (v : Int) : Prop := (σ.I 26 v = σ.I 579 v ∧ 0 ≤ σ.I 26 v ∧ σ.I 26 v < σ.I 0 9) ∧ (σ.I 28 v = σ.I 580 v ∧ σ.I 29 v = σ.I 581 v ∧ 0 ≤ σ.I 29 v ∧ σ.I 29 v ≤ 1000) ∧ (0 ≤ σ.I 32 v ∧ σ.I 32 v ≤ 250) ∧
  (σ.I 16 (σ.I 26 v) = 0 → σ.I 582 (v + 1) = σ.I 582 v + σ.I 32 v ∧ ∀ j, 0 ≤ j → j < σ.I 32 v → tkE σ (σ.I 31 v + j) (σ.I 582 v + j) (σ.I 26 v) v) ∧
  (σ.I 16 (σ.I 26 v) = 1 → σ.I 582 (v + 1) = σ.I 582 v + 1 ∧ σ.I 32 v = 0 ∧ 1 ≤ σ.I 29 v ∧ wdE σ v (σ.I 582 v)) ∧
  (2 ≤ σ.I 16 (σ.I 26 v) → σ.I 582 (v + 1) = σ.I 582 v ∧ σ.I 32 v = 0 ∧ σ.I 29 v = 0) ∧ (σ.I 16 (σ.I 26 v) = 2 → σ.I 30 v = σ.I 583 v) ∧
  (σ.I 16 (σ.I 26 v) = 3 → σ.I 30 v = pk2 (σ.I 584 (4 * v)) (σ.I 584 (4 * v + 1)) ∧ (-1000000 ≤ σ.I 584 (4 * v) ∧ σ.I 584 (4 * v) ≤ 1000000) ∧ -1000000 ≤ σ.I 584 (4 * v + 1) ∧ σ.I 584 (4 * v + 1) ≤ 1000000) ∧
  (σ.I 16 (σ.I 26 v) = 4 → σ.I 30 v = pk4 (σ.I 584 (4 * v)) (σ.I 584 (4 * v + 1)) (σ.I 584 (4 * v + 2)) (σ.I 584 (4 * v + 3)) ∧ ∀ j, 0 ≤ j → j < 4 → -1000 ≤ σ.I 584 (4 * v + j) ∧ σ.I 584 (4 * v + j) ≤ 1000)
/-- the values -/
def rVA (σ : Sto) : Prop := ((σ.I 0 20 = σ.I 555 30 ∧ σ.I 0 31 = σ.I 555 45 ∧ σ.I 0 22 = σ.I 555 38 ∧ σ.I 555 44 = σ.I 0 29 + σ.I 0 30) ∧ (0 ≤ σ.I 0 31 ∧ σ.I 0 31 ≤ σ.I 0 20 ∧ σ.I 0 20 ≤ 6000 ∧ σ.I 0 20 ≤ σ.I 0 31 + 24) ∧ σ.I 0 22 ≤ 60000 ∧ σ.I 0 29 + σ.I 0 30 ≤ 24000) ∧ (σ.I 582 0 = 0 ∧ σ.I 582 (σ.I 555 30) = σ.I 555 44 ∧ σ.I 0 22 = smP (fun _ => True) (σ.I 29) (σ.I 0 20) ∧ σ.I 0 29 = smP (fun _ => True) (σ.I 32) (σ.I 0 20) ∧ σ.I 0 30 = cn (isWv σ) (σ.I 0 20)) ∧ (∀ v, 0 ≤ v → v < σ.I 0 20 → σ.I 28 v = smP (fun _ => True) (σ.I 29) v ∧ σ.I 31 v = smP (fun _ => True) (σ.I 32) v ∧ vaE σ v) ∧ ∀ i, 0 ≤ i → i < σ.I 0 22 → σ.I 35 i = σ.I 585 i
def fVA (c : Nat) (i : Int) : Prop := c = 16 ∨ c = 19 ∨ c = 20 ∨ c = 21 ∨ c = 26 ∨ c = 28 ∨ c = 29 ∨ c = 30 ∨ c = 31 ∨ c = 32 ∨ c = 33 ∨ c = 35 ∨ c = 36 ∨ c = 38 ∨ c = 39 ∨ c = 40 ∨ c = 41 ∨ c = 579 ∨ c = 580 ∨ c = 581 ∨ c = 582 ∨ c = 583 ∨ c = 584 ∨ c = 585 ∨ c = 586 ∨ c = 587 ∨ c = 588 ∨ c = 589 ∨ c = 590 ∨ (c = 0 ∧ (i = 9 ∨ i = 20 ∨ i = 22 ∨ i = 29 ∨ i = 30 ∨ i = 31)) ∨ (c = 18 ∧ (i = 7)) ∨ (c = 555 ∧ (i = 30 ∨ i = 38 ∨ i = 44 ∨ i = 45))
theorem rVA_cg {σ τ : Sto} (h : ∀ c i, fVA c i → τ.I c i = σ.I c i) (r : rVA σ) : rVA τ := by
  have e16 : τ.I 16 = σ.I 16 := funext fun i => h 16 i (by unfold fVA; omega)
  have e19 : τ.I 19 = σ.I 19 := funext fun i => h 19 i (by unfold fVA; omega)
  have e20 : τ.I 20 = σ.I 20 := funext fun i => h 20 i (by unfold fVA; omega)
  have e21 : τ.I 21 = σ.I 21 := funext fun i => h 21 i (by unfold fVA; omega)
  have e26 : τ.I 26 = σ.I 26 := funext fun i => h 26 i (by unfold fVA; omega)
  have e28 : τ.I 28 = σ.I 28 := funext fun i => h 28 i (by unfold fVA; omega)
  have e29 : τ.I 29 = σ.I 29 := funext fun i => h 29 i (by unfold fVA; omega)
  have e30 : τ.I 30 = σ.I 30 := funext fun i => h 30 i (by unfold fVA; omega)
  have e31 : τ.I 31 = σ.I 31 := funext fun i => h 31 i (by unfold fVA; omega)
  have e32 : τ.I 32 = σ.I 32 := funext fun i => h 32 i (by unfold fVA; omega)
  have e33 : τ.I 33 = σ.I 33 := funext fun i => h 33 i (by unfold fVA; omega)
  have e35 : τ.I 35 = σ.I 35 := funext fun i => h 35 i (by unfold fVA; omega)
  have e36 : τ.I 36 = σ.I 36 := funext fun i => h 36 i (by unfold fVA; omega)
  have e38 : τ.I 38 = σ.I 38 := funext fun i => h 38 i (by unfold fVA; omega)
  have e39 : τ.I 39 = σ.I 39 := funext fun i => h 39 i (by unfold fVA; omega)
  have e40 : τ.I 40 = σ.I 40 := funext fun i => h 40 i (by unfold fVA; omega)
  have e41 : τ.I 41 = σ.I 41 := funext fun i => h 41 i (by unfold fVA; omega)
  have e579 : τ.I 579 = σ.I 579 := funext fun i => h 579 i (by unfold fVA; omega)
  have e580 : τ.I 580 = σ.I 580 := funext fun i => h 580 i (by unfold fVA; omega)
  have e581 : τ.I 581 = σ.I 581 := funext fun i => h 581 i (by unfold fVA; omega)
  have e582 : τ.I 582 = σ.I 582 := funext fun i => h 582 i (by unfold fVA; omega)
  have e583 : τ.I 583 = σ.I 583 := funext fun i => h 583 i (by unfold fVA; omega)
  have e584 : τ.I 584 = σ.I 584 := funext fun i => h 584 i (by unfold fVA; omega)
  have e585 : τ.I 585 = σ.I 585 := funext fun i => h 585 i (by unfold fVA; omega)
  have e586 : τ.I 586 = σ.I 586 := funext fun i => h 586 i (by unfold fVA; omega)
  have e587 : τ.I 587 = σ.I 587 := funext fun i => h 587 i (by unfold fVA; omega)
  have e588 : τ.I 588 = σ.I 588 := funext fun i => h 588 i (by unfold fVA; omega)
  have e589 : τ.I 589 = σ.I 589 := funext fun i => h 589 i (by unfold fVA; omega)
  have e590 : τ.I 590 = σ.I 590 := funext fun i => h 590 i (by unfold fVA; omega)
  have e0_9 : τ.I 0 9 = σ.I 0 9 := h 0 9 (by unfold fVA; omega)
  have e0_20 : τ.I 0 20 = σ.I 0 20 := h 0 20 (by unfold fVA; omega)
  have e0_22 : τ.I 0 22 = σ.I 0 22 := h 0 22 (by unfold fVA; omega)
  have e0_29 : τ.I 0 29 = σ.I 0 29 := h 0 29 (by unfold fVA; omega)
  have e0_30 : τ.I 0 30 = σ.I 0 30 := h 0 30 (by unfold fVA; omega)
  have e0_31 : τ.I 0 31 = σ.I 0 31 := h 0 31 (by unfold fVA; omega)
  have e18_7 : τ.I 18 7 = σ.I 18 7 := h 18 7 (by unfold fVA; omega)
  have e555_30 : τ.I 555 30 = σ.I 555 30 := h 555 30 (by unfold fVA; omega)
  have e555_38 : τ.I 555 38 = σ.I 555 38 := h 555 38 (by unfold fVA; omega)
  have e555_44 : τ.I 555 44 = σ.I 555 44 := h 555 44 (by unfold fVA; omega)
  have e555_45 : τ.I 555 45 = σ.I 555 45 := h 555 45 (by unfold fVA; omega)
  have gisWv : isWv τ = isWv σ := by funext a; unfold isWv; rw [e16, e26]
  have q : rVA τ = rVA σ := by
    simp only [rVA, vaE, wdE, tkE, e16, e19, e20, e21, e26, e28, e29, e30, e31, e32, e33, e35, e36, e38, e39, e40, e41, e579, e580, e581, e582, e583, e584, e585, e586, e587, e588, e589, e590, e0_9, e0_20, e0_22, e0_29, e0_30, e0_31, e18_7, e555_30, e555_38, e555_44, e555_45, gisWv]
  rw [q]
  exact r
/-- bounds of rows of tokens -/
def rBD (σ : Sto) : Prop := (bd_0_499 σ 39 24000 ∧ bd_0_1000 σ 40 24000 ∧ bd_0_1000 σ 41 24000 ∧ bd_0_250 σ 32 6000) ∧ bd_0_20 σ 587 24000 ∧ bd_0_499 σ 590 24000 ∧ bd_m1000000_1000000 σ 584 24000 ∧ bd_0_20 σ 21 36500 ∧ bd_0_12 σ 20 36500
def fBD (c : Nat) (i : Int) : Prop := c = 20 ∨ c = 21 ∨ c = 32 ∨ c = 39 ∨ c = 40 ∨ c = 41 ∨ c = 584 ∨ c = 587 ∨ c = 590
theorem rBD_cg {σ τ : Sto} (h : ∀ c i, fBD c i → τ.I c i = σ.I c i) (r : rBD σ) : rBD τ := by
  have e20 : τ.I 20 = σ.I 20 := funext fun i => h 20 i (by unfold fBD; omega)
  have e21 : τ.I 21 = σ.I 21 := funext fun i => h 21 i (by unfold fBD; omega)
  have e32 : τ.I 32 = σ.I 32 := funext fun i => h 32 i (by unfold fBD; omega)
  have e39 : τ.I 39 = σ.I 39 := funext fun i => h 39 i (by unfold fBD; omega)
  have e40 : τ.I 40 = σ.I 40 := funext fun i => h 40 i (by unfold fBD; omega)
  have e41 : τ.I 41 = σ.I 41 := funext fun i => h 41 i (by unfold fBD; omega)
  have e584 : τ.I 584 = σ.I 584 := funext fun i => h 584 i (by unfold fBD; omega)
  have e587 : τ.I 587 = σ.I 587 := funext fun i => h 587 i (by unfold fBD; omega)
  have e590 : τ.I 590 = σ.I 590 := funext fun i => h 590 i (by unfold fBD; omega)
  have q : rBD τ = rBD σ := by
    simp only [rBD, bd_0_499, bd_0_1000, bd_0_250, bd_0_20, bd_m1000000_1000000, bd_0_12, e20, e21, e32, e39, e40, e41, e584, e587, e590]
  rw [q]
  exact r
/-- the terms of the program -/
def rTE (σ : Sto) : Prop := (TC σ ∧ TU σ) ∧ (0 ≤ σ.I 18 7 ∧ σ.I 18 7 ≤ σ.I 0 29 + σ.I 0 30 + 6000) ∧ (0 ≤ σ.I 0 32 ∧ σ.I 0 32 ≤ σ.I 18 7 ∧ σ.I 0 32 ≤ smP (fun _ => True) (σ.I 32) (σ.I 0 31) + cn (isWv σ) (σ.I 0 31) + 6000) ∧ DTX σ ∧ (∀ s, 0 ≤ s → s < σ.I 18 7 → 0 ≤ σ.I 20 s ∧ σ.I 20 s < σ.I 0 9) ∧ PT σ (tkAt σ (σ.I 0 31)) ∧ PW σ (σ.I 0 31)
def fTE (c : Nat) (i : Int) : Prop := c = 16 ∨ c = 19 ∨ c = 20 ∨ c = 21 ∨ c = 22 ∨ c = 23 ∨ c = 24 ∨ c = 25 ∨ c = 26 ∨ c = 31 ∨ c = 32 ∨ c = 33 ∨ c = 34 ∨ c = 36 ∨ c = 37 ∨ (c = 0 ∧ (i = 9 ∨ i = 20 ∨ i = 29 ∨ i = 30 ∨ i = 31 ∨ i = 32)) ∨ (c = 18 ∧ (i = 7))
theorem rTE_cg {σ τ : Sto} (h : ∀ c i, fTE c i → τ.I c i = σ.I c i) (r : rTE σ) : rTE τ := by
  have e16 : τ.I 16 = σ.I 16 := funext fun i => h 16 i (by unfold fTE; omega)
  have e19 : τ.I 19 = σ.I 19 := funext fun i => h 19 i (by unfold fTE; omega)
  have e20 : τ.I 20 = σ.I 20 := funext fun i => h 20 i (by unfold fTE; omega)
  have e21 : τ.I 21 = σ.I 21 := funext fun i => h 21 i (by unfold fTE; omega)
  have e22 : τ.I 22 = σ.I 22 := funext fun i => h 22 i (by unfold fTE; omega)
  have e23 : τ.I 23 = σ.I 23 := funext fun i => h 23 i (by unfold fTE; omega)
  have e24 : τ.I 24 = σ.I 24 := funext fun i => h 24 i (by unfold fTE; omega)
  have e25 : τ.I 25 = σ.I 25 := funext fun i => h 25 i (by unfold fTE; omega)
  have e26 : τ.I 26 = σ.I 26 := funext fun i => h 26 i (by unfold fTE; omega)
  have e31 : τ.I 31 = σ.I 31 := funext fun i => h 31 i (by unfold fTE; omega)
  have e32 : τ.I 32 = σ.I 32 := funext fun i => h 32 i (by unfold fTE; omega)
  have e33 : τ.I 33 = σ.I 33 := funext fun i => h 33 i (by unfold fTE; omega)
  have e34 : τ.I 34 = σ.I 34 := funext fun i => h 34 i (by unfold fTE; omega)
  have e36 : τ.I 36 = σ.I 36 := funext fun i => h 36 i (by unfold fTE; omega)
  have e37 : τ.I 37 = σ.I 37 := funext fun i => h 37 i (by unfold fTE; omega)
  have e0_9 : τ.I 0 9 = σ.I 0 9 := h 0 9 (by unfold fTE; omega)
  have e0_20 : τ.I 0 20 = σ.I 0 20 := h 0 20 (by unfold fTE; omega)
  have e0_29 : τ.I 0 29 = σ.I 0 29 := h 0 29 (by unfold fTE; omega)
  have e0_30 : τ.I 0 30 = σ.I 0 30 := h 0 30 (by unfold fTE; omega)
  have e0_31 : τ.I 0 31 = σ.I 0 31 := h 0 31 (by unfold fTE; omega)
  have e0_32 : τ.I 0 32 = σ.I 0 32 := h 0 32 (by unfold fTE; omega)
  have e18_7 : τ.I 18 7 = σ.I 18 7 := h 18 7 (by unfold fTE; omega)
  have gisWv : isWv τ = isWv σ := by funext a; unfold isWv; rw [e16, e26]
  have gisWt : isWt τ = isWt σ := by funext a; unfold isWt; rw [e16, e20]
  have gtkQ : tkQ τ = tkQ σ := by funext a b; unfold tkQ; rw [e36]
  have gwkQ : wkQ τ = wkQ σ := by funext a b; unfold wkQ; rw [e16, e26, e33]
  have ghT : hT τ = hT σ := by funext a; unfold hT; rw [e19, e20, e21]
  have q : rTE τ = rTE σ := by
    simp only [rTE, TC, TC1, TC2, TU, DTX, PT, PW, tkAt, e16, e19, e20, e21, e22, e23, e24, e25, e26, e31, e32, e33, e34, e36, e37, e0_9, e0_20, e0_29, e0_30, e0_31, e0_32, e18_7, gisWv, gisWt, gtkQ, gwkQ, ghT]
  rw [q]
  exact r
/-- how objects lie -/
def rPK (σ : Sto) : Prop := LOX σ ∧ (∀ o, 0 ≤ o → o < σ.I 0 39 → (σ.I 47 o = 0 → σ.I 43 o = 0) ∧ ∀ j, 0 ≤ j → j < σ.I 43 o → σ.I 27 (σ.I 42 o + j) = o) ∧ (∀ v, 0 ≤ v → v < 6000 → 0 ≤ σ.I 27 v ∧ σ.I 27 v < 600)
def fPK (c : Nat) (i : Int) : Prop := c = 27 ∨ c = 42 ∨ c = 43 ∨ c = 47 ∨ (c = 0 ∧ (i = 20 ∨ i = 31 ∨ i = 39))
theorem rPK_cg {σ τ : Sto} (h : ∀ c i, fPK c i → τ.I c i = σ.I c i) (r : rPK σ) : rPK τ := by
  have e27 : τ.I 27 = σ.I 27 := funext fun i => h 27 i (by unfold fPK; omega)
  have e42 : τ.I 42 = σ.I 42 := funext fun i => h 42 i (by unfold fPK; omega)
  have e43 : τ.I 43 = σ.I 43 := funext fun i => h 43 i (by unfold fPK; omega)
  have e47 : τ.I 47 = σ.I 47 := funext fun i => h 47 i (by unfold fPK; omega)
  have e0_20 : τ.I 0 20 = σ.I 0 20 := h 0 20 (by unfold fPK; omega)
  have e0_31 : τ.I 0 31 = σ.I 0 31 := h 0 31 (by unfold fPK; omega)
  have e0_39 : τ.I 0 39 = σ.I 0 39 := h 0 39 (by unfold fPK; omega)
  have q : rPK τ = rPK σ := by
    simp only [rPK, LOX, ofsX, e27, e42, e43, e47, e0_20, e0_31, e0_39]
  rw [q]
  exact r
/-- users -/
def rUS (σ : Sto) : Prop := (σ.I 0 46 = σ.I 555 61 ∧ 0 ≤ σ.I 0 46 ∧ σ.I 0 46 < 4) ∧ ∀ f, 0 ≤ f → f < 12 → ((σ.I 600 (12 + f) = 0 ∨ σ.I 600 (12 + f) = 1) ∧ (bt32 (σ.I 230 2) f ↔ σ.I 600 (12 + f) = 1)) ∧ ((σ.I 600 (24 + f) = 0 ∨ σ.I 600 (24 + f) = 1) ∧ (bt32 (σ.I 245 2) f ↔ σ.I 600 (24 + f) = 1)) ∧ (σ.I 600 (36 + f) = 0 ∨ σ.I 600 (36 + f) = 1) ∧ (bt32 (σ.I 260 2) f ↔ σ.I 600 (36 + f) = 1)
def fUS (c : Nat) (i : Int) : Prop := c = 600 ∨ (c = 0 ∧ (i = 46)) ∨ (c = 230 ∧ (i = 2)) ∨ (c = 245 ∧ (i = 2)) ∨ (c = 260 ∧ (i = 2)) ∨ (c = 555 ∧ (i = 61))
theorem rUS_cg {σ τ : Sto} (h : ∀ c i, fUS c i → τ.I c i = σ.I c i) (r : rUS σ) : rUS τ := by
  have e600 : τ.I 600 = σ.I 600 := funext fun i => h 600 i (by unfold fUS; omega)
  have e0_46 : τ.I 0 46 = σ.I 0 46 := h 0 46 (by unfold fUS; omega)
  have e230_2 : τ.I 230 2 = σ.I 230 2 := h 230 2 (by unfold fUS; omega)
  have e245_2 : τ.I 245 2 = σ.I 245 2 := h 245 2 (by unfold fUS; omega)
  have e260_2 : τ.I 260 2 = σ.I 260 2 := h 260 2 (by unfold fUS; omega)
  have e555_61 : τ.I 555 61 = σ.I 555 61 := h 555 61 (by unfold fUS; omega)
  have q : rUS τ = rUS σ := by
    simp only [rUS, e600, e0_46, e230_2, e245_2, e260_2, e555_61]
  rw [q]
  exact r
/-- formula and order -/
def rFO (σ : Sto) : Prop := (σ.I 0 63 = σ.I 555 98 ∧ 0 ≤ σ.I 0 63 ∧ σ.I 0 63 ≤ 2) ∧ (σ.I 0 64 = σ.I 555 131 ∧ -1 ≤ σ.I 0 64 ∧ σ.I 0 64 < 12) ∧ σ.I 0 65 = σ.I 555 132 ∧ 0 ≤ σ.I 0 65 ∧ σ.I 0 65 ≤ 1
def fFO (c : Nat) (i : Int) : Prop := (c = 0 ∧ (i = 63 ∨ i = 64 ∨ i = 65)) ∨ (c = 555 ∧ (i = 98 ∨ i = 131 ∨ i = 132))
theorem rFO_cg {σ τ : Sto} (h : ∀ c i, fFO c i → τ.I c i = σ.I c i) (r : rFO σ) : rFO τ := by
  have e0_63 : τ.I 0 63 = σ.I 0 63 := h 0 63 (by unfold fFO; omega)
  have e0_64 : τ.I 0 64 = σ.I 0 64 := h 0 64 (by unfold fFO; omega)
  have e0_65 : τ.I 0 65 = σ.I 0 65 := h 0 65 (by unfold fFO; omega)
  have e555_98 : τ.I 555 98 = σ.I 555 98 := h 555 98 (by unfold fFO; omega)
  have e555_131 : τ.I 555 131 = σ.I 555 131 := h 555 131 (by unfold fFO; omega)
  have e555_132 : τ.I 555 132 = σ.I 555 132 := h 555 132 (by unfold fFO; omega)
  have q : rFO τ = rFO σ := by
    simp only [rFO, e0_63, e0_64, e0_65, e555_98, e555_131, e555_132]
  rw [q]
  exact r
/-- shards and nodes -/
def rSH (σ : Sto) : Prop := (σ.I 0 95 = σ.I 555 57 ∧ 1 ≤ σ.I 0 95 ∧ σ.I 0 95 ≤ 8) ∧ (σ.I 0 96 = σ.I 555 58 ∧ 1 ≤ σ.I 0 96 ∧ σ.I 0 96 ≤ 8) ∧ ∀ i, 0 ≤ i → i < 8 → σ.I 210 i = σ.I 598 i ∧ (σ.I 210 i = 0 ∨ σ.I 210 i = 1) ∧ σ.I 211 i = σ.I 599 i ∧ 0 ≤ σ.I 211 i
def fSH (c : Nat) (i : Int) : Prop := c = 210 ∨ c = 211 ∨ c = 598 ∨ c = 599 ∨ (c = 0 ∧ (i = 95 ∨ i = 96)) ∨ (c = 555 ∧ (i = 57 ∨ i = 58))
theorem rSH_cg {σ τ : Sto} (h : ∀ c i, fSH c i → τ.I c i = σ.I c i) (r : rSH σ) : rSH τ := by
  have e210 : τ.I 210 = σ.I 210 := funext fun i => h 210 i (by unfold fSH; omega)
  have e211 : τ.I 211 = σ.I 211 := funext fun i => h 211 i (by unfold fSH; omega)
  have e598 : τ.I 598 = σ.I 598 := funext fun i => h 598 i (by unfold fSH; omega)
  have e599 : τ.I 599 = σ.I 599 := funext fun i => h 599 i (by unfold fSH; omega)
  have e0_95 : τ.I 0 95 = σ.I 0 95 := h 0 95 (by unfold fSH; omega)
  have e0_96 : τ.I 0 96 = σ.I 0 96 := h 0 96 (by unfold fSH; omega)
  have e555_57 : τ.I 555 57 = σ.I 555 57 := h 555 57 (by unfold fSH; omega)
  have e555_58 : τ.I 555 58 = σ.I 555 58 := h 555 58 (by unfold fSH; omega)
  have q : rSH τ = rSH σ := by
    simp only [rSH, e210, e211, e598, e599, e0_95, e0_96, e555_57, e555_58]
  rw [q]
  exact r
/-- tokens that are shown -/
def rSW (σ : Sto) : Prop := (σ.I 4 5 = σ.I 555 24 ∧ 0 ≤ σ.I 4 5 ∧ σ.I 4 5 ≤ 250) ∧ bd_0_20 σ 6 250 ∧ ∀ i, 0 ≤ i → i < σ.I 4 5 → (σ.I 7 i = σ.I 575 (4 * i) ∧ σ.I 8 i = σ.I 575 (4 * i + 1) ∧ σ.I 9 i = σ.I 575 (4 * i + 2) ∧ σ.I 6 i = σ.I 575 (4 * i + 3)) ∧ ∀ k, 0 ≤ k → k < σ.I 6 i → σ.I 5 (20 * i + k) = σ.I 576 (20 * i + k)
def fSW (c : Nat) (i : Int) : Prop := c = 5 ∨ c = 6 ∨ c = 7 ∨ c = 8 ∨ c = 9 ∨ c = 575 ∨ c = 576 ∨ (c = 4 ∧ (i = 5)) ∨ (c = 555 ∧ (i = 24))
theorem rSW_cg {σ τ : Sto} (h : ∀ c i, fSW c i → τ.I c i = σ.I c i) (r : rSW σ) : rSW τ := by
  have e5 : τ.I 5 = σ.I 5 := funext fun i => h 5 i (by unfold fSW; omega)
  have e6 : τ.I 6 = σ.I 6 := funext fun i => h 6 i (by unfold fSW; omega)
  have e7 : τ.I 7 = σ.I 7 := funext fun i => h 7 i (by unfold fSW; omega)
  have e8 : τ.I 8 = σ.I 8 := funext fun i => h 8 i (by unfold fSW; omega)
  have e9 : τ.I 9 = σ.I 9 := funext fun i => h 9 i (by unfold fSW; omega)
  have e575 : τ.I 575 = σ.I 575 := funext fun i => h 575 i (by unfold fSW; omega)
  have e576 : τ.I 576 = σ.I 576 := funext fun i => h 576 i (by unfold fSW; omega)
  have e4_5 : τ.I 4 5 = σ.I 4 5 := h 4 5 (by unfold fSW; omega)
  have e555_24 : τ.I 555 24 = σ.I 555 24 := h 555 24 (by unfold fSW; omega)
  have q : rSW τ = rSW σ := by
    simp only [rSW, bd_0_20, e5, e6, e7, e8, e9, e575, e576, e4_5, e555_24]
  rw [q]
  exact r
/-- hits -/
def rHI (σ : Sto) : Prop := (σ.I 0 70 = σ.I 555 115 ∧ 0 ≤ σ.I 0 70 ∧ σ.I 0 70 ≤ 600) ∧ (∀ i, 0 ≤ i → i < σ.I 0 70 → (σ.I 189 i = σ.I 637 i ∧ σ.I 190 i = σ.I 638 i) ∧ (0 ≤ σ.I 189 i ∧ σ.I 189 i < σ.I 0 39) ∧ σ.I 47 (σ.I 189 i) = 1) ∧ (∀ i j, 0 ≤ i → i < j → j < σ.I 0 70 → σ.I 189 i ≠ σ.I 189 j) ∧ (σ.I 0 71 = 0 ∨ σ.I 0 71 = 1) ∧ (σ.I 0 71 = 1 ↔ σ.I 555 114 = 1) ∧ (0 < σ.I 0 70 → ∀ f, 0 ≤ f → f < 12 → (bt32 (σ.I 102 1) f ↔ σ.I 639 f ≠ 1)) ∧ bd_0_600 σ 637 600
def fHI (c : Nat) (i : Int) : Prop := c = 47 ∨ c = 189 ∨ c = 190 ∨ c = 637 ∨ c = 638 ∨ c = 639 ∨ (c = 0 ∧ (i = 39 ∨ i = 70 ∨ i = 71)) ∨ (c = 102 ∧ (i = 1)) ∨ (c = 555 ∧ (i = 114 ∨ i = 115))
theorem rHI_cg {σ τ : Sto} (h : ∀ c i, fHI c i → τ.I c i = σ.I c i) (r : rHI σ) : rHI τ := by
  have e47 : τ.I 47 = σ.I 47 := funext fun i => h 47 i (by unfold fHI; omega)
  have e189 : τ.I 189 = σ.I 189 := funext fun i => h 189 i (by unfold fHI; omega)
  have e190 : τ.I 190 = σ.I 190 := funext fun i => h 190 i (by unfold fHI; omega)
  have e637 : τ.I 637 = σ.I 637 := funext fun i => h 637 i (by unfold fHI; omega)
  have e638 : τ.I 638 = σ.I 638 := funext fun i => h 638 i (by unfold fHI; omega)
  have e639 : τ.I 639 = σ.I 639 := funext fun i => h 639 i (by unfold fHI; omega)
  have e0_39 : τ.I 0 39 = σ.I 0 39 := h 0 39 (by unfold fHI; omega)
  have e0_70 : τ.I 0 70 = σ.I 0 70 := h 0 70 (by unfold fHI; omega)
  have e0_71 : τ.I 0 71 = σ.I 0 71 := h 0 71 (by unfold fHI; omega)
  have e102_1 : τ.I 102 1 = σ.I 102 1 := h 102 1 (by unfold fHI; omega)
  have e555_114 : τ.I 555 114 = σ.I 555 114 := h 555 114 (by unfold fHI; omega)
  have e555_115 : τ.I 555 115 = σ.I 555 115 := h 555 115 (by unfold fHI; omega)
  have q : rHI τ = rHI σ := by
    simp only [rHI, bd_0_600, e47, e189, e190, e637, e638, e639, e0_39, e0_70, e0_71, e102_1, e555_114, e555_115]
  rw [q]
  exact r
/-- lines -/
def rLN (σ : Sto) : Prop := (σ.I 0 59 = σ.I 555 133 ∧ 0 ≤ σ.I 0 59 ∧ σ.I 0 59 ≤ 130) ∧ ∀ i, 0 ≤ i → i < σ.I 0 59 → σ.I 83 i = σ.I 653 (4 * i) ∧ σ.I 84 i = σ.I 653 (4 * i + 1) ∧ σ.I 85 i = σ.I 653 (4 * i + 2) ∧ σ.I 86 i = σ.I 653 (4 * i + 3)
def fLN (c : Nat) (i : Int) : Prop := c = 83 ∨ c = 84 ∨ c = 85 ∨ c = 86 ∨ c = 653 ∨ (c = 0 ∧ (i = 59)) ∨ (c = 555 ∧ (i = 133))
theorem rLN_cg {σ τ : Sto} (h : ∀ c i, fLN c i → τ.I c i = σ.I c i) (r : rLN σ) : rLN τ := by
  have e83 : τ.I 83 = σ.I 83 := funext fun i => h 83 i (by unfold fLN; omega)
  have e84 : τ.I 84 = σ.I 84 := funext fun i => h 84 i (by unfold fLN; omega)
  have e85 : τ.I 85 = σ.I 85 := funext fun i => h 85 i (by unfold fLN; omega)
  have e86 : τ.I 86 = σ.I 86 := funext fun i => h 86 i (by unfold fLN; omega)
  have e653 : τ.I 653 = σ.I 653 := funext fun i => h 653 i (by unfold fLN; omega)
  have e0_59 : τ.I 0 59 = σ.I 0 59 := h 0 59 (by unfold fLN; omega)
  have e555_133 : τ.I 555 133 = σ.I 555 133 := h 555 133 (by unfold fLN; omega)
  have q : rLN τ = rLN σ := by
    simp only [rLN, e83, e84, e85, e86, e653, e0_59, e555_133]
  rw [q]
  exact r
/-- marks -/
def rMK (σ : Sto) : Prop := (σ.I 0 75 = σ.I 555 134 ∧ 0 ≤ σ.I 0 75 ∧ σ.I 0 75 ≤ 6000) ∧ ∀ i, 0 ≤ i → i < σ.I 0 75 → σ.I 193 i = σ.I 655 (3 * i) ∧ σ.I 194 i = σ.I 655 (3 * i + 1) ∧ σ.I 195 i = σ.I 655 (3 * i + 2)
def fMK (c : Nat) (i : Int) : Prop := c = 193 ∨ c = 194 ∨ c = 195 ∨ c = 655 ∨ (c = 0 ∧ (i = 75)) ∨ (c = 555 ∧ (i = 134))
theorem rMK_cg {σ τ : Sto} (h : ∀ c i, fMK c i → τ.I c i = σ.I c i) (r : rMK σ) : rMK τ := by
  have e193 : τ.I 193 = σ.I 193 := funext fun i => h 193 i (by unfold fMK; omega)
  have e194 : τ.I 194 = σ.I 194 := funext fun i => h 194 i (by unfold fMK; omega)
  have e195 : τ.I 195 = σ.I 195 := funext fun i => h 195 i (by unfold fMK; omega)
  have e655 : τ.I 655 = σ.I 655 := funext fun i => h 655 i (by unfold fMK; omega)
  have e0_75 : τ.I 0 75 = σ.I 0 75 := h 0 75 (by unfold fMK; omega)
  have e555_134 : τ.I 555 134 = σ.I 555 134 := h 555 134 (by unfold fMK; omega)
  have q : rMK τ = rMK σ := by
    simp only [rMK, e193, e194, e195, e655, e0_75, e555_134]
  rw [q]
  exact r
/-- groups -/
def rGR (σ : Sto) : Prop := (σ.I 0 79 = σ.I 555 135 ∧ 0 ≤ σ.I 0 79 ∧ σ.I 0 79 ≤ 6000) ∧ (0 < σ.I 0 79 → σ.I 0 80 = σ.I 555 141 ∧ (σ.I 0 80 = 0 ∨ σ.I 0 80 = 1)) ∧ ∀ i, 0 ≤ i → i < σ.I 0 79 → (σ.I 197 i = σ.I 656 i ∧ σ.I 198 i = σ.I 657 i) ∧ (σ.I 0 80 = 0 → σ.I 196 i = σ.I 659 i) ∧ (σ.I 0 80 = 1 → (0 ≤ σ.I 196 i ∧ σ.I 196 i < σ.I 0 32) ∧ (0 ≤ σ.I 658 i ∧ σ.I 658 i < σ.I 582 (σ.I 0 31)) ∧ σ.I 21 (σ.I 196 i) = σ.I 587 (σ.I 658 i) ∧ ∀ k, 0 ≤ k → k < σ.I 21 (σ.I 196 i) → σ.I 19 (20 * σ.I 196 i + k) = σ.I 586 (20 * σ.I 658 i + k))
def fGR (c : Nat) (i : Int) : Prop := c = 19 ∨ c = 21 ∨ c = 196 ∨ c = 197 ∨ c = 198 ∨ c = 582 ∨ c = 586 ∨ c = 587 ∨ c = 656 ∨ c = 657 ∨ c = 658 ∨ c = 659 ∨ (c = 0 ∧ (i = 31 ∨ i = 32 ∨ i = 79 ∨ i = 80)) ∨ (c = 555 ∧ (i = 135 ∨ i = 141))
theorem rGR_cg {σ τ : Sto} (h : ∀ c i, fGR c i → τ.I c i = σ.I c i) (r : rGR σ) : rGR τ := by
  have e19 : τ.I 19 = σ.I 19 := funext fun i => h 19 i (by unfold fGR; omega)
  have e21 : τ.I 21 = σ.I 21 := funext fun i => h 21 i (by unfold fGR; omega)
  have e196 : τ.I 196 = σ.I 196 := funext fun i => h 196 i (by unfold fGR; omega)
  have e197 : τ.I 197 = σ.I 197 := funext fun i => h 197 i (by unfold fGR; omega)
  have e198 : τ.I 198 = σ.I 198 := funext fun i => h 198 i (by unfold fGR; omega)
  have e582 : τ.I 582 = σ.I 582 := funext fun i => h 582 i (by unfold fGR; omega)
  have e586 : τ.I 586 = σ.I 586 := funext fun i => h 586 i (by unfold fGR; omega)
  have e587 : τ.I 587 = σ.I 587 := funext fun i => h 587 i (by unfold fGR; omega)
  have e656 : τ.I 656 = σ.I 656 := funext fun i => h 656 i (by unfold fGR; omega)
  have e657 : τ.I 657 = σ.I 657 := funext fun i => h 657 i (by unfold fGR; omega)
  have e658 : τ.I 658 = σ.I 658 := funext fun i => h 658 i (by unfold fGR; omega)
  have e659 : τ.I 659 = σ.I 659 := funext fun i => h 659 i (by unfold fGR; omega)
  have e0_31 : τ.I 0 31 = σ.I 0 31 := h 0 31 (by unfold fGR; omega)
  have e0_32 : τ.I 0 32 = σ.I 0 32 := h 0 32 (by unfold fGR; omega)
  have e0_79 : τ.I 0 79 = σ.I 0 79 := h 0 79 (by unfold fGR; omega)
  have e0_80 : τ.I 0 80 = σ.I 0 80 := h 0 80 (by unfold fGR; omega)
  have e555_135 : τ.I 555 135 = σ.I 555 135 := h 555 135 (by unfold fGR; omega)
  have e555_141 : τ.I 555 141 = σ.I 555 141 := h 555 141 (by unfold fGR; omega)
  have q : rGR τ = rGR σ := by
    simp only [rGR, e19, e21, e196, e197, e198, e582, e586, e587, e656, e657, e658, e659, e0_31, e0_32, e0_79, e0_80, e555_135, e555_141]
  rw [q]
  exact r
/-- terms that are told -/
def rTT (σ : Sto) : Prop := (σ.I 0 88 = σ.I 555 154 ∧ 0 ≤ σ.I 0 88 ∧ σ.I 0 88 ≤ 10) ∧ bd_0_20 σ 205 10 ∧ (bd_0_1000 σ 668 30 ∧ ∀ i, 0 ≤ i → i < 10 → σ.I 668 (3 * i) ≤ 20) ∧ ∀ i, 0 ≤ i → i < σ.I 0 88 → (σ.I 205 i = σ.I 668 (3 * i) ∧ σ.I 202 i = σ.I 668 (3 * i + 1) ∧ σ.I 203 i = σ.I 668 (3 * i + 2)) ∧ ∀ k, 0 ≤ k → k < σ.I 205 i → σ.I 204 (20 * i + k) = σ.I 667 (20 * i + k)
def fTT (c : Nat) (i : Int) : Prop := c = 202 ∨ c = 203 ∨ c = 204 ∨ c = 205 ∨ c = 667 ∨ c = 668 ∨ (c = 0 ∧ (i = 88)) ∨ (c = 555 ∧ (i = 154))
theorem rTT_cg {σ τ : Sto} (h : ∀ c i, fTT c i → τ.I c i = σ.I c i) (r : rTT σ) : rTT τ := by
  have e202 : τ.I 202 = σ.I 202 := funext fun i => h 202 i (by unfold fTT; omega)
  have e203 : τ.I 203 = σ.I 203 := funext fun i => h 203 i (by unfold fTT; omega)
  have e204 : τ.I 204 = σ.I 204 := funext fun i => h 204 i (by unfold fTT; omega)
  have e205 : τ.I 205 = σ.I 205 := funext fun i => h 205 i (by unfold fTT; omega)
  have e667 : τ.I 667 = σ.I 667 := funext fun i => h 667 i (by unfold fTT; omega)
  have e668 : τ.I 668 = σ.I 668 := funext fun i => h 668 i (by unfold fTT; omega)
  have e0_88 : τ.I 0 88 = σ.I 0 88 := h 0 88 (by unfold fTT; omega)
  have e555_154 : τ.I 555 154 = σ.I 555 154 := h 555 154 (by unfold fTT; omega)
  have q : rTT τ = rTT σ := by
    simp only [rTT, bd_0_20, bd_0_1000, e202, e203, e204, e205, e667, e668, e0_88, e555_154]
  rw [q]
  exact r
/-- questions that match -/
def rMT (σ : Sto) : Prop := (σ.I 0 94 = σ.I 555 160 ∧ 0 ≤ σ.I 0 94 ∧ σ.I 0 94 ≤ 20) ∧ ∀ i, 0 ≤ i → i < σ.I 0 94 → σ.I 209 i = σ.I 672 i
def fMT (c : Nat) (i : Int) : Prop := c = 209 ∨ c = 672 ∨ (c = 0 ∧ (i = 94)) ∨ (c = 555 ∧ (i = 160))
theorem rMT_cg {σ τ : Sto} (h : ∀ c i, fMT c i → τ.I c i = σ.I c i) (r : rMT σ) : rMT τ := by
  have e209 : τ.I 209 = σ.I 209 := funext fun i => h 209 i (by unfold fMT; omega)
  have e672 : τ.I 672 = σ.I 672 := funext fun i => h 672 i (by unfold fMT; omega)
  have e0_94 : τ.I 0 94 = σ.I 0 94 := h 0 94 (by unfold fMT; omega)
  have e555_160 : τ.I 555 160 = σ.I 555 160 := h 555 160 (by unfold fMT; omega)
  have q : rMT τ = rMT σ := by
    simp only [rMT, e209, e672, e0_94, e555_160]
  rw [q]
  exact r

