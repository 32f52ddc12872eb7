/-! contracts: printed by tools/mk.py out of s98zzzw_relq.py -/
set_option maxRecDepth 100000
set_option maxHeartbeats 800000
/-! the relation of both stores: questions, paper, analysers -/
theorem QT_cg {σ τ : Sto} {q : Nat} {e : PE} (h : ∀ c i, q ≤ c → c ≤ q + 13 → τ.I c i = σ.I c i) : QT τ q e ↔ QT σ q e := by
  have e1 : τ.I q = σ.I q := funext fun i => h q i (by omega) (by omega)
  have e2 : τ.I (q + 1) = σ.I (q + 1) := funext fun i => h (q + 1) i (by omega) (by omega)
  have e3 : XQ τ q = XQ σ q := by
    funext c x
    unfold XQ
    split
    · rename_i w
      exact h (q + 2 + c) x (by omega) (by omega)
    · rfl
  unfold QT
  rw [e1, e2, e3]
/-- the question that is asked next, of both -/
def rQU (σ : Sto) : Prop := ((σ.I 0 48 = 0 ∨ σ.I 0 48 = 1) ∧ (0 ≤ σ.I 555 66 ∧ σ.I 555 66 ≤ 400) ∧ (σ.I 0 48 = 0 ↔ σ.I 555 66 = 0)) ∧ ((0 ≤ σ.I 51 1 ∧ σ.I 51 1 ≤ 400) ∧ 0 ≤ σ.I 51 2 ∧ σ.I 51 2 ≤ 200) ∧ (σ.I 0 48 = 1 → QT σ 51 (eQ σ 603 0 (σ.I 555 66)) ∧ σ.I 51 3 = σ.I 555 67)
def fQU (c : Nat) (i : Int) : Prop := (51 ≤ c ∧ c ≤ 64) ∨ c = 603 ∨ c = 577 ∨ (c = 0 ∧ i = 48) ∨ (c = 555 ∧ (i = 66 ∨ i = 67 ∨ i = 27))
theorem rQU_cg {σ τ : Sto} (h : ∀ c i, fQU c i → τ.I c i = σ.I c i) (r : rQU σ) : rQU τ := by
  have e1 : τ.I 603 = σ.I 603 := funext fun i => h 603 i (by unfold fQU; omega)
  have e2 : τ.I 577 = σ.I 577 := funext fun i => h 577 i (by unfold fQU; omega)
  have e3 : τ.I 0 48 = σ.I 0 48 := h 0 48 (by unfold fQU; omega)
  have e4 : τ.I 555 66 = σ.I 555 66 := h 555 66 (by unfold fQU; omega)
  have e5 : τ.I 555 67 = σ.I 555 67 := h 555 67 (by unfold fQU; omega)
  have e6 : τ.I 555 27 = σ.I 555 27 := h 555 27 (by unfold fQU; omega)
  have e7 : τ.I 51 = σ.I 51 := funext fun i => h 51 i (by unfold fQU; omega)
  unfold rQU at r ⊢
  rw [e3, e4, e5, e7]
  refine ⟨r.1, r.2.1, fun q => ⟨?_, (r.2.2 q).2⟩⟩
  refine (QT_cg (fun c i h1 h2 => h c i (by unfold fQU; omega))).mpr ?_
  have := (r.2.2 q).1
  unfold eQ at this ⊢
  rw [e1, e2, e6]
  exact this
/-- the questions that are kept -/
def rKQ (σ : Sto) : Prop := (σ.I 0 51 = σ.I 555 71 ∧ 0 ≤ σ.I 0 51 ∧ σ.I 0 51 ≤ 20) ∧ bd_0_400 σ 605 20 ∧ ∀ j : Nat, (j : Int) < σ.I 0 51 → (0 < σ.I 605 j ∧ ((0 ≤ σ.I (275 + 14 * j) 1 ∧ σ.I (275 + 14 * j) 1 ≤ 400) ∧ 0 ≤ σ.I (275 + 14 * j) 2 ∧ σ.I (275 + 14 * j) 2 ≤ 200)) ∧ QT σ (275 + 14 * j) (eQ σ 604 (400 * (j : Int)) (σ.I 605 j)) ∧ σ.I (275 + 14 * j) 3 = σ.I 606 j
def fKQ (c : Nat) (i : Int) : Prop := (275 ≤ c ∧ c ≤ 554) ∨ c = 604 ∨ c = 605 ∨ c = 606 ∨ c = 577 ∨ (c = 0 ∧ i = 51) ∨ (c = 555 ∧ (i = 71 ∨ i = 27))
theorem rKQ_cg {σ τ : Sto} (h : ∀ c i, fKQ c i → τ.I c i = σ.I c i) (r : rKQ σ) : rKQ τ := by
  have e1 : τ.I 604 = σ.I 604 := funext fun i => h 604 i (by unfold fKQ; omega)
  have e2 : τ.I 605 = σ.I 605 := funext fun i => h 605 i (by unfold fKQ; omega)
  have e3 : τ.I 606 = σ.I 606 := funext fun i => h 606 i (by unfold fKQ; omega)
  have e4 : τ.I 577 = σ.I 577 := funext fun i => h 577 i (by unfold fKQ; omega)
  have e5 : τ.I 0 51 = σ.I 0 51 := h 0 51 (by unfold fKQ; omega)
  have e6 : τ.I 555 71 = σ.I 555 71 := h 555 71 (by unfold fKQ; omega)
  have e7 : τ.I 555 27 = σ.I 555 27 := h 555 27 (by unfold fKQ; omega)
  unfold rKQ bd_0_400 at r ⊢
  rw [e5, e6, e2, e3]
  refine ⟨r.1, r.2.1, fun j q => ?_⟩
  have z := r.1
  have e8 : τ.I (275 + 14 * j) = σ.I (275 + 14 * j) := funext fun i => h _ i (by unfold fKQ; omega)
  rw [e8]
  refine ⟨(r.2.2 j q).1, ?_, (r.2.2 j q).2.2⟩
  refine (QT_cg (fun c i h1 h2 => h c i (by unfold fKQ; omega))).mpr ?_
  have := (r.2.2 j q).2.1
  unfold eQ at this ⊢
  rw [e1, e4, e7]
  exact this
/-- what is hidden from a user -/
def hqU (σ : Sto) (u : Nat) : Prop := (σ.I (215 + 15 * u) 1 = 0 ∨ σ.I (215 + 15 * u) 1 = 1) ∧ (0 ≤ σ.I 608 u ∧ σ.I 608 u ≤ 400) ∧ (σ.I (215 + 15 * u) 1 = 1 ↔ 0 < σ.I 608 u) ∧ (σ.I (215 + 15 * u) 1 = 1 → QT σ (216 + 15 * u) (eQ σ 607 (400 * (u : Int)) (σ.I 608 u)))
def rHQ (σ : Sto) : Prop := σ.I 608 0 = 0 ∧ σ.I 215 1 = 0 ∧ ∀ u : Nat, 1 ≤ u → u < 4 → hqU σ u
def fHQ (c : Nat) (i : Int) : Prop := (215 ≤ c ∧ c ≤ 274 ∧ ¬ ((c = 230 ∨ c = 245 ∨ c = 260) ∧ i = 2)) ∨ c = 607 ∨ c = 608 ∨ c = 577 ∨ (c = 555 ∧ i = 27)
theorem rHQ_cg {σ τ : Sto} (h : ∀ c i, fHQ c i → τ.I c i = σ.I c i) (r : rHQ σ) : rHQ τ := by
  have e1 : τ.I 607 = σ.I 607 := funext fun i => h 607 i (by unfold fHQ; omega)
  have e2 : τ.I 608 = σ.I 608 := funext fun i => h 608 i (by unfold fHQ; omega)
  have e4 : τ.I 577 = σ.I 577 := funext fun i => h 577 i (by unfold fHQ; omega)
  have e7 : τ.I 555 27 = σ.I 555 27 := h 555 27 (by unfold fHQ; omega)
  have e9 : τ.I 215 1 = σ.I 215 1 := h 215 1 (by unfold fHQ; omega)
  unfold rHQ at r ⊢
  rw [e2, e9]
  refine ⟨r.1, r.2.1, fun u h1 h2 => ?_⟩
  have z := r.2.2 u h1 h2
  have e8 : τ.I (215 + 15 * u) 1 = σ.I (215 + 15 * u) 1 := h _ 1 (by unfold fHQ; omega)
  unfold hqU at z ⊢
  rw [e8, e2]
  refine ⟨z.1, z.2.1, z.2.2.1, fun q => ?_⟩
  refine (QT_cg (fun c i h1 h2 => h c i (by unfold fHQ; omega))).mpr ?_
  have := z.2.2.2 q
  unfold eQ at this ⊢
  rw [e1, e4, e7]
  exact this
/-- what was written out -/
def rPP (σ : Sto) : Prop := (σ.I 0 100 = σ.I 555 164 ∧ 0 ≤ σ.I 0 100 ∧ σ.I 0 100 ≤ 30000) ∧ ∃ a b, σ.R 555 162 = some a ∧ σ.R 555 163 = some b ∧ ((a = 673 ∧ b = 674) ∨ (a = 674 ∧ b = 673)) ∧ ∀ i, 0 ≤ i → i < σ.I 0 100 → σ.I 212 i = σ.I a i
def fPP (c : Nat) (i : Int) : Prop := c = 212 ∨ c = 673 ∨ c = 674 ∨ (c = 0 ∧ i = 100) ∨ (c = 555 ∧ i = 164)
theorem rPP_cg {σ τ : Sto} (h : ∀ c i, fPP c i → τ.I c i = σ.I c i) (h2 : τ.R 555 162 = σ.R 555 162) (h3 : τ.R 555 163 = σ.R 555 163) (r : rPP σ) : rPP τ := by
  have e1 : τ.I 212 = σ.I 212 := funext fun i => h 212 i (by unfold fPP; omega)
  have e2 : τ.I 0 100 = σ.I 0 100 := h 0 100 (by unfold fPP; omega)
  have e3 : τ.I 555 164 = σ.I 555 164 := h 555 164 (by unfold fPP; omega)
  obtain ⟨r1, a, b, ra, rb, rc, rd⟩ := r
  unfold rPP
  rw [e2, e3, e1, h2, h3]
  have ea : τ.I a = σ.I a := funext fun i => h a i (by unfold fPP; omega)
  refine ⟨r1, a, b, ra, rb, rc, ?_⟩
  rw [ea]
  exact rd
/-- analyser k of both -/
def anE (σ : Sto) (o : Nat) (k : Int) : Prop := (σ.I o 0 = σ.I 558 k ∧ σ.I o 1 = σ.I 559 k ∧ σ.I o 2 = σ.I 560 k) ∧ (σ.I (o + 1) 2 = σ.I 561 k ∧ ∀ j, 0 ≤ j → j < σ.I 561 k → σ.I (o + 3) j = σ.I 564 (60 * k + j) ∧ ∀ t, 0 ≤ t → t < σ.I (o + 3) j → σ.I (o + 2) (20 * j + t) = σ.I 563 (20 * (60 * k + j) + t)) ∧
  (σ.I (o + 4) 2 = σ.I 562 k ∧ σ.I (o + 7) 2 = σ.I 562 k) ∧ ∀ j, 0 ≤ j → j < σ.I 562 k → (σ.I (o + 6) j = σ.I 564 (60 * k + 20 + 2 * j) ∧ ∀ t, 0 ≤ t → t < σ.I (o + 6) j → σ.I (o + 5) (20 * j + t) = σ.I 563 (20 * (60 * k + 20 + 2 * j) + t)) ∧ σ.I (o + 9) j = σ.I 564 (60 * k + 20 + 2 * j + 1) ∧ ∀ t, 0 ≤ t → t < σ.I (o + 9) j → σ.I (o + 8) (20 * j + t) = σ.I 563 (20 * (60 * k + 20 + 2 * j + 1) + t)
/-- rows of words of an analyser that was made, in use or not -/
def stB (σ : Sto) (b : Nat) : Prop := ∀ j, 0 ≤ j → j < 20 → (0 ≤ σ.I (b + 3) j ∧ σ.I (b + 3) j ≤ 20) ∧ (0 ≤ σ.I (b + 6) j ∧ σ.I (b + 6) j ≤ 20) ∧ 0 ≤ σ.I (b + 9) j ∧ σ.I (b + 9) j ≤ 20
/-- the analysers; those that were made lie apart -/
def rAN (σ : Sto) : Prop := (σ.I 0 4 = σ.I 555 3 ∧ 0 ≤ σ.I 0 4 ∧ σ.I 0 4 ≤ 6) ∧ AN σ ∧ ANX σ ∧ ANZ σ ∧ AC σ ∧ (∀ k, 0 ≤ k → k < 6 → ∀ b, σ.R 3 k = some b → b + 10 ≤ σ.n ∧ stB σ b) ∧ (∀ j k a b, 0 ≤ j → j < k → k < 6 → σ.R 3 j = some a → σ.R 3 k = some b → a + 10 ≤ b ∨ b + 10 ≤ a) ∧ ∀ k, 0 ≤ k → k < σ.I 0 4 → anE σ (anC σ k) k ∧ ∀ j, 0 ≤ j → j < 20 → (0 ≤ σ.I (anC σ k + 3) j ∧ σ.I (anC σ k + 3) j ≤ 20)
def fAN (c : Nat) (i : Int) : Prop := (675 ≤ c) ∨ (558 ≤ c ∧ c ≤ 564) ∨ (c = 0 ∧ i = 4) ∨ (c = 555 ∧ i = 3)
theorem rAN_cg {σ τ : Sto} (h : ∀ c i, fAN c i → τ.I c i = σ.I c i) (h2 : τ.R = σ.R) (h3 : τ.sh = σ.sh) (h4 : τ.n = σ.n) (r : rAN σ) : rAN τ := by
  have e1 : ∀ k, anC τ k = anC σ k := fun k => by unfold anC; rw [h2]
  have e2 : τ.I 0 4 = σ.I 0 4 := h 0 4 (by unfold fAN; omega)
  have e3 : τ.I 555 3 = σ.I 555 3 := h 555 3 (by unfold fAN; omega)
  have g : ∀ c, 558 ≤ c → c ≤ 564 → τ.I c = σ.I c := fun c p q => funext fun i => h c i (by unfold fAN; omega)
  have g2 : ∀ c, 675 ≤ c → τ.I c = σ.I c := fun c p => funext fun i => h c i (by unfold fAN; omega)
  have eA : ∀ b, At10 τ b ↔ At10 σ b := fun b => by unfold At10 At11; rw [h2, h3]
  obtain ⟨r1, r2, r3, r4, r5, r6, r7, r8⟩ := r
  refine ⟨by rw [e2, e3]; exact r1, ?_, ?_, ?_, ?_, ?_, by rw [h2]; exact r7, ?_⟩
  · intro k p q
    rw [e2] at q
    have z := r2 k p q
    rw [e1, h2, eA]
    exact z
  · intro k p q
    rw [e2] at q
    have z := r3 k p q
    have w := (r2 k p q).2.2
    rw [e1]
    unfold ANBs ANB bd_0_20 at z ⊢
    rw [g2 _ (show 675 ≤ anC σ k by omega), g2 _ (show 675 ≤ anC σ k + 1 by omega), g2 _ (show 675 ≤ anC σ k + 3 by omega), g2 _ (show 675 ≤ anC σ k + 4 by omega), g2 _ (show 675 ≤ anC σ k + 6 by omega), g2 _ (show 675 ≤ anC σ k + 9 by omega)]
    exact z
  · intro k p q b hb
    rw [h2] at hb
    rw [eA]
    exact r4 k p q b hb
  · unfold AC bd_0_1 bd_0_2 bd_0_5 bd_0_20 at r5 ⊢
    rw [g 558 (by omega) (by omega), g 559 (by omega) (by omega), g 560 (by omega) (by omega), g 561 (by omega) (by omega), g 562 (by omega) (by omega), g 564 (by omega) (by omega)]
    exact r5
  · intro k p q b hb
    rw [h2] at hb
    have z := r6 k p q b hb
    have y := (r4 k p q b hb).2
    refine ⟨by rw [h4]; exact z.1, fun j j0 j1 => ?_⟩
    rw [g2 (b + 3) (by omega), g2 (b + 6) (by omega), g2 (b + 9) (by omega)]
    exact z.2 j j0 j1
  · intro k p q
    rw [e2] at q
    have z := r8 k p q
    have w := (r2 k p q).2.2
    rw [e1]
    unfold anE at z ⊢
    rw [g2 _ (show 675 ≤ anC σ k by omega), g2 _ (show 675 ≤ anC σ k + 1 by omega), g2 _ (show 675 ≤ anC σ k + 2 by omega), g2 _ (show 675 ≤ anC σ k + 3 by omega), g2 _ (show 675 ≤ anC σ k + 4 by omega), g2 _ (show 675 ≤ anC σ k + 5 by omega), g2 _ (show 675 ≤ anC σ k + 6 by omega), g2 _ (show 675 ≤ anC σ k + 7 by omega), g2 _ (show 675 ≤ anC σ k + 8 by omega), g2 _ (show 675 ≤ anC σ k + 9 by omega), g 558 (by omega) (by omega), g 559 (by omega) (by omega), g 560 (by omega) (by omega), g 561 (by omega) (by omega), g 562 (by omega) (by omega), g 563 (by omega) (by omega), g 564 (by omega) (by omega)]
    exact z

