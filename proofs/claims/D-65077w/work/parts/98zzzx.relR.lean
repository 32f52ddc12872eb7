/-! contracts: printed by tools/mk.py out of s98zzzx_relR.py -/
set_option maxRecDepth 100000
set_option maxHeartbeats 800000
/-! the relation of both stores as a whole -/
/-- rows to work in -/
def rSC (σ : Sto) : Prop := (PBD σ 87 ∧ PBD σ 121 ∧ PBD σ 155) ∧ OFZ σ ∧ (∀ t, 0 ≤ t → t < 36500 → σ.I 199 t = 0) ∧ bd_0_36499 σ 201 11 ∧ bd_0_36499 σ 207 6 ∧ WKB σ ∧ bd_0_23999 σ 662 24000
def fSC (c : Nat) (i : Int) : Prop := c = 12 ∨ c = 108 ∨ c = 110 ∨ c = 113 ∨ c = 119 ∨ c = 142 ∨ c = 144 ∨ c = 147 ∨ c = 153 ∨ c = 176 ∨ c = 178 ∨ c = 181 ∨ c = 187 ∨ c = 199 ∨ c = 201 ∨ c = 206 ∨ c = 207 ∨ c = 573 ∨ c = 621 ∨ c = 622 ∨ c = 629 ∨ c = 630 ∨ c = 633 ∨ c = 635 ∨ c = 662
theorem rSC_cg {σ τ : Sto} (h : ∀ c i, fSC c i → τ.I c i = σ.I c i) (r : rSC σ) : rSC τ := by
  have e12 : τ.I 12 = σ.I 12 := funext fun i => h 12 i (by unfold fSC; omega)
  have e108 : τ.I 108 = σ.I 108 := funext fun i => h 108 i (by unfold fSC; omega)
  have e110 : τ.I 110 = σ.I 110 := funext fun i => h 110 i (by unfold fSC; omega)
  have e113 : τ.I 113 = σ.I 113 := funext fun i => h 113 i (by unfold fSC; omega)
  have e119 : τ.I 119 = σ.I 119 := funext fun i => h 119 i (by unfold fSC; omega)
  have e142 : τ.I 142 = σ.I 142 := funext fun i => h 142 i (by unfold fSC; omega)
  have e144 : τ.I 144 = σ.I 144 := funext fun i => h 144 i (by unfold fSC; omega)
  have e147 : τ.I 147 = σ.I 147 := funext fun i => h 147 i (by unfold fSC; omega)
  have e153 : τ.I 153 = σ.I 153 := funext fun i => h 153 i (by unfold fSC; omega)
  have e176 : τ.I 176 = σ.I 176 := funext fun i => h 176 i (by unfold fSC; omega)
  have e178 : τ.I 178 = σ.I 178 := funext fun i => h 178 i (by unfold fSC; omega)
  have e181 : τ.I 181 = σ.I 181 := funext fun i => h 181 i (by unfold fSC; omega)
  have e187 : τ.I 187 = σ.I 187 := funext fun i => h 187 i (by unfold fSC; omega)
  have e199 : τ.I 199 = σ.I 199 := funext fun i => h 199 i (by unfold fSC; omega)
  have e201 : τ.I 201 = σ.I 201 := funext fun i => h 201 i (by unfold fSC; omega)
  have e206 : τ.I 206 = σ.I 206 := funext fun i => h 206 i (by unfold fSC; omega)
  have e207 : τ.I 207 = σ.I 207 := funext fun i => h 207 i (by unfold fSC; omega)
  have e573 : τ.I 573 = σ.I 573 := funext fun i => h 573 i (by unfold fSC; omega)
  have e621 : τ.I 621 = σ.I 621 := funext fun i => h 621 i (by unfold fSC; omega)
  have e622 : τ.I 622 = σ.I 622 := funext fun i => h 622 i (by unfold fSC; omega)
  have e629 : τ.I 629 = σ.I 629 := funext fun i => h 629 i (by unfold fSC; omega)
  have e630 : τ.I 630 = σ.I 630 := funext fun i => h 630 i (by unfold fSC; omega)
  have e633 : τ.I 633 = σ.I 633 := funext fun i => h 633 i (by unfold fSC; omega)
  have e635 : τ.I 635 = σ.I 635 := funext fun i => h 635 i (by unfold fSC; omega)
  have e662 : τ.I 662 = σ.I 662 := funext fun i => h 662 i (by unfold fSC; omega)
  have q : rSC τ = rSC σ := by
    simp only [rSC, PBD, OFZ, WKB, bd_0_20, bd_0_59, bd_0_20000, bd_m1_15, bd_0_500, bd_0_36499, bd_0_15, bd_0_1000000000000000, bd_0_1, bd_0_23999, e12, e108, e110, e113, e119, e142, e144, e147, e153, e176, e178, e181, e187, e199, e201, e206, e207, e573, e621, e622, e629, e630, e633, e635, e662]
  rw [q]
  exact r
/-- counters and room behind k operations -/
def rRK (k : Nat) (σ : Sto) : Prop := (675 ≤ σ.n ∧ σ.n ≤ 675 + 100 * k) ∧ ssum σ ≤ 4000000 + 20000 * k ∧ σ.I 0 1 ≤ 20 * (k : Int) ∧ σ.I 0 41 ≤ (k : Int) ∧ ∀ i, 0 ≤ i → i < 8 → σ.I 211 i ≤ 8 * (k : Int)
/-- what of a search is kept on both sides: to be told -/
def rSE (σ : Sto) : Prop := True
theorem rSE_cg {σ τ : Sto} (r : rSE σ) : rSE τ := r
/-- THE RELATION of both stores behind k operations -/
def RR (k : Nat) (σ : Sto) : Prop := Lay σ ∧ rRK k σ ∧ rTP σ ∧ rFL σ ∧ rVS σ ∧ rOB σ ∧ rVA σ ∧ rBD σ ∧ rTE σ ∧ rPK σ ∧ rUS σ ∧ rFO σ ∧ rSH σ ∧ rSW σ ∧ rHI σ ∧ rLN σ ∧ rMK σ ∧ rGR σ ∧ rTT σ ∧ rMT σ ∧ rSC σ ∧ rQU σ ∧ rKQ σ ∧ rHQ σ ∧ rPP σ ∧ rAN σ ∧ rSE σ
theorem RR.Lay {k : Nat} {σ : Sto} (h : RR k σ) : Lay σ := h.1
theorem RR.RK {k : Nat} {σ : Sto} (h : RR k σ) : rRK k σ := h.2.1
theorem RR.TP {k : Nat} {σ : Sto} (h : RR k σ) : rTP σ := h.2.2.1
theorem RR.FL {k : Nat} {σ : Sto} (h : RR k σ) : rFL σ := h.2.2.2.1
theorem RR.VS {k : Nat} {σ : Sto} (h : RR k σ) : rVS σ := h.2.2.2.2.1
theorem RR.OB {k : Nat} {σ : Sto} (h : RR k σ) : rOB σ := h.2.2.2.2.2.1
theorem RR.VA {k : Nat} {σ : Sto} (h : RR k σ) : rVA σ := h.2.2.2.2.2.2.1
theorem RR.BD {k : Nat} {σ : Sto} (h : RR k σ) : rBD σ := h.2.2.2.2.2.2.2.1
theorem RR.TE {k : Nat} {σ : Sto} (h : RR k σ) : rTE σ := h.2.2.2.2.2.2.2.2.1
theorem RR.PK {k : Nat} {σ : Sto} (h : RR k σ) : rPK σ := h.2.2.2.2.2.2.2.2.2.1
theorem RR.US {k : Nat} {σ : Sto} (h : RR k σ) : rUS σ := h.2.2.2.2.2.2.2.2.2.2.1
theorem RR.FO {k : Nat} {σ : Sto} (h : RR k σ) : rFO σ := h.2.2.2.2.2.2.2.2.2.2.2.1
theorem RR.SH {k : Nat} {σ : Sto} (h : RR k σ) : rSH σ := h.2.2.2.2.2.2.2.2.2.2.2.2.1
theorem RR.SW {k : Nat} {σ : Sto} (h : RR k σ) : rSW σ := h.2.2.2.2.2.2.2.2.2.2.2.2.2.1
theorem RR.HI {k : Nat} {σ : Sto} (h : RR k σ) : rHI σ := h.2.2.2.2.2.2.2.2.2.2.2.2.2.2.1
theorem RR.LN {k : Nat} {σ : Sto} (h : RR k σ) : rLN σ := h.2.2.2.2.2.2.2.2.2.2.2.2.2.2.2.1
theorem RR.MK {k : Nat} {σ : Sto} (h : RR k σ) : rMK σ := h.2.2.2.2.2.2.2.2.2.2.2.2.2.2.2.2.1
theorem RR.GR {k : Nat} {σ : Sto} (h : RR k σ) : rGR σ := h.2.2.2.2.2.2.2.2.2.2.2.2.2.2.2.2.2.1
theorem RR.TT {k : Nat} {σ : Sto} (h : RR k σ) : rTT σ := h.2.2.2.2.2.2.2.2.2.2.2.2.2.2.2.2.2.2.1
theorem RR.MT {k : Nat} {σ : Sto} (h : RR k σ) : rMT σ := h.2.2.2.2.2.2.2.2.2.2.2.2.2.2.2.2.2.2.2.1
theorem RR.SC {k : Nat} {σ : Sto} (h : RR k σ) : rSC σ := h.2.2.2.2.2.2.2.2.2.2.2.2.2.2.2.2.2.2.2.2.1
theorem RR.QU {k : Nat} {σ : Sto} (h : RR k σ) : rQU σ := h.2.2.2.2.2.2.2.2.2.2.2.2.2.2.2.2.2.2.2.2.2.1
theorem RR.KQ {k : Nat} {σ : Sto} (h : RR k σ) : rKQ σ := h.2.2.2.2.2.2.2.2.2.2.2.2.2.2.2.2.2.2.2.2.2.2.1
theorem RR.HQ {k : Nat} {σ : Sto} (h : RR k σ) : rHQ σ := h.2.2.2.2.2.2.2.2.2.2.2.2.2.2.2.2.2.2.2.2.2.2.2.1
theorem RR.PP {k : Nat} {σ : Sto} (h : RR k σ) : rPP σ := h.2.2.2.2.2.2.2.2.2.2.2.2.2.2.2.2.2.2.2.2.2.2.2.2.1
theorem RR.AN {k : Nat} {σ : Sto} (h : RR k σ) : rAN σ := h.2.2.2.2.2.2.2.2.2.2.2.2.2.2.2.2.2.2.2.2.2.2.2.2.2.1
theorem RR.SE {k : Nat} {σ : Sto} (h : RR k σ) : rSE σ := h.2.2.2.2.2.2.2.2.2.2.2.2.2.2.2.2.2.2.2.2.2.2.2.2.2.2
theorem RR.up (k : Nat) (σ : Sto) (h : RR k σ) : RR (k + 1) σ := by
  obtain ⟨a, ⟨b1, b2, b3, b4, b5⟩, c⟩ := h
  exact ⟨a, ⟨⟨b1.1, by omega⟩, by omega, by omega, by omega, fun i h0 h1 => by have := b5 i h0 h1; omega⟩, c⟩
theorem OPI.mk {E : XE} {d : Nat} {mX mM : MI} {as : List AV} {σ : Sto} {K : Sto → Prop} {P : Int → Sto → Prop} {G : Sto → Int → Sto → Prop} (hX : CC E mX d (aO 0 :: as) σ (RVI P)) (hM : ∀ y σ1, P y σ1 → SF σ σ1 → CC E mM d (aO 555 :: as) σ1 (RVI (G σ1))) (h : ∀ y σ1 z σ2, P y σ1 → SF σ σ1 → G σ1 z σ2 → SF σ1 σ2 → z = y ∧ K σ2) : OPI E d mX mM as σ K := by
  refine VV.mono ?_ hX
  rintro r σ1 ⟨y, rfl, hy, p⟩
  refine ⟨y, rfl, hy, fun s1 => ?_⟩
  refine VV.mono ?_ (hM y σ1 p s1)
  rintro r σ2 ⟨z, rfl, hz, g⟩
  exact ⟨z, rfl, hz, fun s2 => h y σ1 z σ2 p s1 g s2⟩
theorem OPL.mk {E : XE} {d : Nat} {mX mM : MI} {as : List AV} {σ : Sto} {K : Sto → Prop} {P : Int → Sto → Prop} {G : Sto → Int → Sto → Prop} (hX : CC E mX d (aO 0 :: as) σ (RVL P)) (hM : ∀ y σ1, P y σ1 → SF σ σ1 → CC E mM d (aO 555 :: as) σ1 (RVL (G σ1))) (h : ∀ y σ1 z σ2, P y σ1 → SF σ σ1 → G σ1 z σ2 → SF σ1 σ2 → z = y ∧ K σ2) : OPL E d mX mM as σ K := by
  refine VV.mono ?_ hX
  rintro r σ1 ⟨y, rfl, hy, p⟩
  refine ⟨y, rfl, hy, fun s1 => ?_⟩
  refine VV.mono ?_ (hM y σ1 p s1)
  rintro r σ2 ⟨z, rfl, hz, g⟩
  exact ⟨z, rfl, hz, fun s2 => h y σ1 z σ2 p s1 g s2⟩
/-- an operation that only tells -/
theorem OPI.q {E : XE} {d : Nat} {mX mM : MI} {as : List AV} {σ : Sto} {K : Sto → Prop} {a b : Int} (hX : CC E mX d (aO 0 :: as) σ (RI σ a)) (hM : CC E mM d (aO 555 :: as) σ (RI σ b)) (e : b = a) (h : K σ) : OPI E d mX mM as σ K := by
  refine VV.mono ?_ hX
  rintro r σ1 ⟨rfl, ha, rfl⟩
  refine ⟨a, rfl, ha, fun _ => ?_⟩
  refine VV.mono ?_ hM
  rintro r σ2 ⟨rfl, hb, rfl⟩
  exact ⟨b, rfl, hb, fun _ => ⟨e, h⟩⟩
theorem OPL.q {E : XE} {d : Nat} {mX mM : MI} {as : List AV} {σ : Sto} {K : Sto → Prop} {a b : Int} (hX : CC E mX d (aO 0 :: as) σ (RL σ a)) (hM : CC E mM d (aO 555 :: as) σ (RL σ b)) (e : b = a) (h : K σ) : OPL E d mX mM as σ K := by
  refine VV.mono ?_ hX
  rintro r σ1 ⟨rfl, ha, rfl⟩
  refine ⟨a, rfl, ha, fun _ => ?_⟩
  refine VV.mono ?_ hM
  rintro r σ2 ⟨rfl, hb, rfl⟩
  exact ⟨b, rfl, hb, fun _ => ⟨e, h⟩⟩

