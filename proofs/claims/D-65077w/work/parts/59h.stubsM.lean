section
/-! contracts: printed by tools/mk.py out of s98zzf_mrkM.py -/
set_option maxRecDepth 100000
set_option maxHeartbeats 1200000
/-! marks of a leaf: the model -/
def gxN (A : Int → Int) (a : Int) : Nat → Int
  | 0 => 0
  | n + 1 => max (gxN A a n) (A (a + n) + 1)
/-- how many places there are: the greatest of the rows a .. a + n - 1, and one -/
def gxP (A : Int → Int) (a n : Int) : Int := gxN A a n.toNat
theorem gxP_0 {A : Int → Int} {a n : Int} (h : n ≤ 0) : gxP A a n = 0 := by unfold gxP; rw [show n.toNat = 0 by omega]; rfl
theorem gxP_s {A : Int → Int} {a n : Int} (h : 0 ≤ n) : gxP A a (n + 1) = max (gxP A a n) (A (a + n) + 1) := by
  unfold gxP; rw [show (n + 1).toNat = n.toNat + 1 by omega]; show max _ (A (a + ((n.toNat : Nat) : Int)) + 1) = _; rw [show ((n.toNat : Nat) : Int) = n by omega]
theorem gxN_b {A : Int → Int} {a : Int} : ∀ n : Nat, (∀ i, 0 ≤ i → i < (n : Int) → 0 ≤ A (a + i) ∧ A (a + i) ≤ 15) → (0 ≤ gxN A a n ∧ gxN A a n ≤ 16) ∧ ∀ i, 0 ≤ i → i < (n : Int) → A (a + i) < gxN A a n := by
  intro n
  induction n with
  | zero => intro _; exact ⟨⟨Int.le_refl 0, by show (0 : Int) ≤ 16; decide⟩, fun i a b => by omega⟩
  | succ n ih =>
    intro h
    have i2 := ih (fun i a b => h i a (by omega))
    have w := h n (by omega) (by omega)
    show (0 ≤ max (gxN A a n) (A (a + n) + 1) ∧ max (gxN A a n) (A (a + n) + 1) ≤ 16) ∧ ∀ i, 0 ≤ i → i < ((n + 1 : Nat) : Int) → A (a + i) < max (gxN A a n) (A (a + n) + 1)
    refine ⟨by omega, fun i a0 b0 => ?_⟩
    rcases (show i < n ∨ i = n by omega) with z | z
    · have := i2.2 i a0 z; omega
    · rw [z]; omega
theorem gxP_b {A : Int → Int} {a n : Int} (h : ∀ i, 0 ≤ i → i < n → 0 ≤ A (a + i) ∧ A (a + i) ≤ 15) : (0 ≤ gxP A a n ∧ gxP A a n ≤ 16) ∧ ∀ i, 0 ≤ i → i < n → A (a + i) < gxP A a n := by
  have z := gxN_b (A := A) (a := a) n.toNat (fun i x y => h i x (by omega))
  exact ⟨z.1, fun i x y => z.2 i x (by omega)⟩
/-- the places of a leaf as they were when it was searched -/
def hpl (σ : Sto) (n : Int) : Int := gxP (σ.I 646) (σ.I 649 n) (σ.I 650 n - σ.I 649 n)
def stH (σ : Sto) (n v p x : Int) : Prop := exN (fun t => σ.I 590 (σ.I 582 v + t) = x ∧ exF (fun q => σ.I 646 q = p ∧ mT σ (σ.I 644) (20 * q) (σ.I 645 q) (σ.I 582 v + t)) (σ.I 649 n) (σ.I 650 n)) (tcM σ v)
noncomputable def mtH (σ : Sto) (n v : Int) : Int := mtc (stH σ n v) (fun p => σ.I 647 (16 * n + p)) (hpl σ n) (σ.I 617 n)
def ofL (σ : Sto) (n t : Int) : Prop := (σ.I 609 n ≠ 7 ∧ fitM σ n t) ∨ (σ.I 609 n = 7 ∧ exF (fun q => mT σ (σ.I 644) (20 * q) (σ.I 645 q) t) (σ.I 649 n) (σ.I 650 n))
def vlN (σ : Sto) (n v : Int) : Prop := σ.I 579 v = σ.I 614 n ∧ σ.I 639 (σ.I 614 n) ≠ 0 ∧ (σ.I 609 n = 7 → mtH σ n v ≠ 0)
def mkN (σ : Sto) (n o k t : Int) : Prop := exN (fun j => vlN σ n (σ.I 595 o + j) ∧ (σ.I 582 (σ.I 595 o + j) ≤ t ∧ t < σ.I 582 (σ.I 595 o + j + 1)) ∧ ofL σ n t) k
theorem mkN_0 {σ : Sto} {n o k t : Int} (h : k ≤ 0) : ¬ mkN σ n o k t := exN_0 _ _ h
theorem mkN_n {σ : Sto} {n o k t : Int} (h0 : 0 ≤ k) (h : ¬ vlN σ n (σ.I 595 o + k)) : mkN σ n o (k + 1) t ↔ mkN σ n o k t := by
  unfold mkN; rw [exN_s _ k (k + 1) h0 rfl]
  exact ⟨fun q => q.elim id (fun z => absurd z.1 h), Or.inl⟩
theorem mkN_y {σ : Sto} {n o k t : Int} (h0 : 0 ≤ k) (h : vlN σ n (σ.I 595 o + k)) : mkN σ n o (k + 1) t ↔ (mkN σ n o k t ∨ ((σ.I 582 (σ.I 595 o + k) ≤ t ∧ t < σ.I 582 (σ.I 595 o + k + 1)) ∧ ofL σ n t)) := by
  unfold mkN; rw [exN_s _ k (k + 1) h0 rfl]
  exact ⟨fun q => q.elim Or.inl (fun z => Or.inr z.2), fun q => q.elim Or.inl (fun z => Or.inr ⟨h, z⟩)⟩
/-- one row of a leaf brought back -/
def BR1 (σ τ : Sto) (q : Int) : Prop := τ.I 629 q = σ.I 645 q ∧ τ.I 630 q = σ.I 646 q ∧ ∀ k, 0 ≤ k → k < σ.I 645 q → τ.I 628 (20 * q + k) = σ.I 644 (20 * q + k)
def BRP (σ τ : Sto) (n : Int) : Prop := (∀ q, σ.I 649 n ≤ q → q < σ.I 650 n → BR1 σ τ q) ∧ (τ.I 631 n = σ.I 649 n ∧ τ.I 632 n = σ.I 650 n) ∧ τ.I 555 108 = hpl σ n ∧ ∀ p, 0 ≤ p → p < hpl σ n → τ.I 633 p = σ.I 647 (16 * n + p)
def wsBr (c : Nat) (i : Int) : Prop := (628 ≤ c ∧ c ≤ 633) ∨ (c = 555 ∧ i = 108)
abbrev KBr (σ τ : Sto) : Prop := Ch wsBr σ τ
/-- the bounds of what the search left -/
def HBD (σ : Sto) : Prop := bd_0_20 σ 645 6000 ∧ bd_0_15 σ 646 6000 ∧ bd_m128_127 σ 644 120000 ∧ bd_0_500 σ 647 2080 ∧ (∀ n, 0 ≤ n → n < σ.I 555 80 → σ.I 609 n = 7 → 0 ≤ σ.I 649 n ∧ σ.I 649 n ≤ σ.I 650 n ∧ σ.I 650 n ≤ 6000)
/-- what the matching writes into -/
def WKC (σ : Sto) : Prop := bd_0_15 σ 630 6000 ∧ bd_0_20 σ 629 6000 ∧ bd_0_500 σ 633 16 ∧ bd_m1_15 σ 635 1024

theorem sp_X9_isOfLeaf {E : XE} {d : Nat} {σ : Sto} {x1 : Int} {x2 : Int} (hd : 5 ≤ d) (hL : Lay σ)  (p0 : 0 ≤ x1 ∧ x1 < σ.I 555 80) (p1 : σ.I 555 80 ≤ 130) (p2 : SRC σ) (p3 : TW σ) (p4 : 7 ≤ σ.I 609 x1 ∧ (σ.I 609 x1 = 7 ∨ 11 ≤ σ.I 609 x1)) (p5 : 0 ≤ x2 ∧ x2 < 24000) (p6 : bd_0_20 σ 587 24000) (p7 : HBD σ) : CC E mX9_isOfLeaf d [aO 555, aI (x1), aI (x2)] σ (RVZ (fun y τ => (y = 1 ↔ ofL σ x1 x2) ∧ (KQ σ τ))) := by sorry
theorem sp_X9_bringPlaces {E : XE} {d : Nat} {σ : Sto} {x1 : Int} (hd : 2 ≤ d) (hL : Lay σ)  (p0 : 0 ≤ x1 ∧ x1 < 130 ∧ x1 < σ.I 555 80) (p1 : σ.I 609 x1 = 7) (p2 : HBD σ) (p3 : WKC σ) : CC E mX9_bringPlaces d [aO 555, aI (x1)] σ (RV (fun τ => (BRP σ τ x1) ∧ (WKC τ) ∧ (KBr σ τ))) := by sorry
end
section
/-! contracts: printed by tools/mk.py out of s98zzg_mrkL.py -/
set_option maxRecDepth 100000
set_option maxHeartbeats 1200000
/-! marks of a leaf and of nodes: the model -/
def wsMm (c : Nat) (i : Int) : Prop := c = 654 ∨ (626 ≤ c ∧ c ≤ 636) ∨ (c = 555 ∧ (i = 100 ∨ i = 108 ∨ i = 113))
abbrev KMm (σ τ : Sto) : Prop := Ch wsMm σ τ
section KMMS
variable {σ τ : Sto}
theorem kmm (h : KMm σ τ) {c : Nat} (q : c ≠ 654 ∧ ¬ (626 ≤ c ∧ c ≤ 636) ∧ c ≠ 555) : τ.I c = σ.I c := funext fun i => h.2 _ _ (by unfold wsMm; omega)
theorem mT_m (h : KMm σ τ) {A : Int → Int} {i n t : Int} : mT τ A i n t ↔ mT σ A i n t := by unfold mT; rw [kmm h (c := 587) (by decide), kmm h (c := 586) (by decide)]
theorem fitM_m (h : KMm σ τ) (hS : SRC σ) {n t : Int} : fitM τ n t ↔ fitM σ n t := by
  have es : src τ = src σ := by unfold src; rw [h.1.1]
  have z := hS.1.2.2
  have hq : ∀ k, qb τ k = qb σ k := fun k => by
    unfold qb; rw [es, h.2 555 75 (by unfold wsMm; omega)]; exact h.2 _ _ (by unfold wsMm; omega)
  have hp : ptM τ n = ptM σ n := by
    funext k; unfold ptM
    rw [kmm h (c := 577) (by decide), kmm h (c := 614) (by decide), kmm h (c := 558) (by decide), kmm h (c := 578) (by decide), kmm h (c := 615) (by decide), hq]
  unfold fitM
  rw [hp, kmm h (c := 609) (by decide), kmm h (c := 616) (by decide), kmm h (c := 615) (by decide), kmm h (c := 586) (by decide), kmm h (c := 587) (by decide), kmm h (c := 617) (by decide)]
theorem stH_m (h : KMm σ τ) : stH τ = stH σ := by
  funext n v p x; unfold stH tcM mT
  rw [kmm h (c := 590) (by decide), kmm h (c := 582) (by decide), kmm h (c := 646) (by decide), kmm h (c := 644) (by decide), kmm h (c := 645) (by decide), kmm h (c := 649) (by decide), kmm h (c := 650) (by decide), kmm h (c := 587) (by decide), kmm h (c := 586) (by decide)]
theorem mtH_m (h : KMm σ τ) : mtH τ = mtH σ := by
  funext n v; unfold mtH hpl; rw [stH_m h, kmm h (c := 647) (by decide), kmm h (c := 646) (by decide), kmm h (c := 649) (by decide), kmm h (c := 650) (by decide), kmm h (c := 617) (by decide)]
theorem ofL_m (h : KMm σ τ) (hS : SRC σ) {n t : Int} : ofL τ n t ↔ ofL σ n t := by
  unfold ofL
  rw [fitM_m h hS, kmm h (c := 609) (by decide), kmm h (c := 644) (by decide), kmm h (c := 645) (by decide), kmm h (c := 649) (by decide), kmm h (c := 650) (by decide)]
  unfold mT
  rw [kmm h (c := 587) (by decide), kmm h (c := 586) (by decide)]
theorem mkN_m (h : KMm σ τ) (hS : SRC σ) {n o k t : Int} : mkN τ n o k t ↔ mkN σ n o k t := by
  unfold mkN vlN
  rw [mtH_m h, kmm h (c := 579) (by decide), kmm h (c := 614) (by decide), kmm h (c := 639) (by decide), kmm h (c := 609) (by decide), kmm h (c := 595) (by decide), kmm h (c := 582) (by decide)]
  constructor
  · rintro ⟨j, a, b, c, d, e⟩; exact ⟨j, a, b, c, d, (ofL_m h hS).mp e⟩
  · rintro ⟨j, a, b, c, d, e⟩; exact ⟨j, a, b, c, d, (ofL_m h hS).mpr e⟩
theorem HBD_m (h : KMm σ τ) (g : HBD σ) : HBD τ := by
  obtain ⟨a, b, c, d, e⟩ := g
  refine ⟨bd_0_20_eq a (kmm h (by decide)), bd_0_15_eq b (kmm h (by decide)), bd_m128_127_eq c (kmm h (by decide)), bd_0_500_eq d (kmm h (by decide)), ?_⟩
  rw [show τ.I 555 80 = σ.I 555 80 from h.2 555 80 (by unfold wsMm; omega), kmm h (c := 609) (by decide), kmm h (c := 649) (by decide), kmm h (c := 650) (by decide)]; exact e
end KMMS
/-- the matching with what was brought back is that of the search -/
theorem BRP_mt {σ τ : Sto} {n v : Int} (h : BRP σ τ n) (e : ∀ c, c = 590 ∨ c = 582 ∨ c = 587 ∨ c = 586 ∨ c = 617 → τ.I c = σ.I c) (h1 : 1 ≤ hpl σ n) : mtc (stQ τ n v) (τ.I 633) (τ.I 555 108) (τ.I 617 n) = mtH σ n v := by
  obtain ⟨hr, ⟨h631, h632⟩, h108, h633⟩ := h
  unfold mtH
  rw [h108, e 617 (by omega)]
  refine mtc_cg (fun p y p0 p1 => ?_) (fun p p0 p1 => h633 p (by omega) p1) h1
  unfold stQ stP stH lkQ tcM
  rw [e 590 (by omega), e 582 (by omega), h631, h632]
  have key : ∀ t, exF (fun q => τ.I 630 q = p ∧ mT τ (τ.I 628) (20 * q) (τ.I 629 q) t) (σ.I 649 n) (σ.I 650 n) ↔ exF (fun q => σ.I 646 q = p ∧ mT σ (σ.I 644) (20 * q) (σ.I 645 q) t) (σ.I 649 n) (σ.I 650 n) := fun t => by
    constructor
    · rintro ⟨q, a, b, c, d⟩
      obtain ⟨r1, r2, r3⟩ := hr q a b
      refine ⟨q, a, b, by rw [← r2]; exact c, ?_⟩
      unfold mT at d ⊢
      rw [r1, e 587 (by omega), e 586 (by omega)] at d
      exact ⟨d.1, fun k k0 k1 => by have z := d.2 k k0 k1; show σ.I 586 (20 * t + k) = σ.I 644 (20 * q + k); rw [← r3 k k0 k1]; exact z⟩
    · rintro ⟨q, a, b, c, d⟩
      obtain ⟨r1, r2, r3⟩ := hr q a b
      refine ⟨q, a, b, by show τ.I 630 q = p; rw [r2]; exact c, ?_⟩
      unfold mT at d ⊢
      rw [r1, e 587 (by omega), e 586 (by omega)]
      exact ⟨d.1, fun k k0 k1 => by have z := d.2 k k0 k1; show σ.I 586 (20 * t + k) = τ.I 628 (20 * q + k); rw [r3 k k0 k1]; exact z⟩
  constructor
  · rintro ⟨j, a, b, c, d⟩; exact ⟨j, a, b, c, (key _).mp d⟩
  · rintro ⟨j, a, b, c, d⟩; exact ⟨j, a, b, c, (key _).mpr d⟩
theorem BRP_k {σ τ υ : Sto} {n : Int} (h : BRP σ τ n) (e : ∀ c i, (628 ≤ c ∧ c ≤ 633) ∨ (c = 555 ∧ i = 108) → υ.I c i = τ.I c i) : BRP σ υ n := by
  obtain ⟨hr, ⟨h631, h632⟩, h108, h633⟩ := h
  exact ⟨fun q a b => by obtain ⟨r1, r2, r3⟩ := hr q a b; exact ⟨by rw [e _ _ (by omega)]; exact r1, by rw [e _ _ (by omega)]; exact r2, fun k x y => by rw [e _ _ (by omega)]; exact r3 k x y⟩, ⟨by rw [e _ _ (by omega)]; exact h631, by rw [e _ _ (by omega)]; exact h632⟩, by rw [e _ _ (by omega)]; exact h108, fun p a b => by rw [e _ _ (by omega)]; exact h633 p a b⟩
def lfC (σ : Sto) (n o f : Int) : Prop := σ.I 614 n = f ∧ (σ.I 609 n = 7 ∨ σ.I 609 n = 11 ∨ σ.I 609 n = 12) ∧ σ.I 641 (601 * n + o) ≠ 0
def lfJ (σ : Sto) (o f t n : Int) : Prop := lfC σ n o f ∧ mkN σ n o (σ.I 596 o) t
/-- what the marking in the model rests on -/
def MME (σ : Sto) (o : Nat) (k : Int) : Prop := (OB σ 595 596 ∧ VT σ (σ.I 555 30) ∧ σ.I 555 30 ≤ 6000 ∧ σ.I 595 k + σ.I 596 k ≤ σ.I 555 30) ∧ (SRC σ ∧ TW σ ∧ σ.I 555 80 ≤ 130) ∧ bd_0_20 σ 587 24000 ∧ bd_0_499 σ 590 24000 ∧ HBD σ ∧ WKC σ ∧ bd_0_1 σ 654 24000
def LFH (σ : Sto) (k n : Int) : Prop := (0 ≤ n ∧ n < σ.I 555 80) ∧ (σ.I 609 n = 7 → σ.I 641 (601 * n + k) ≠ 0 → 1 ≤ hpl σ n)

theorem sp_X9_markLeaf {E : XE} {d : Nat} {σ : Sto} {x1 : Int} {x2 : Int} {x3 : Int} (hd : 507 ≤ d) (hL : Lay σ)  (p0 : LFH σ x2 x1) (p1 : 0 ≤ x2 ∧ x2 < 601) (p2 : MME σ 0 x2) (p3 : 0 ≤ x3 ∧ x3 < 12) : CC E mX9_markLeaf d [aO 555, aI (x1), aI (x2), aI (x3)] σ (RV (fun τ => (∀ t, 0 ≤ t → t < 24000 → (τ.I 654 t = 1 ↔ (σ.I 654 t = 1 ∨ lfJ σ x2 x3 t x1))) ∧ (bd_0_1 τ 654 24000) ∧ (WKC τ) ∧ (KMm σ τ))) := by sorry
end
section
/-! contracts: printed by tools/mk.py out of s98zzh_expM.py -/
set_option maxRecDepth 100000
set_option maxHeartbeats 1200000
/-! explain and marks of the model: with the question read again -/
theorem FAB_q {σ ρ : Sto} (h : KQu (σ.wR 555 74 (some 640)) ρ) (g : FAB σ) : FAB ρ := by
  have e : ∀ c, ¬ (609 ≤ c ∧ c ≤ 620) → c ≠ 555 → ρ.I c = σ.I c := fun c a b => funext fun i => h.2 c i (by unfold wsQu; omega)
  unfold FAB; rw [e 578 (by decide) (by decide), show ρ.I 555 27 = σ.I 555 27 from h.2 _ _ (by unfold wsQu; omega)]; exact g
def XMQ (τ : Sto) (sz zm : Int → Int) : Prop := (0 ≤ τ.I 555 80 - 1 ∧ WFX (GM τ) (RQM τ sz zm) 130 (τ.I 555 80 - 1)) ∧ HMP τ ∧ sz (τ.I 555 80 - 1) ≤ 130
def MRM (G : Nat → Int → Int) (L : Int → Prop) (R : Nat → Int → Prop) : Prop :=
  (∀ x, G 0 x ≠ 4 → G 0 x ≠ 5 → L x → R 0 x) ∧ (∀ x, G 0 x ≠ 4 → G 0 x ≠ 5 → R 1 (G 1 x) → R 0 x) ∧ (∀ m, 0 ≤ m → G 3 m ≠ 1 → R 0 m → R 1 m) ∧ (∀ m, 0 ≤ m → R 1 (G 2 m) → R 1 m)
def MKM (G : Nat → Int → Int) (L : Int → Prop) (j : Nat) (x : Int) : Prop := ∀ R : Nat → Int → Prop, MRM G L R → R j x
section MKMS
variable {G : Nat → Int → Int} {L : Int → Prop} {x m : Int}
theorem MKM_inv : ∀ {j : Nat} {x : Int}, MKM G L j x → (j = 0 ∧ (G 0 x ≠ 4 ∧ G 0 x ≠ 5) ∧ (L x ∨ MKM G L 1 (G 1 x))) ∨ (j = 1 ∧ 0 ≤ x ∧ ((G 3 x ≠ 1 ∧ MKM G L 0 x) ∨ MKM G L 1 (G 2 x))) := by
  intro j x h
  have q := h (fun j x => MKM G L j x ∧ ((j = 0 ∧ (G 0 x ≠ 4 ∧ G 0 x ≠ 5) ∧ (L x ∨ MKM G L 1 (G 1 x))) ∨ (j = 1 ∧ 0 ≤ x ∧ ((G 3 x ≠ 1 ∧ MKM G L 0 x) ∨ MKM G L 1 (G 2 x))))) ⟨?_, ?_, ?_, ?_⟩
  · exact q.2
  · exact fun x a b c => ⟨fun R r => r.1 x a b c, Or.inl ⟨rfl, ⟨a, b⟩, Or.inl c⟩⟩
  · exact fun x a b c => ⟨fun R r => r.2.1 x a b (c.1 R r), Or.inl ⟨rfl, ⟨a, b⟩, Or.inr c.1⟩⟩
  · exact fun m a b c => ⟨fun R r => r.2.2.1 m a b (c.1 R r), Or.inr ⟨rfl, a, Or.inl ⟨b, c.1⟩⟩⟩
  · exact fun m a b => ⟨fun R r => r.2.2.2 m a (b.1 R r), Or.inr ⟨rfl, a, Or.inr b.1⟩⟩
theorem MKM_n (h4 : G 0 x ≠ 4) (h5 : G 0 x ≠ 5) : MKM G L 0 x ↔ (L x ∨ MKM G L 1 (G 1 x)) := by
  constructor
  · intro q
    rcases MKM_inv q with ⟨_, _, w⟩ | ⟨w, _⟩
    · exact w
    · exact absurd w (by decide)
  · exact fun q R r => q.elim (fun z => r.1 x h4 h5 z) (fun z => r.2.1 x h4 h5 (z R r))
theorem MKM_x (h : G 0 x = 4 ∨ G 0 x = 5) : ¬ MKM G L 0 x := by
  intro q
  rcases MKM_inv q with ⟨_, w, _⟩ | ⟨w, _⟩
  · omega
  · exact absurd w (by decide)
theorem MKM_e (h : m < 0) : ¬ MKM G L 1 m := by
  intro q
  rcases MKM_inv q with ⟨w, _⟩ | ⟨_, w, _⟩
  · exact absurd w (by decide)
  · omega
theorem MKM_1 (h : 0 ≤ m) (h1 : G 3 m = 1) : MKM G L 1 m ↔ MKM G L 1 (G 2 m) := by
  constructor
  · intro q
    rcases MKM_inv q with ⟨w, _⟩ | ⟨_, _, w | w⟩
    · exact absurd w (by decide)
    · exact absurd h1 w.1
    · exact w
  · exact fun q R r => r.2.2.2 m h (q R r)
theorem MKM_2 (h : 0 ≤ m) (h1 : G 3 m ≠ 1) : MKM G L 1 m ↔ (MKM G L 0 m ∨ MKM G L 1 (G 2 m)) := by
  constructor
  · intro q
    rcases MKM_inv q with ⟨w, _⟩ | ⟨_, _, w | w⟩
    · exact absurd w (by decide)
    · exact Or.inl w.2
    · exact Or.inr w
  · exact fun q R r => q.elim (fun z => r.2.2.1 m h h1 (z R r)) (fun z => r.2.2.2 m h (z R r))
end MKMS
def MKN1 (σ : Sto) (o f t : Int) (j : Nat) (x : Int) : Prop := MKM (GM σ) (lfJ σ o f t) j x
theorem GM_m {σ τ : Sto} (h : KMm σ τ) : GM τ = GM σ := by
  unfold GM; rw [kmm h (c := 609) (by decide), kmm h (c := 610) (by decide), kmm h (c := 611) (by decide), kmm h (c := 612) (by decide)]
theorem lfJ_m {σ τ : Sto} (h : KMm σ τ) (hS : SRC σ) {o f t : Int} : lfJ τ o f t = lfJ σ o f t := by
  funext n
  unfold lfJ lfC
  rw [show mkN τ n o (τ.I 596 o) t = mkN σ n o (σ.I 596 o) t from by rw [kmm h (c := 596) (by decide)]; exact propext (mkN_m h hS), kmm h (c := 614) (by decide), kmm h (c := 609) (by decide), kmm h (c := 641) (by decide)]
theorem MKN_m {σ τ : Sto} (h : KMm σ τ) (hS : SRC σ) {o f t : Int} {j : Nat} {x : Int} : MKN1 τ o f t j x ↔ MKN1 σ o f t j x := by
  unfold MKN1; rw [GM_m h, lfJ_m h hS]
theorem SRC_m {σ τ : Sto} (h : KMm σ τ) (g : SRC σ) : SRC τ := by
  have es : src τ = src σ := by unfold src; rw [h.1.1]
  unfold SRC at g ⊢
  rw [es, h.1.1, h.1.2.1, h.2 555 75 (by unfold wsMm; omega), h.2 555 77 (by unfold wsMm; omega)]; exact g
theorem TW_m {σ τ : Sto} (h : KMm σ τ) (g : TW σ) : TW τ := by
  intro n a b
  rw [h.2 555 80 (by unfold wsMm; omega)] at b
  have z := g n a b
  unfold TN at z ⊢
  rw [kmm h (c := 609) (by decide), kmm h (c := 614) (by decide), kmm h (c := 617) (by decide), kmm h (c := 613) (by decide), kmm h (c := 578) (by decide), kmm h (c := 615) (by decide), kmm h (c := 616) (by decide), h.2 555 77 (by unfold wsMm; omega), kmm h (c := 618) (by decide), kmm h (c := 619) (by decide), kmm h (c := 620) (by decide)]; exact z
theorem MME_m {σ τ : Sto} {k : Int} (h : KMm σ τ) (g : MME σ 0 k) (hw : WKC τ) (hb : bd_0_1 τ 654 24000) : MME τ 0 k := by
  obtain ⟨⟨m1, m2, m3, m4⟩, ⟨m5, m6, m7⟩, m8, m9, m10, m11, m12⟩ := g
  have e30 : τ.I 555 30 = σ.I 555 30 := h.2 _ _ (by unfold wsMm; omega)
  refine ⟨⟨?_, ?_, by rw [e30]; exact m3, by rw [e30, kmm h (c := 595) (by decide), kmm h (c := 596) (by decide)]; exact m4⟩, ⟨SRC_m h m5, TW_m h m6, by rw [h.2 555 80 (by unfold wsMm; omega)]; exact m7⟩, bd_0_20_eq m8 (kmm h (by decide)), bd_0_499_eq m9 (kmm h (by decide)), HBD_m h m10, hw, hb⟩
  · unfold OB; rw [kmm h (c := 595) (by decide), kmm h (c := 596) (by decide)]; exact m1
  · unfold VT tcM at m2 ⊢; rw [e30, kmm h (c := 582) (by decide)]; exact m2
theorem LFH_m {σ τ : Sto} {k n : Int} (h : KMm σ τ) (g : LFH σ k n) : LFH τ k n := by
  unfold LFH hpl at g ⊢
  rw [h.2 555 80 (by unfold wsMm; omega), kmm h (c := 609) (by decide), kmm h (c := 641) (by decide), kmm h (c := 646) (by decide), kmm h (c := 649) (by decide), kmm h (c := 650) (by decide)]; exact g

theorem sp_X9_explain {E : XE} {d : Nat} {σ : Sto} {sz : Int → Int} {zm : Int → Int} {x1 : Int} (hd : 140 ≤ d) (hL : Lay σ)  (p0 : inR x1) (p1 : 0 ≤ σ.I 555 115 ∧ σ.I 555 115 ≤ 600) (p2 : (σ.I 555 114 = 1 ∧ (0 ≤ x1 ∧ x1 < σ.I 555 115)) → ((0 ≤ σ.I 555 120 ∧ σ.I 555 120 ≤ 400) ∧ qok (eQ σ 640 0 (σ.I 555 120)) = 1 ∧ (0 ≤ σ.I 637 x1 ∧ σ.I 637 x1 < 601)) ∧ ∀ ς, LDQ σ ς 640 0 (σ.I 555 120) → XMQ ς sz zm) (p3 : ∀ m, 0 ≤ zm m) (p4 : 0 ≤ σ.I 555 27 ∧ σ.I 555 27 ≤ 12) (p5 : FAB σ) : CC E mX9_explain d [aO 555, aI (x1)] σ (RVI (fun y τ => ((¬ (σ.I 555 114 = 1 ∧ (0 ≤ x1 ∧ x1 < σ.I 555 115)) ∧ y = -1 ∧ τ = σ) ∨ ((σ.I 555 114 = 1 ∧ (0 ≤ x1 ∧ x1 < σ.I 555 115)) ∧ y = τ.I 555 133 ∧ (0 ≤ τ.I 555 133 ∧ τ.I 555 133 ≤ 130) ∧ ∃ ς κ, LDQ σ ς 640 0 (σ.I 555 120) ∧ κ = ς.wI 555 133 0 ∧ EXK κ 0 (κ.I 555 80 - 1) (σ.I 637 x1) 0 (lnM κ) (lnM τ) ∧ KEk κ τ)))) := by sorry
abbrev RC_X9_markNode (E : XE) (f : Nat) : Prop := ∀ {d : Nat} {σ : Sto} {x1 : Int} {x2 : Int} {x3 : Int}, 509 + f ≤ d → Lay σ → (0 ≤ x1 ∧ WFX (GM σ) (LFH σ x2) f x1) → (0 ≤ x2 ∧ x2 < 601) → (MME σ 0 x2) → (0 ≤ x3 ∧ x3 < 12) → CC E mX9_markNode d [aO 555, aI (x1), aI (x2), aI (x3)] σ (RV (fun τ => (∀ t, 0 ≤ t → t < 24000 → (τ.I 654 t = 1 ↔ (σ.I 654 t = 1 ∨ MKN1 σ x2 x3 t 0 x1))) ∧ (bd_0_1 τ 654 24000) ∧ (WKC τ) ∧ (KMm σ τ)))
theorem sp_X9_markNode {E : XE} {d : Nat} {σ : Sto} {f : Nat} {x1 : Int} {x2 : Int} {x3 : Int} (hd : 509 + f ≤ d) (hL : Lay σ)  (p0 : 0 ≤ x1 ∧ WFX (GM σ) (LFH σ x2) f x1) (p1 : 0 ≤ x2 ∧ x2 < 601) (p2 : MME σ 0 x2) (p3 : 0 ≤ x3 ∧ x3 < 12) (p4 : RC_X9_markNode E (Nat.pred f)) : CC E mX9_markNode d [aO 555, aI (x1), aI (x2), aI (x3)] σ (RV (fun τ => (∀ t, 0 ≤ t → t < 24000 → (τ.I 654 t = 1 ↔ (σ.I 654 t = 1 ∨ MKN1 σ x2 x3 t 0 x1))) ∧ (bd_0_1 τ 654 24000) ∧ (WKC τ) ∧ (KMm σ τ))) := by sorry
theorem rc_X9_markNode {E : XE} : ∀ f : Nat, RC_X9_markNode E f := by
  intro f
  induction f with
  | zero => intro d σ x1 x2 x3 hd hL p0 p1 p2 p3; exact (p0.2).elim
  | succ f ih => intro d σ x1 x2 x3 hd hL p0 p1 p2 p3; exact sp_X9_markNode hd hL p0 p1 p2 p3 ih
theorem sx_X9_markNode {E : XE} {f : Nat} {d : Nat} {σ : Sto} {x1 x2 x3 : Int} (hd : 509 + f ≤ d) (hL : Lay σ) (p0 : 0 ≤ x1 ∧ WFX (GM σ) (LFH σ x2) f x1) (p1 : 0 ≤ x2 ∧ x2 < 601) (p2 : MME σ 0 x2) (p3 : 0 ≤ x3 ∧ x3 < 12) : CC E mX9_markNode d [aO 555, aI (x1), aI (x2), aI (x3)] σ (RV (fun τ => (∀ t, 0 ≤ t → t < 24000 → (τ.I 654 t = 1 ↔ (σ.I 654 t = 1 ∨ MKN1 σ x2 x3 t 0 x1))) ∧ (bd_0_1 τ 654 24000) ∧ (WKC τ) ∧ (KMm σ τ))) := rc_X9_markNode f hd hL p0 p1 p2 p3
end
section
/-! contracts: printed by tools/mk.py out of s98zzi_mrkN.py -/
set_option maxRecDepth 100000
set_option maxHeartbeats 1200000
/-! the marks of a hit, in the model -/
noncomputable def lsM2 (q : Int → Prop) (st : Int → Int) (a : Int) : Nat → Int
  | 0 => -1
  | n + 1 => if zb (q (a + n)) = 1 then st (a + n) else lsM2 q st a n
noncomputable def stN (q : Prop) (la j a b : Int) (s : MKL) : MKL := if zb (q ∧ a ≠ la) = 1 then pshM s j a b else s
noncomputable def mkUN (q : Int → Prop) (st en : Int → Int) (j a : Int) (s : MKL) : Nat → MKL
  | 0 => s
  | n + 1 => stN (q (a + n)) (lsM2 q st a n) j (st (a + n)) (en (a + n)) (mkUN q st en j a s n)
noncomputable def mkU (q : Int → Prop) (st en : Int → Int) (j a : Int) (s : MKL) (n : Int) : MKL := mkUN q st en j a s n.toNat
noncomputable def lsU (q : Int → Prop) (st : Int → Int) (a n : Int) : Int := lsM2 q st a n.toNat
theorem mkU_0 {q : Int → Prop} {st en : Int → Int} {j a n : Int} {s : MKL} (h : n ≤ 0) : mkU q st en j a s n = s ∧ lsU q st a n = -1 := by unfold mkU lsU; rw [show n.toNat = 0 by omega]; exact ⟨rfl, rfl⟩
theorem mkU_s {q : Int → Prop} {st en : Int → Int} {j a n : Int} {s : MKL} (h : 0 ≤ n) : mkU q st en j a s (n + 1) = stN (q (a + n)) (lsU q st a n) j (st (a + n)) (en (a + n)) (mkU q st en j a s n) ∧ lsU q st a (n + 1) = if zb (q (a + n)) = 1 then st (a + n) else lsU q st a n := by
  unfold mkU lsU; rw [show (n + 1).toNat = n.toNat + 1 by omega]
  constructor
  · show stN _ _ _ _ _ _ = _; rw [show ((n.toNat : Nat) : Int) = n by omega]
  · show (if _ then _ else _) = _; rw [show ((n.toNat : Nat) : Int) = n by omega]
noncomputable def mkWN (q : Int → Prop) (st en A C : Int → Int) (s : MKL) : Nat → MKL
  | 0 => s
  | n + 1 => mkU q st en n (A n) (mkWN q st en A C s n) (C n)
noncomputable def mkW (q : Int → Prop) (st en A C : Int → Int) (s : MKL) (n : Int) : MKL := mkWN q st en A C s n.toNat
theorem mkW_0 {q : Int → Prop} {st en A C : Int → Int} {n : Int} {s : MKL} (h : n ≤ 0) : mkW q st en A C s n = s := by unfold mkW; rw [show n.toNat = 0 by omega]; rfl
theorem mkW_s {q : Int → Prop} {st en A C : Int → Int} {n : Int} {s : MKL} (h : 0 ≤ n) : mkW q st en A C s (n + 1) = mkU q st en n (A n) (mkW q st en A C s n) (C n) := by
  unfold mkW; rw [show (n + 1).toNat = n.toNat + 1 by omega]; show mkU _ _ _ _ _ _ _ = _; rw [show ((n.toNat : Nat) : Int) = n by omega]
def msM (τ : Sto) : MKL := (τ.I 555 134, fun i => τ.I 655 (3 * i), fun i => τ.I 655 (3 * i + 1), fun i => τ.I 655 (3 * i + 2))
theorem ms_M {s0 s1 s2 s3 s4 : Sto} {j a b : Int} (e1 : s1 = s0.wI 655 (3 * s0.I 555 134) j) (e2 : s2 = s1.wI 655 (3 * s1.I 555 134 + 1) a) (e3 : s3 = s2.wI 655 (3 * s2.I 555 134 + 2) b) (e4 : s4 = s3.wI 555 134 (s3.I 555 134 + 1)) : msM s4 = pshM (msM s0) j a b ∧ (∀ c i, c ≠ 655 → ¬ (c = 555 ∧ i = 134) → s4.I c i = s0.I c i) ∧ s4.2 = s0.2 := by
  have n1 : s1.I 555 134 = s0.I 555 134 := by rw [e1, I_ne _ _ _ _ (by decide)]
  have n2 : s2.I 555 134 = s0.I 555 134 := by rw [e2, I_ne _ _ _ _ (by decide)]; exact n1
  have n3 : s3.I 555 134 = s0.I 555 134 := by rw [e3, I_ne _ _ _ _ (by decide)]; exact n2
  rw [n1] at e2
  rw [n2] at e3
  rw [n3] at e4
  have h6 : ∀ i, s4.I 655 i = if i = 3 * s0.I 555 134 then j else if i = 3 * s0.I 555 134 + 1 then a else if i = 3 * s0.I 555 134 + 2 then b else s0.I 655 i := fun i => by
    rw [e4, I_ne _ _ _ _ (by decide), e3, I_wI, e2, I_wI, e1, I_wI]
    by_cases x : i = 3 * s0.I 555 134
    · rw [if_neg (by omega), if_neg (by omega), if_pos ⟨rfl, x⟩, if_pos x]
    · rw [if_neg x]
      by_cases y : i = 3 * s0.I 555 134 + 1
      · rw [if_neg (by omega), if_pos ⟨rfl, y⟩, if_pos y]
      · rw [if_neg y]
        by_cases z : i = 3 * s0.I 555 134 + 2
        · rw [if_pos ⟨rfl, z⟩, if_pos z]
        · rw [if_neg (fun w => z w.2), if_neg (fun w => y w.2), if_neg (fun w => x w.2), if_neg z]
  refine ⟨?_, fun c i p q => by rw [e4, I_ot _ _ _ _ _ _ q, e3, I_ne _ _ _ _ p, e2, I_ne _ _ _ _ p, e1, I_ne _ _ _ _ p], by rw [e4, e3, e2, e1]; rfl⟩
  refine Prod.ext (by show s4.I 555 134 = s0.I 555 134 + 1; rw [e4, I_same]) (Prod.ext ?_ (Prod.ext ?_ ?_))
  · show (fun i => s4.I 655 (3 * i)) = upF (fun i => s0.I 655 (3 * i)) (s0.I 555 134) j
    funext i; unfold upF; rw [h6]
    by_cases z : i = s0.I 555 134
    · rw [if_pos (by omega), if_pos z]
    · rw [if_neg (by omega), if_neg (by omega), if_neg (by omega), if_neg z]
  · show (fun i => s4.I 655 (3 * i + 1)) = upF (fun i => s0.I 655 (3 * i + 1)) (s0.I 555 134) a
    funext i; unfold upF; rw [h6]
    by_cases z : i = s0.I 555 134
    · rw [if_neg (by omega), if_pos (by omega), if_pos z]
    · rw [if_neg (by omega), if_neg (by omega), if_neg (by omega), if_neg z]
  · show (fun i => s4.I 655 (3 * i + 2)) = upF (fun i => s0.I 655 (3 * i + 2)) (s0.I 555 134) b
    funext i; unfold upF; rw [h6]
    by_cases z : i = s0.I 555 134
    · rw [if_neg (by omega), if_neg (by omega), if_pos (by omega), if_pos z]
    · rw [if_neg (by omega), if_neg (by omega), if_neg (by omega), if_neg z]
def tkB (σ : Sto) (k j : Int) : Int := σ.I 582 (σ.I 595 k + j)
def tkD (σ : Sto) (k j : Int) : Int := tcM σ (σ.I 595 k + j)
/-- the list of the marks of a hit, over the store in which the question was read again -/
noncomputable def mkLm (σ : Sto) (k f n : Int) : MKL := mkW (fun t => MKN1 σ k f t 0 (σ.I 555 80 - 1)) (σ.I 588) (σ.I 589) (tkB σ k) (tkD σ k) (0, fun i => σ.I 655 (3 * i), fun i => σ.I 655 (3 * i + 1), fun i => σ.I 655 (3 * i + 2)) n
noncomputable def mkLu (σ : Sto) (k f j n : Int) : MKL := mkU (fun t => MKN1 σ k f t 0 (σ.I 555 80 - 1)) (σ.I 588) (σ.I 589) j (tkB σ k j) (mkLm σ k f j) n
noncomputable def lsLu (σ : Sto) (k f j n : Int) : Int := lsU (fun t => MKN1 σ k f t 0 (σ.I 555 80 - 1)) (σ.I 588) (tkB σ k j) n
def CLN (σ τ : Sto) (k j m : Int) : Prop := (∀ a, 0 ≤ a → a < j → ∀ i, tkB σ k a ≤ i → i < tkB σ k a + tkD σ k a → τ.I 654 i = 0) ∧ ∀ i, tkB σ k j ≤ i → i < tkB σ k j + m → τ.I 654 i = 0
def wsMn (c : Nat) (i : Int) : Prop := wsMm c i ∨ c = 655 ∨ (c = 555 ∧ i = 134)
abbrev KMn (σ τ : Sto) : Prop := Ch wsMn σ τ
def XMM (ς : Sto) (k : Int) : Prop := MME ς 0 k ∧ (0 ≤ ς.I 555 80 - 1 ∧ WFX (GM ς) (LFH ς k) 130 (ς.I 555 80 - 1)) ∧ bd_0_1000 ς 588 24000 ∧ bd_0_1000 ς 589 24000

theorem sp_X9_marks {E : XE} {d : Nat} {σ : Sto} {x1 : Int} {x2 : Int} (hd : 645 ≤ d) (hL : Lay σ)  (p0 : inR x1 ∧ inR x2) (p1 : 0 ≤ σ.I 555 115 ∧ σ.I 555 115 ≤ 600) (p2 : 0 ≤ σ.I 555 27 ∧ σ.I 555 27 ≤ 12) (p3 : (σ.I 555 114 = 1 ∧ (0 ≤ x1 ∧ x1 < σ.I 555 115) ∧ ((0 ≤ x2 ∧ x2 < σ.I 555 27) ∧ σ.I 577 x2 = 0)) → ((0 ≤ σ.I 555 120 ∧ σ.I 555 120 ≤ 400) ∧ qok (eQ σ 640 0 (σ.I 555 120)) = 1 ∧ (0 ≤ (σ.I 637 x1) ∧ (σ.I 637 x1) < 601)) ∧ ∀ ς, LDQ σ ς 640 0 (σ.I 555 120) → XMM ς (σ.I 637 x1)) (p4 : FAB σ) : CC E mX9_marks d [aO 555, aI (x1), aI (x2)] σ (RVI (fun y τ => ((¬ (σ.I 555 114 = 1 ∧ (0 ≤ x1 ∧ x1 < σ.I 555 115) ∧ ((0 ≤ x2 ∧ x2 < σ.I 555 27) ∧ σ.I 577 x2 = 0)) ∧ y = -1 ∧ τ = σ) ∨ ((σ.I 555 114 = 1 ∧ (0 ≤ x1 ∧ x1 < σ.I 555 115) ∧ ((0 ≤ x2 ∧ x2 < σ.I 555 27) ∧ σ.I 577 x2 = 0)) ∧ y = τ.I 555 134 ∧ (0 ≤ τ.I 555 134 ∧ τ.I 555 134 ≤ 6000) ∧ ∃ ς, LDQ σ ς 640 0 (σ.I 555 120) ∧ msM τ = mkLm ς (σ.I 637 x1) x2 (ς.I 596 (σ.I 637 x1)) ∧ KMn ς τ ∧ bd_0_1 τ 654 24000 ∧ WKC τ)))) := by sorry
theorem sp_X9_written {E : XE} {d : Nat} {σ : Sto} {x1 : Int} (hd : 1 ≤ d) (hL : Lay σ)  (p0 : inR x1) (p1 : ∃ b, σ.R 555 162 = some b ∧ σ.sh b = (1, 30000)) (p2 : 0 ≤ σ.I 555 164 ∧ σ.I 555 164 ≤ 30000) : CC E mX9_written d [aO 555, aI (x1)] σ (RI σ (if 0 ≤ x1 ∧ x1 < σ.I 555 164 then σ.I ((σ.R 555 162).getD 0) x1 % 256 else -1)) := by sorry
end
section
/-! contracts: printed by tools/mk.py out of s98zzj_movX.py -/
set_option maxRecDepth 100000
set_option maxHeartbeats 1200000
/-! a value moves: the program -/
def wsMv (c : Nat) (i : Int) : Prop := (26 ≤ c ∧ c ≤ 36 ∧ c ≠ 34) ∨ (38 ≤ c ∧ c ≤ 41) ∨ (c = 0 ∧ (i = 20 ∨ i = 22 ∨ i = 29 ∨ i = 30))
abbrev KMv (σ τ : Sto) : Prop := Ch wsMv σ τ
/-- value v has come to the next place -/
def MVR (σ τ : Sto) (v : Int) : Prop :=
  (∀ c i, c = 26 ∨ c = 27 ∨ c = 29 ∨ c = 30 ∨ c = 32 ∨ c = 33 → τ.I c i = if i = σ.I 0 20 then σ.I c v else σ.I c i) ∧
  (∀ i, τ.I 28 i = if i = σ.I 0 20 then σ.I 0 22 else σ.I 28 i) ∧ (∀ i, τ.I 31 i = if i = σ.I 0 20 then σ.I 0 29 else σ.I 31 i) ∧
  (∀ i, τ.I 35 i = if σ.I 0 22 ≤ i ∧ i < σ.I 0 22 + σ.I 29 v then σ.I 35 (σ.I 28 v + (i - σ.I 0 22)) else σ.I 35 i) ∧
  (∀ c i, c = 36 ∨ c = 39 ∨ c = 40 ∨ c = 41 → τ.I c i = if σ.I 0 29 ≤ i ∧ i < σ.I 0 29 + σ.I 32 v then σ.I c (σ.I 31 v + (i - σ.I 0 29)) else σ.I c i) ∧
  (∀ i, τ.I 38 i = if σ.I 0 29 ≤ i ∧ i < σ.I 0 29 + σ.I 32 v then σ.I 0 20 else σ.I 38 i) ∧
  (τ.I 0 20 = σ.I 0 20 + 1 ∧ τ.I 0 22 = σ.I 0 22 + σ.I 29 v ∧ τ.I 0 29 = σ.I 0 29 + σ.I 32 v ∧ τ.I 0 30 = σ.I 0 30 + zb (isWv σ v)) ∧ KMv σ τ
/-- the same with the first m tokens alone, before the value is counted -/
def MVP (σ τ : Sto) (v m : Int) : Prop :=
  (∀ c i, c = 26 ∨ c = 27 ∨ c = 29 ∨ c = 30 ∨ c = 32 ∨ c = 33 → τ.I c i = if i = σ.I 0 20 then σ.I c v else σ.I c i) ∧
  (∀ i, τ.I 28 i = if i = σ.I 0 20 then σ.I 0 22 else σ.I 28 i) ∧ (∀ i, τ.I 31 i = if i = σ.I 0 20 then σ.I 0 29 else σ.I 31 i) ∧
  (∀ i, τ.I 35 i = if σ.I 0 22 ≤ i ∧ i < σ.I 0 22 + σ.I 29 v then σ.I 35 (σ.I 28 v + (i - σ.I 0 22)) else σ.I 35 i) ∧
  (∀ c i, c = 36 ∨ c = 39 ∨ c = 40 ∨ c = 41 → τ.I c i = if σ.I 0 29 ≤ i ∧ i < σ.I 0 29 + m then σ.I c (σ.I 31 v + (i - σ.I 0 29)) else σ.I c i) ∧
  (∀ i, τ.I 38 i = if σ.I 0 29 ≤ i ∧ i < σ.I 0 29 + m then σ.I 0 20 else σ.I 38 i) ∧
  (τ.I 0 20 = σ.I 0 20 ∧ τ.I 0 22 = σ.I 0 22 + σ.I 29 v ∧ τ.I 0 29 = σ.I 0 29 + m ∧ τ.I 0 30 = σ.I 0 30 + zb (isWv σ v)) ∧ KMv σ τ
theorem MVP_e {σ τ υ : Sto} {v m : Int} (h : MVP σ τ v m) (hm : m = σ.I 32 v) (e : υ = τ.wI 0 20 (τ.I 0 20 + 1)) : MVR σ υ v := by
  have f : ∀ c i, ¬ (c = 0 ∧ i = 20) → υ.I c i = τ.I c i := fun c i q => by rw [e]; exact I_ot _ _ _ _ _ _ q
  obtain ⟨a, b, c, d, g, k, ⟨l1, l2, l3, l4⟩, n⟩ := h
  rw [hm] at g k l3
  exact ⟨fun c i q => by rw [f _ _ (by omega)]; exact a c i q, fun i => by rw [f _ _ (by omega)]; exact b i, fun i => by rw [f _ _ (by omega)]; exact c i, fun i => by rw [f _ _ (by omega)]; exact d i, fun c i q => by rw [f _ _ (by omega)]; exact g c i q, fun i => by rw [f _ _ (by omega)]; exact k i, ⟨by rw [e, I_same, l1], by rw [f _ _ (by omega)]; exact l2, by rw [f _ _ (by omega)]; exact l3, by rw [f _ _ (by omega)]; exact l4⟩, Ch.tr n (by rw [e]; exact Ch.wI Ch.rf (by unfold wsMv; omega))⟩
theorem MVP_s {σ τ s1 s2 s3 s4 s5 υ : Sto} {v m x4 p q r : Int} (h : MVP σ τ v m) (h0 : 0 ≤ m) (hT : σ.I 0 29 ≤ σ.I 31 v) (hx : x4 = σ.I 31 v + m)
    (e1 : s1 = τ.wI 36 (τ.I 0 29) (τ.I 36 x4)) (e2 : s2 = s1.wI 38 (s1.I 0 29) (σ.I 0 20)) (e3 : s3 = s2.wI 39 (s2.I 0 29) p) (e4 : s4 = s3.wI 40 (s3.I 0 29) q) (e5 : s5 = s4.wI 41 (s4.I 0 29) r) (e6 : υ = s5.wI 0 29 (s5.I 0 29 + 1)) (hp : p = τ.I 39 x4) (hq : q = τ.I 40 x4) (hr : r = τ.I 41 x4) : MVP σ υ v (m + 1) := by
  obtain ⟨a, b, c, d, g, k, ⟨l1, l2, l3, l4⟩, n⟩ := h
  have n1 : s1.I 0 29 = τ.I 0 29 := by rw [e1, I_ne _ _ _ _ (by decide)]
  have n2 : s2.I 0 29 = τ.I 0 29 := by rw [e2, I_ne _ _ _ _ (by decide)]; exact n1
  have n3 : s3.I 0 29 = τ.I 0 29 := by rw [e3, I_ne _ _ _ _ (by decide)]; exact n2
  have n4 : s4.I 0 29 = τ.I 0 29 := by rw [e4, I_ne _ _ _ _ (by decide)]; exact n3
  have n5 : s5.I 0 29 = τ.I 0 29 := by rw [e5, I_ne _ _ _ _ (by decide)]; exact n4
  rw [n1] at e2
  rw [n2] at e3
  rw [n3] at e4
  rw [n4] at e5
  rw [n5] at e6
  have f : ∀ c i, ¬ ((c = 36 ∨ (38 ≤ c ∧ c ≤ 41)) ∧ i = τ.I 0 29) → ¬ (c = 0 ∧ i = 29) → υ.I c i = τ.I c i := fun c i x y => by
    rw [e6, I_ot _ _ _ _ _ _ y, e5, I_ot _ _ _ _ _ _ (fun z => x ⟨by omega, z.2⟩), e4, I_ot _ _ _ _ _ _ (fun z => x ⟨by omega, z.2⟩), e3, I_ot _ _ _ _ _ _ (fun z => x ⟨by omega, z.2⟩), e2, I_ot _ _ _ _ _ _ (fun z => x ⟨by omega, z.2⟩), e1, I_ot _ _ _ _ _ _ (fun z => x ⟨by omega, z.2⟩)]
  have w36 : υ.I 36 (τ.I 0 29) = τ.I 36 x4 := by rw [e6, I_ne _ _ _ _ (by decide), e5, I_ne _ _ _ _ (by decide), e4, I_ne _ _ _ _ (by decide), e3, I_ne _ _ _ _ (by decide), e2, I_ne _ _ _ _ (by decide), e1, I_same]
  have w38 : υ.I 38 (τ.I 0 29) = σ.I 0 20 := by rw [e6, I_ne _ _ _ _ (by decide), e5, I_ne _ _ _ _ (by decide), e4, I_ne _ _ _ _ (by decide), e3, I_ne _ _ _ _ (by decide), e2, I_same]
  have w39 : υ.I 39 (τ.I 0 29) = p := by rw [e6, I_ne _ _ _ _ (by decide), e5, I_ne _ _ _ _ (by decide), e4, I_ne _ _ _ _ (by decide), e3, I_same]
  have w40 : υ.I 40 (τ.I 0 29) = q := by rw [e6, I_ne _ _ _ _ (by decide), e5, I_ne _ _ _ _ (by decide), e4, I_same]
  have w41 : υ.I 41 (τ.I 0 29) = r := by rw [e6, I_ne _ _ _ _ (by decide), e5, I_same]
  refine ⟨fun c i z => by rw [f _ _ (by omega) (by omega)]; exact a c i z, fun i => by rw [f _ _ (by omega) (by omega)]; exact b i, fun i => by rw [f _ _ (by omega) (by omega)]; exact c i, fun i => by rw [f _ _ (by omega) (by omega)]; exact d i, fun c i z => ?_, fun i => ?_, ⟨by rw [f _ _ (by omega) (by omega)]; exact l1, by rw [f _ _ (by omega) (by omega)]; exact l2, by rw [e6, I_same, l3]; omega, by rw [f _ _ (by omega) (by omega)]; exact l4⟩, ?_⟩
  · by_cases y : i = τ.I 0 29
    · have gx := g c x4 z
      rw [if_neg (by omega)] at gx
      have u : υ.I c i = τ.I c x4 := by
        rw [y]
        rcases z with z | z | z | z <;> subst z
        · exact w36
        · exact w39.trans hp
        · exact w40.trans hq
        · exact w41.trans hr
      rw [u, gx, if_pos (by omega), hx]; congr 1; omega
    · rw [f _ _ (fun w => y w.2) (by omega), g c i z]
      by_cases w : σ.I 0 29 ≤ i ∧ i < σ.I 0 29 + m
      · rw [if_pos w, if_pos (by omega)]
      · rw [if_neg w, if_neg (by omega)]
  · by_cases y : i = τ.I 0 29
    · rw [y, w38, if_pos (by omega)]
    · rw [f _ _ (fun w => y w.2) (by omega), k i]
      by_cases w : σ.I 0 29 ≤ i ∧ i < σ.I 0 29 + m
      · rw [if_pos w, if_pos (by omega)]
      · rw [if_neg w, if_neg (by omega)]
  · exact Ch.tr n (by rw [e6, e5, e4, e3, e2, e1]; exact Ch.wI (Ch.wI (Ch.wI (Ch.wI (Ch.wI (Ch.wI Ch.rf (by unfold wsMv; omega)) (by unfold wsMv; omega)) (by unfold wsMv; omega)) (by unfold wsMv; omega)) (by unfold wsMv; omega)) (by unfold wsMv; omega))
theorem MVP_0 {σ s1 s2 s3 s4 s5 s6 s7 s8 s9 sA υ : Sto} {v p q w : Int} (e1 : s1 = σ.cp 35 (σ.I 28 v) 35 (σ.I 0 22) (σ.I 29 v)) (e2 : s2 = s1.wI 26 (σ.I 0 20) p) (e3 : s3 = s2.wI 27 (σ.I 0 20) q) (e4 : s4 = s3.wI 29 (σ.I 0 20) (s3.I 29 v)) (e5 : s5 = s4.wI 30 (σ.I 0 20) (s4.I 30 v)) (e6 : s6 = s5.wI 33 (σ.I 0 20) (s5.I 33 v)) (e7 : s7 = s6.wI 32 (σ.I 0 20) (s6.I 32 v)) (e8 : s8 = s7.wI 28 (σ.I 0 20) (s7.I 0 22)) (e9 : s9 = s8.wI 31 (σ.I 0 20) (s8.I 0 29)) (eA : sA = s9.wI 0 22 (s9.I 0 22 + s9.I 29 (σ.I 0 20))) (eB : υ = sA.wI 0 30 (sA.I 0 30 + w)) (hp : p = σ.I 26 v) (hq : q = σ.I 27 v) (hw : w = zb (isWv σ v)) : MVP σ υ v 0 := by
  have c1 : ∀ c i, c ≠ 35 → s1.I c i = σ.I c i := fun c i z => by rw [e1, I_cp, if_neg (fun y => z y.1)]
  have g3 : ∀ c i, c ≠ 35 → c ≠ 26 → c ≠ 27 → s3.I c i = σ.I c i := fun c i x y z => by rw [e3, I_ne _ _ _ _ z, e2, I_ne _ _ _ _ y]; exact c1 c i x
  have g4 : ∀ c i, c ≠ 35 → c ≠ 26 → c ≠ 27 → c ≠ 29 → s4.I c i = σ.I c i := fun c i x y z w => by rw [e4, I_ne _ _ _ _ w]; exact g3 c i x y z
  have g5 : ∀ c i, c ≠ 35 → c ≠ 26 → c ≠ 27 → c ≠ 29 → c ≠ 30 → s5.I c i = σ.I c i := fun c i x y z w u => by rw [e5, I_ne _ _ _ _ u]; exact g4 c i x y z w
  have g6 : ∀ c i, c ≠ 35 → c ≠ 26 → c ≠ 27 → c ≠ 29 → c ≠ 30 → c ≠ 33 → s6.I c i = σ.I c i := fun c i x y z w u t => by rw [e6, I_ne _ _ _ _ t]; exact g5 c i x y z w u
  have g7 : ∀ i, s7.I 0 i = σ.I 0 i := fun i => by rw [e7, I_ne _ _ _ _ (by decide)]; exact g6 0 i (by decide) (by decide) (by decide) (by decide) (by decide) (by decide)
  have g9 : ∀ i, s9.I 0 i = σ.I 0 i := fun i => by rw [e9, I_ne _ _ _ _ (by decide), e8, I_ne _ _ _ _ (by decide)]; exact g7 i
  have g8 : s8.I 0 29 = σ.I 0 29 := by rw [e8, I_ne _ _ _ _ (by decide)]; exact g7 29
  have h29 : s9.I 29 (σ.I 0 20) = σ.I 29 v := by rw [e9, I_ne _ _ _ _ (by decide), e8, I_ne _ _ _ _ (by decide), e7, I_ne _ _ _ _ (by decide), e6, I_ne _ _ _ _ (by decide), e5, I_ne _ _ _ _ (by decide), e4, I_same]; exact g3 29 v (by decide) (by decide) (by decide)
  rw [g3 29 v (by decide) (by decide) (by decide)] at e4
  rw [g4 30 v (by decide) (by decide) (by decide) (by decide)] at e5
  rw [g5 33 v (by decide) (by decide) (by decide) (by decide) (by decide)] at e6
  rw [g6 32 v (by decide) (by decide) (by decide) (by decide) (by decide) (by decide)] at e7
  rw [g7 22] at e8
  rw [g8] at e9
  rw [g9 22, h29] at eA
  have hA : sA.I 0 30 = σ.I 0 30 := by rw [eA, I_nj _ _ _ _ (by decide)]; exact g9 30
  rw [hA, hw] at eB
  have up : ∀ (s : Sto) (a : Nat) (x y i : Int), (s.wI a x y).I a i = if i = x then y else s.I a i := fun s a x y i => by
    rw [I_wI]; by_cases z : i = x
    · rw [if_pos ⟨rfl, z⟩, if_pos z]
    · rw [if_neg (fun w => z w.2), if_neg z]
  refine ⟨fun c i z => ?_, fun i => ?_, fun i => ?_, fun i => ?_, fun c i z => ?_, fun i => ?_, ⟨?_, ?_, ?_, ?_⟩, ?_⟩
  · rcases z with z | z | z | z | z | z <;> subst z
    · rw [eB, I_ne _ _ _ _ (by decide), eA, I_ne _ _ _ _ (by decide), e9, I_ne _ _ _ _ (by decide), e8, I_ne _ _ _ _ (by decide), e7, I_ne _ _ _ _ (by decide), e6, I_ne _ _ _ _ (by decide), e5, I_ne _ _ _ _ (by decide), e4, I_ne _ _ _ _ (by decide), e3, I_ne _ _ _ _ (by decide), e2, up, hp, c1 _ _ (by decide)]
    · rw [eB, I_ne _ _ _ _ (by decide), eA, I_ne _ _ _ _ (by decide), e9, I_ne _ _ _ _ (by decide), e8, I_ne _ _ _ _ (by decide), e7, I_ne _ _ _ _ (by decide), e6, I_ne _ _ _ _ (by decide), e5, I_ne _ _ _ _ (by decide), e4, I_ne _ _ _ _ (by decide), e3, up, hq, e2, I_ne _ _ _ _ (by decide), c1 _ _ (by decide)]
    · rw [eB, I_ne _ _ _ _ (by decide), eA, I_ne _ _ _ _ (by decide), e9, I_ne _ _ _ _ (by decide), e8, I_ne _ _ _ _ (by decide), e7, I_ne _ _ _ _ (by decide), e6, I_ne _ _ _ _ (by decide), e5, I_ne _ _ _ _ (by decide), e4, up, g3 _ _ (by decide) (by decide) (by decide)]
    · rw [eB, I_ne _ _ _ _ (by decide), eA, I_ne _ _ _ _ (by decide), e9, I_ne _ _ _ _ (by decide), e8, I_ne _ _ _ _ (by decide), e7, I_ne _ _ _ _ (by decide), e6, I_ne _ _ _ _ (by decide), e5, up, g4 _ _ (by decide) (by decide) (by decide) (by decide)]
    · rw [eB, I_ne _ _ _ _ (by decide), eA, I_ne _ _ _ _ (by decide), e9, I_ne _ _ _ _ (by decide), e8, I_ne _ _ _ _ (by decide), e7, up, g6 _ _ (by decide) (by decide) (by decide) (by decide) (by decide) (by decide)]
    · rw [eB, I_ne _ _ _ _ (by decide), eA, I_ne _ _ _ _ (by decide), e9, I_ne _ _ _ _ (by decide), e8, I_ne _ _ _ _ (by decide), e7, I_ne _ _ _ _ (by decide), e6, up, g5 _ _ (by decide) (by decide) (by decide) (by decide) (by decide)]
  · rw [eB, I_ne _ _ _ _ (by decide), eA, I_ne _ _ _ _ (by decide), e9, I_ne _ _ _ _ (by decide), e8, up, e7, I_ne _ _ _ _ (by decide), g6 _ _ (by decide) (by decide) (by decide) (by decide) (by decide) (by decide)]
  · rw [eB, I_ne _ _ _ _ (by decide), eA, I_ne _ _ _ _ (by decide), e9, up, e8, I_ne _ _ _ _ (by decide), e7, I_ne _ _ _ _ (by decide), g6 _ _ (by decide) (by decide) (by decide) (by decide) (by decide) (by decide)]
  · rw [eB, I_ne _ _ _ _ (by decide), eA, I_ne _ _ _ _ (by decide), e9, I_ne _ _ _ _ (by decide), e8, I_ne _ _ _ _ (by decide), e7, I_ne _ _ _ _ (by decide), e6, I_ne _ _ _ _ (by decide), e5, I_ne _ _ _ _ (by decide), e4, I_ne _ _ _ _ (by decide), e3, I_ne _ _ _ _ (by decide), e2, I_ne _ _ _ _ (by decide), e1, I_cp]
    by_cases y : σ.I 0 22 ≤ i ∧ i < σ.I 0 22 + σ.I 29 v
    · rw [if_pos ⟨rfl, y.1, y.2⟩, if_pos y]
    · rw [if_neg (fun w => y ⟨w.2.1, w.2.2⟩), if_neg y]
  · rw [if_neg (by omega), eB, I_ne _ _ _ _ (by omega), eA, I_ne _ _ _ _ (by omega), e9, I_ne _ _ _ _ (by omega), e8, I_ne _ _ _ _ (by omega), e7, I_ne _ _ _ _ (by omega), e6, I_ne _ _ _ _ (by omega), e5, I_ne _ _ _ _ (by omega), e4, I_ne _ _ _ _ (by omega), e3, I_ne _ _ _ _ (by omega), e2, I_ne _ _ _ _ (by omega), c1 _ _ (by omega)]
  · rw [if_neg (by omega), eB, I_ne _ _ _ _ (by omega), eA, I_ne _ _ _ _ (by omega), e9, I_ne _ _ _ _ (by omega), e8, I_ne _ _ _ _ (by omega), e7, I_ne _ _ _ _ (by omega), e6, I_ne _ _ _ _ (by omega), e5, I_ne _ _ _ _ (by omega), e4, I_ne _ _ _ _ (by omega), e3, I_ne _ _ _ _ (by omega), e2, I_ne _ _ _ _ (by omega), c1 _ _ (by omega)]
  · rw [eB, I_nj _ _ _ _ (by decide), eA, I_nj _ _ _ _ (by decide)]; exact g9 20
  · rw [eB, I_nj _ _ _ _ (by decide), eA, I_same]
  · rw [eB, I_nj _ _ _ _ (by decide), eA, I_nj _ _ _ _ (by decide), Int.add_zero]; exact g9 29
  · rw [eB, I_same]
  · rw [eB, eA, e9, e8, e7, e6, e5, e4, e3, e2, e1]
    exact Ch.wI (Ch.wI (Ch.wI (Ch.wI (Ch.wI (Ch.wI (Ch.wI (Ch.wI (Ch.wI (Ch.wI (Ch.cp Ch.rf (fun y _ _ => by unfold wsMv; omega)) (by unfold wsMv; omega)) (by unfold wsMv; omega)) (by unfold wsMv; omega)) (by unfold wsMv; omega)) (by unfold wsMv; omega)) (by unfold wsMv; omega)) (by unfold wsMv; omega)) (by unfold wsMv; omega)) (by unfold wsMv; omega)) (by unfold wsMv; omega)

theorem sp_X0_move {E : XE} {d : Nat} {σ : Sto} {x1 : Int} (hd : 1 ≤ d) (hL : Lay σ)  (p0 : 0 ≤ x1 ∧ x1 < 6000) (p1 : 0 ≤ σ.I 0 20 ∧ σ.I 0 20 ≤ x1) (p2 : 0 ≤ σ.I 0 22 ∧ σ.I 0 22 ≤ σ.I 28 x1) (p3 : 0 ≤ σ.I 29 x1 ∧ σ.I 28 x1 + σ.I 29 x1 ≤ 60000) (p4 : 0 ≤ σ.I 0 29 ∧ σ.I 0 29 ≤ σ.I 31 x1) (p5 : 0 ≤ σ.I 32 x1 ∧ σ.I 31 x1 + σ.I 32 x1 ≤ 24000) (p6 : 0 ≤ σ.I 26 x1 ∧ σ.I 26 x1 < 12) (p7 : 0 ≤ σ.I 27 x1 ∧ σ.I 27 x1 < 600) (p8 : 0 ≤ σ.I 0 30 ∧ σ.I 0 30 ≤ 24000) (p9 : ∀ i, 0 ≤ i → i < σ.I 32 x1 → (0 ≤ σ.I 39 (σ.I 31 x1 + i) ∧ σ.I 39 (σ.I 31 x1 + i) ≤ 1000) ∧ (0 ≤ σ.I 40 (σ.I 31 x1 + i) ∧ σ.I 40 (σ.I 31 x1 + i) ≤ 1000) ∧ 0 ≤ σ.I 41 (σ.I 31 x1 + i) ∧ σ.I 41 (σ.I 31 x1 + i) ≤ 1000) : CC E mX0_move d [aO 0, aI (x1)] σ (RV (fun τ => (MVR σ τ x1))) := by sorry
end
section
/-! contracts: printed by tools/mk.py out of s98zzk_pck.py -/
set_option maxRecDepth 100000
set_option maxHeartbeats 1200000
/-! values that are kept move together: plain -/
theorem smP_sub {p : Int → Prop} {g : Int → Int} : ∀ n : Nat, (∀ k, 0 ≤ k → k < (n : Int) → 0 ≤ g k) → 0 ≤ smP p g n ∧ smP p g n ≤ smP (fun _ => True) g n := by
  intro n
  induction n with
  | zero => intro _; rw [smP_0 _ _ _ (show ((0 : Nat) : Int) ≤ 0 by omega), smP_0 _ _ _ (show ((0 : Nat) : Int) ≤ 0 by omega)]; omega
  | succ n ih =>
    intro h
    have i2 := ih (fun k a b => h k a (by omega))
    have w := h n (by omega) (by omega)
    rw [smP_t (fun _ => True) g n ((n + 1 : Nat) : Int) (by omega) (by omega) trivial]
    rcases Classical.em (p n) with z | z
    · rw [smP_t p g n ((n + 1 : Nat) : Int) (by omega) (by omega) z]; omega
    · rw [smP_f p g n ((n + 1 : Nat) : Int) (by omega) (by omega) z]; omega
theorem smP_sub' {p : Int → Prop} {g : Int → Int} {n : Int} (h0 : 0 ≤ n) (h : ∀ k, 0 ≤ k → k < n → 0 ≤ g k) : 0 ≤ smP p g n ∧ smP p g n ≤ smP (fun _ => True) g n := by
  have z := smP_sub (p := p) (g := g) n.toNat (fun k a b => h k a (by omega))
  rw [show ((n.toNat : Nat) : Int) = n by omega] at z
  exact z
theorem smP_ex {p : Int → Prop} {g : Int → Int} {n m : Int} (h0 : 0 ≤ n) (h : n ≤ m) (hp : ∀ k, n ≤ k → k < m → ¬ p k) : smP p g m = smP p g n := by
  obtain ⟨j, rfl⟩ : ∃ j : Nat, m = n + j := ⟨(m - n).toNat, by omega⟩
  clear h
  induction j with
  | zero => rw [show n + ((0 : Nat) : Int) = n by omega]
  | succ j ih =>
    rw [smP_f p g (n + j) (n + ((j + 1 : Nat) : Int)) (by omega) (by omega) (hp _ (by omega) (by omega))]
    exact ih (fun k a b => hp k a (by omega))
theorem smP_mo {p : Int → Prop} {g : Int → Int} {u v : Int} (h0 : 0 ≤ u) (h : u < v) (hp : p u) (hg : ∀ k, 0 ≤ k → k < v → 0 ≤ g k) : smP p g u + g u ≤ smP p g v := by
  obtain ⟨j, rfl⟩ : ∃ j : Nat, v = u + 1 + j := ⟨(v - u - 1).toNat, by omega⟩
  clear h
  induction j with
  | zero => rw [show u + 1 + ((0 : Nat) : Int) = u + 1 by omega, smP_t p g u (u + 1) h0 rfl hp]; omega
  | succ j ih =>
    have i2 := ih (fun k a b => hg k a (by omega))
    have w := hg (u + 1 + j) (by omega) (by omega)
    rcases Classical.em (p (u + 1 + j)) with z | z
    · rw [smP_t p g (u + 1 + j) (u + 1 + ((j + 1 : Nat) : Int)) (by omega) (by omega) z]; omega
    · rw [smP_f p g (u + 1 + j) (u + 1 + ((j + 1 : Nat) : Int)) (by omega) (by omega) z]; omega
theorem cn_lt {p : Int → Prop} {u v : Int} (h0 : 0 ≤ u) (h : u < v) (hp : p u) : cn p u < cn p v := by
  have s := cn_s p u (u + 1) h0 rfl
  rw [zb_t hp] at s
  have m := cn_mo (p := p) (a := u + 1) (b := v) (by omega) (by omega)
  omega
/-- a value is kept: an object that is held has it, or the draft -/
def kpX (σ : Sto) (v : Int) : Prop := (∃ k, 0 ≤ k ∧ k < σ.I 0 39 ∧ σ.I 47 k ≠ 0 ∧ σ.I 42 k ≤ v ∧ v < σ.I 42 k + σ.I 43 k) ∨ σ.I 0 31 ≤ v
noncomputable def nX (σ : Sto) (v : Int) : Int := cn (kpX σ) v
noncomputable def sBX (σ : Sto) (v : Int) : Int := smP (kpX σ) (σ.I 29) v
noncomputable def sTX (σ : Sto) (v : Int) : Int := smP (kpX σ) (σ.I 32) v
noncomputable def sWX (σ : Sto) (v : Int) : Int := cn (fun u => kpX σ u ∧ isWv σ u) v
/-- how values lie before they move -/
def BOX (σ : Sto) : Prop := (0 ≤ σ.I 0 20 ∧ σ.I 0 20 ≤ 6000) ∧ (∀ v, 0 ≤ v → v < σ.I 0 20 → (σ.I 28 v = smP (fun _ => True) (σ.I 29) v ∧ σ.I 31 v = smP (fun _ => True) (σ.I 32) v) ∧ (0 ≤ σ.I 29 v ∧ σ.I 28 v + σ.I 29 v ≤ 60000) ∧ (0 ≤ σ.I 32 v ∧ σ.I 31 v + σ.I 32 v ≤ 24000) ∧ (0 ≤ σ.I 26 v ∧ σ.I 26 v < 12) ∧ (0 ≤ σ.I 27 v ∧ σ.I 27 v < 600)) ∧ ∀ t, 0 ≤ t → t < 24000 → (0 ≤ σ.I 39 t ∧ σ.I 39 t ≤ 1000) ∧ (0 ≤ σ.I 40 t ∧ σ.I 40 t ≤ 1000) ∧ 0 ≤ σ.I 41 t ∧ σ.I 41 t ≤ 1000
/-- a kept value has its new place -/
def KVX (σ τ : Sto) (u : Int) : Prop := (∀ c, c = 26 ∨ c = 27 ∨ c = 29 ∨ c = 30 ∨ c = 32 ∨ c = 33 → τ.I c (nX σ u) = σ.I c u) ∧ τ.I 28 (nX σ u) = sBX σ u ∧ τ.I 31 (nX σ u) = sTX σ u ∧ (∀ b, 0 ≤ b → b < σ.I 29 u → τ.I 35 (sBX σ u + b) = σ.I 35 (σ.I 28 u + b)) ∧ (∀ c t, c = 36 ∨ c = 39 ∨ c = 40 ∨ c = 41 → 0 ≤ t → t < σ.I 32 u → τ.I c (sTX σ u + t) = σ.I c (σ.I 31 u + t)) ∧ ∀ t, 0 ≤ t → t < σ.I 32 u → τ.I 38 (sTX σ u + t) = nX σ u
/-- all kept values below v have moved -/
def MVA (σ τ : Sto) (v : Int) : Prop := (∀ u, 0 ≤ u → u < v → kpX σ u → KVX σ τ u) ∧
  (∀ c i, (26 ≤ c ∧ c ≤ 33) → nX σ v ≤ i → τ.I c i = σ.I c i) ∧ (∀ i, sBX σ v ≤ i → τ.I 35 i = σ.I 35 i) ∧ (∀ c i, c = 36 ∨ (38 ≤ c ∧ c ≤ 41) → sTX σ v ≤ i → τ.I c i = σ.I c i) ∧
  (τ.I 0 20 = nX σ v ∧ τ.I 0 22 = sBX σ v ∧ τ.I 0 29 = sTX σ v ∧ τ.I 0 30 = sWX σ v)
section MVAS
variable {σ τ υ : Sto} {v w : Int}
theorem MVA_0 (h : τ.I 0 20 = 0 ∧ τ.I 0 22 = 0 ∧ τ.I 0 29 = 0 ∧ τ.I 0 30 = 0) (e : ∀ c i, (26 ≤ c ∧ c ≤ 41) → τ.I c i = σ.I c i) : MVA σ τ 0 := by
  have z1 : nX σ 0 = 0 := cn_0 _ _ (Int.le_refl _)
  have z2 : sBX σ 0 = 0 := smP_0 _ _ _ (Int.le_refl _)
  have z3 : sTX σ 0 = 0 := smP_0 _ _ _ (Int.le_refl _)
  have z4 : sWX σ 0 = 0 := cn_0 _ _ (Int.le_refl _)
  exact ⟨fun u a b => by omega, fun c i q _ => e c i (by omega), fun i _ => e _ _ (by omega), fun c i q _ => e c i (by omega), by rw [z1, z2, z3, z4]; exact h⟩
theorem MVA_n (h : MVA σ τ v) (h0 : 0 ≤ v) (hw : v ≤ w) (hk : ∀ u, v ≤ u → u < w → ¬ kpX σ u) : MVA σ τ w := by
  have e1 : nX σ w = nX σ v := cn_ext h0 hw hk
  have e2 : sBX σ w = sBX σ v := smP_ex h0 hw hk
  have e3 : sTX σ w = sTX σ v := smP_ex h0 hw hk
  have e4 : sWX σ w = sWX σ v := cn_ext h0 hw (fun k a b z => hk k a b z.1)
  obtain ⟨a, b, c, d, f⟩ := h
  refine ⟨fun u u0 u1 uk => ?_, by rw [e1]; exact b, by rw [e2]; exact c, by rw [e3]; exact d, by rw [e1, e2, e3, e4]; exact f⟩
  rcases Int.lt_or_le u v with z | z
  · exact a u u0 z uk
  · exact absurd uk (hk u z u1)
theorem MVA_b (hB : BOX σ) (h0 : 0 ≤ v) (h1 : v ≤ σ.I 0 20) : (0 ≤ nX σ v ∧ nX σ v ≤ v) ∧ (0 ≤ sBX σ v ∧ sBX σ v ≤ smP (fun _ => True) (σ.I 29) v) ∧ (0 ≤ sTX σ v ∧ sTX σ v ≤ smP (fun _ => True) (σ.I 32) v) ∧ 0 ≤ sWX σ v ∧ sWX σ v ≤ v := by
  have c := cn_in (kpX σ) v
  have c2 := cn_in (fun u => kpX σ u ∧ isWv σ u) v
  have e1 : nX σ v = cn (kpX σ) v := rfl
  have e4 : sWX σ v = cn (fun u => kpX σ u ∧ isWv σ u) v := rfl
  exact ⟨by omega, smP_sub' h0 (fun k a b => (hB.2.1 k a (by omega)).2.1.1), smP_sub' h0 (fun k a b => (hB.2.1 k a (by omega)).2.2.1.1), by omega⟩
theorem MVA_s (h : MVA σ τ v) (hB : BOX σ) (h0 : 0 ≤ v) (h1 : v < σ.I 0 20) (hk : kpX σ v) (hm : MVR τ υ v) (e16 : ∀ i, τ.I 16 i = σ.I 16 i) : MVA σ υ (v + 1) := by
  obtain ⟨a, b, c, d, ⟨f1, f2, f3, f4⟩⟩ := h
  obtain ⟨m1, m2, m3, m4, m5, m6, ⟨m7, m8, m9, m10⟩, _⟩ := hm
  have bb := MVA_b (v := v) hB h0 (by omega)
  have hv := hB.2.1 v h0 h1
  have s1 : nX σ (v + 1) = nX σ v + 1 := by unfold nX; rw [cn_s _ v (v + 1) h0 rfl, zb_t hk]
  have s2 : sBX σ (v + 1) = sBX σ v + σ.I 29 v := smP_t _ _ v (v + 1) h0 rfl hk
  have s3 : sTX σ (v + 1) = sTX σ v + σ.I 32 v := smP_t _ _ v (v + 1) h0 rfl hk
  have s4 : sWX σ (v + 1) = sWX σ v + zb (isWv σ v) := by
    unfold sWX; rw [cn_s _ v (v + 1) h0 rfl]
    rcases zb_cs (isWv σ v) with z | z
    · rw [zb_t ⟨hk, z.1⟩, z.2]
    · rw [zb_f (fun w => z.1 w.2), z.2]
  have t29 : τ.I 29 v = σ.I 29 v := b 29 v (by omega) (by omega)
  have t32 : τ.I 32 v = σ.I 32 v := b 32 v (by omega) (by omega)
  have t28 : τ.I 28 v = σ.I 28 v := b 28 v (by omega) (by omega)
  have t31 : τ.I 31 v = σ.I 31 v := b 31 v (by omega) (by omega)
  rw [t29, t28, f2] at m4
  rw [t32, t31, f3] at m5
  rw [t32, f3, f1] at m6
  rw [f2, f1] at m2
  rw [f3, f1] at m3
  rw [f1] at m1
  refine ⟨fun u u0 u1 uk => ?_, fun c' i q hi => ?_, fun i hi => ?_, fun c' i q hi => ?_, ⟨by rw [m7, f1, s1], by rw [m8, f2, t29, s2], by rw [m9, f3, t32, s3], ?_⟩⟩
  · rcases (show u < v ∨ u = v by omega) with z | z
    · obtain ⟨k1, k2, k3, k4, k5, k6⟩ := a u u0 z uk
      have nl : nX σ u < nX σ v := cn_lt u0 z uk
      have bl : sBX σ u + σ.I 29 u ≤ sBX σ v := smP_mo u0 z uk (fun k x y => (hB.2.1 k x (by omega)).2.1.1)
      have tl : sTX σ u + σ.I 32 u ≤ sTX σ v := smP_mo u0 z uk (fun k x y => (hB.2.1 k x (by omega)).2.2.1.1)
      refine ⟨fun c q => by rw [m1 c _ q, if_neg (by omega)]; exact k1 c q, by rw [m2, if_neg (by omega)]; exact k2, by rw [m3, if_neg (by omega)]; exact k3, fun b' b0 b1 => by rw [m4, if_neg (by omega)]; exact k4 b' b0 b1, fun c t q t0 t1 => by rw [m5 c _ q, if_neg (by omega)]; exact k5 c t q t0 t1, fun t t0 t1 => by rw [m6, if_neg (by omega)]; exact k6 t t0 t1⟩
    · rw [z]
      refine ⟨fun c' q => by rw [m1 c' _ q, if_pos rfl]; exact b c' v (by omega) (by omega), by rw [m2, if_pos rfl], by rw [m3, if_pos rfl], fun b' b0 b1 => ?_, fun c' t q t0 t1 => ?_, fun t t0 t1 => by rw [m6, if_pos (by omega)]⟩
      · rw [m4, if_pos (by omega), show sBX σ v + b' - sBX σ v = b' by omega]; exact c _ (by omega)
      · rw [m5 c' _ q, if_pos (by omega), show sTX σ v + t - sTX σ v = t by omega]; exact d c' _ (by omega) (by omega)
  · rw [s1] at hi
    rcases (show (c' = 26 ∨ c' = 27 ∨ c' = 29 ∨ c' = 30 ∨ c' = 32 ∨ c' = 33) ∨ c' = 28 ∨ c' = 31 by omega) with z | z | z
    · rw [m1 c' i z, if_neg (by omega)]; exact b c' i q (by omega)
    · subst z; rw [m2, if_neg (by omega)]; exact b _ i q (by omega)
    · subst z; rw [m3, if_neg (by omega)]; exact b _ i q (by omega)
  · rw [s2] at hi
    rw [m4, if_neg (by omega)]; exact c i (by omega)
  · rw [s3] at hi
    rcases (show (c' = 36 ∨ c' = 39 ∨ c' = 40 ∨ c' = 41) ∨ c' = 38 by omega) with z | z
    · rw [m5 c' i z, if_neg (by omega)]; exact d c' i q (by omega)
    · subst z; rw [m6, if_neg (by omega)]; exact d _ i q (by omega)
  · have ew : zb (isWv τ v) = zb (isWv σ v) := by unfold isWv; rw [e16, b 26 v (by omega) (by omega)]
    rw [m10, f4, s4, ew]
theorem MVA_e (h : MVA σ τ v) (e : ∀ c i, (26 ≤ c ∧ c ≤ 33) ∨ c = 35 ∨ c = 36 ∨ (38 ≤ c ∧ c ≤ 41) ∨ (c = 0 ∧ (i = 20 ∨ i = 22 ∨ i = 29 ∨ i = 30)) → υ.I c i = τ.I c i) : MVA σ υ v := by
  obtain ⟨a, b, c, d, ⟨f1, f2, f3, f4⟩⟩ := h
  refine ⟨fun u u0 u1 uk => ?_, fun c i q hi => by rw [e _ _ (by omega)]; exact b c i q hi, fun i hi => by rw [e _ _ (by omega)]; exact c i hi, fun c i q hi => by rw [e _ _ (by omega)]; exact d c i q hi, ⟨by rw [e _ _ (by omega)]; exact f1, by rw [e _ _ (by omega)]; exact f2, by rw [e _ _ (by omega)]; exact f3, by rw [e _ _ (by omega)]; exact f4⟩⟩
  obtain ⟨k1, k2, k3, k4, k5, k6⟩ := a u u0 u1 uk
  exact ⟨fun c q => by rw [e _ _ (by omega)]; exact k1 c q, by rw [e _ _ (by omega)]; exact k2, by rw [e _ _ (by omega)]; exact k3, fun b b0 b1 => by rw [e _ _ (by omega)]; exact k4 b b0 b1, fun c t q t0 t1 => by rw [e _ _ (by omega)]; exact k5 c t q t0 t1, fun t t0 t1 => by rw [e _ _ (by omega)]; exact k6 t t0 t1⟩
/-- what a move at v asks for -/
theorem MVA_p (h : MVA σ τ v) (hB : BOX σ) (h0 : 0 ≤ v) (h1 : v < σ.I 0 20) : (0 ≤ τ.I 0 20 ∧ τ.I 0 20 ≤ v) ∧ (0 ≤ τ.I 0 22 ∧ τ.I 0 22 ≤ τ.I 28 v) ∧ (0 ≤ τ.I 29 v ∧ τ.I 28 v + τ.I 29 v ≤ 60000) ∧ (0 ≤ τ.I 0 29 ∧ τ.I 0 29 ≤ τ.I 31 v) ∧ (0 ≤ τ.I 32 v ∧ τ.I 31 v + τ.I 32 v ≤ 24000) ∧ (0 ≤ τ.I 26 v ∧ τ.I 26 v < 12) ∧ (0 ≤ τ.I 27 v ∧ τ.I 27 v < 600) ∧ (0 ≤ τ.I 0 30 ∧ τ.I 0 30 ≤ 24000) ∧ ∀ i, 0 ≤ i → i < τ.I 32 v → (0 ≤ τ.I 39 (τ.I 31 v + i) ∧ τ.I 39 (τ.I 31 v + i) ≤ 1000) ∧ (0 ≤ τ.I 40 (τ.I 31 v + i) ∧ τ.I 40 (τ.I 31 v + i) ≤ 1000) ∧ 0 ≤ τ.I 41 (τ.I 31 v + i) ∧ τ.I 41 (τ.I 31 v + i) ≤ 1000 := by
  obtain ⟨a, b, c, d, ⟨f1, f2, f3, f4⟩⟩ := h
  have bb := MVA_b (v := v) hB h0 (by omega)
  have hv := hB.2.1 v h0 h1
  have t : ∀ c, (26 ≤ c ∧ c ≤ 33) → τ.I c v = σ.I c v := fun c q => b c v q (by omega)
  have b20 := hB.1
  refine ⟨by omega, by rw [t 28 (by omega)]; omega, by rw [t 28 (by omega), t 29 (by omega)]; exact hv.2.1, by rw [t 31 (by omega)]; omega, by rw [t 31 (by omega), t 32 (by omega)]; exact hv.2.2.1, by rw [t 26 (by omega)]; exact hv.2.2.2.1, by rw [t 27 (by omega)]; exact hv.2.2.2.2, by omega, fun i i0 i1 => ?_⟩
  rw [t 32 (by omega)] at i1
  rw [t 31 (by omega), d 39 _ (by omega) (by omega), d 40 _ (by omega) (by omega), d 41 _ (by omega) (by omega)]
  exact hB.2.2 _ (by omega) (by omega)
end MVAS
end
