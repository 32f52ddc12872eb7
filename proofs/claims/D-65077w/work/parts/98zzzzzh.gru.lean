/-! contracts: printed by tools/mk.py out of s98zzzzzh_gru.py -/
set_option maxRecDepth 100000
set_option maxHeartbeats 2000000
/-! groups of both: the same, in the same order -/
theorem PRM_un {n : Int} {p q : Int → Int} {L : Int → Int → Prop} (hp : PRM n p) (hq : PRM n q) (tot : ∀ x y, 0 ≤ x → x < n → 0 ≤ y → y < n → x ≠ y → L x y ∨ L y x) (sp : ∀ a b, 0 ≤ a → a < b → b < n → ¬ L (p b) (p a)) (sq : ∀ a b, 0 ≤ a → a < b → b < n → ¬ L (q b) (q a)) : ∀ m : Nat, ∀ i, 0 ≤ i → i < (m : Int) → i < n → p i = q i := by
  intro m
  induction m with
  | zero => intro i a b; omega
  | succ m ih =>
    intro i i0 i1 i2
    by_cases c : i < (m : Int)
    · exact ih i i0 c i2
    · have im : i = m := by omega
      have nn : ((n.toNat : Nat) : Int) = n := by omega
      refine Classical.byContradiction fun ne => ?_
      have hi := hp.1 i i0 i2
      have hj := hq.1 i i0 i2
      have on1 := PRM_on (n := n.toNat) (p := q) (by rw [nn]; exact hq) (p i) hi.1 (by rw [nn]; exact hi.2)
      have on2 := PRM_on (n := n.toNat) (p := p) (by rw [nn]; exact hp) (q i) hj.1 (by rw [nn]; exact hj.2)
      obtain ⟨b, b0, b1, be⟩ := on1
      obtain ⟨a, a0, a1, ae⟩ := on2
      rw [nn] at b1 a1
      have bi : i < b := by
        by_cases w : b < i
        · have e := ih b b0 (by omega) b1
          rw [be] at e
          have := hp.2 b i b0 b1 i0 i2 e
          omega
        · by_cases w2 : b = i
          · rw [w2] at be; exact absurd be.symm ne
          · omega
      have ai : i < a := by
        by_cases w : a < i
        · have e := ih a a0 (by omega) a1
          rw [ae] at e
          have := hq.2 a i a0 a1 i0 i2 e.symm
          omega
        · by_cases w2 : a = i
          · rw [w2] at ae; exact absurd ae ne
          · omega
      rcases tot (p i) (q i) hi.1 hi.2 hj.1 hj.2 ne with l | l
      · have := sq i b i0 bi b1
        rw [be] at this
        exact this l
      · have := sp i a i0 ai a1
        rw [ae] at this
        exact this l
theorem inj_le {a b : Int} {f : Int → Int} (ha : 0 ≤ a) (hb : 0 ≤ b) (h1 : ∀ i, 0 ≤ i → i < a → 0 ≤ f i ∧ f i < b) (h2 : ∀ i j, 0 ≤ i → i < a → 0 ≤ j → j < a → f i = f j → i = j) : a ≤ b := by
  refine Classical.byContradiction fun c => ?_
  have nn : ((a.toNat : Nat) : Int) = a := by omega
  obtain ⟨i, i0, i1, ie⟩ := PRM_on (n := a.toNat) (p := f) (by rw [nn]; exact ⟨fun i x y => by have := h1 i x y; omega, h2⟩) (a - 1) (by omega) (by omega)
  rw [nn] at i1
  have := h1 i i0 i1
  omega
theorem GRU {D D' : Int → Prop} {E' : Int → Int → Prop} {s s' : GSt} {P P' : Int → Int → Prop} {n : Int} {K : Int → Int → Prop} (g : GIV D (fun a b => a = b) s P n) (g' : GIV D' E' s' P' n) (he : EQV D' E') (h1 : ∀ k u, P k u → ∃ u', P' k u' ∧ K u u') (h2 : ∀ k u', P' k u' → ∃ u, P k u ∧ K u u')
    (h3 : ∀ u u' v', D u → D' u' → D' v' → K u u' → (K u v' ↔ E' u' v')) (h4 : ∀ u v u', D u → D v → D' u' → K u u' → K v u' → u = v) : s.1 = s'.1 ∧ ∃ φ, PRM s.1 φ ∧ ∀ j, 0 ≤ j → j < s.1 → K (s.2.1 (φ j)) (s'.2.1 j) ∧ s'.2.2.1 j = s.2.2.1 (φ j) ∧ s'.2.2.2.1 j = s.2.2.2.1 (φ j) := by
  obtain ⟨a0, a1, a2, a3, a4, a5⟩ := g
  obtain ⟨b0, b1, b2, b3, b4, b5⟩ := g'
  have fwd : ∀ j, ∃ i, 0 ≤ j → j < s'.1 → (0 ≤ i ∧ i < s.1) ∧ K (s.2.1 i) (s'.2.1 j) := fun j => by
    by_cases q : 0 ≤ j ∧ j < s'.1
    · obtain ⟨k, pk⟩ := b2 j q.1 q.2
      obtain ⟨u, pu, ku⟩ := h2 k _ pk
      obtain ⟨i, i0, i1, ie⟩ := a3 k u pu
      exact ⟨i, fun _ _ => ⟨⟨i0, i1⟩, by rw [show s.2.1 i = u from ie]; exact ku⟩⟩
    · exact ⟨0, fun x y => absurd ⟨x, y⟩ q⟩
  have bwd : ∀ i, ∃ j, 0 ≤ i → i < s.1 → (0 ≤ j ∧ j < s'.1) ∧ K (s.2.1 i) (s'.2.1 j) := fun i => by
    by_cases q : 0 ≤ i ∧ i < s.1
    · obtain ⟨k, pk⟩ := a2 i q.1 q.2
      obtain ⟨u', pu, ku⟩ := h1 k _ pk
      obtain ⟨j, j0, j1, je⟩ := b3 k u' pu
      obtain ⟨k2, pk2⟩ := b2 j j0 j1
      have dj := (b1 _ _ pk2).2
      have du := (b1 _ _ pu).2
      exact ⟨j, fun _ _ => ⟨⟨j0, j1⟩, (h3 _ _ _ (a1 _ _ pk).2 du dj ku).mpr (he.2.1 _ _ dj du je)⟩⟩
    · exact ⟨0, fun x y => absurd ⟨x, y⟩ q⟩
  have dX : ∀ i, 0 ≤ i → i < s.1 → D (s.2.1 i) := fun i x y => by obtain ⟨k, pk⟩ := a2 i x y; exact (a1 _ _ pk).2
  have dM : ∀ j, 0 ≤ j → j < s'.1 → D' (s'.2.1 j) := fun j x y => by obtain ⟨k, pk⟩ := b2 j x y; exact (b1 _ _ pk).2
  obtain ⟨φ, hφ⟩ := Classical.axiomOfChoice fwd
  obtain ⟨ψ, hψ⟩ := Classical.axiomOfChoice bwd
  have iφ : ∀ i j, 0 ≤ i → i < s'.1 → 0 ≤ j → j < s'.1 → φ i = φ j → i = j := fun i j x y z w e => by
    have k1 := (hφ i x y).2
    have k2 := (hφ j z w).2
    rw [← e] at k2
    have ee := (h3 _ _ _ (dX _ (hφ i x y).1.1 (hφ i x y).1.2) (dM i x y) (dM j z w) k1).mp k2
    rcases (show i < j ∨ i = j ∨ j < i by omega) with c | c | c
    · exact absurd ee (b4 i j x c w)
    · exact c
    · exact absurd (he.2.1 _ _ (dM i x y) (dM j z w) ee) (b4 j i z c y)
  have iψ : ∀ i j, 0 ≤ i → i < s.1 → 0 ≤ j → j < s.1 → ψ i = ψ j → i = j := fun i j x y z w e => by
    have k1 := (hψ i x y).2
    have k2 := (hψ j z w).2
    rw [← e] at k2
    have ee := h4 _ _ _ (dX i x y) (dX j z w) (dM _ (hψ i x y).1.1 (hψ i x y).1.2) k1 k2
    rcases (show i < j ∨ i = j ∨ j < i by omega) with c | c | c
    · exact absurd ee (a4 i j x c w)
    · exact c
    · exact absurd ee.symm (a4 j i z c y)
  have le1 := inj_le b0 a0 (fun i x y => (hφ i x y).1) iφ
  have le2 := inj_le a0 b0 (fun i x y => (hψ i x y).1) iψ
  have e : s.1 = s'.1 := by omega
  refine ⟨e, φ, ⟨fun i x y => (hφ i x (by omega)).1, fun i j x y z w => iφ i j x (by omega) z (by omega)⟩, fun j j0 j1 => ?_⟩
  have j1' : j < s'.1 := by omega
  obtain ⟨⟨f0, f1⟩, kj⟩ := hφ j j0 j1'
  have same : ∀ k, hsP E' P' (s'.2.1 j) k ↔ hsP (fun a b => a = b) P (s.2.1 (φ j)) k := fun k => by
    constructor
    · rintro ⟨v, pv, ev⟩
      obtain ⟨u, pu, ku⟩ := h2 k v pv
      have dv := (b1 _ _ pv).2
      have kv := (h3 _ _ _ (dX _ f0 f1) (dM j j0 j1') dv kj).mpr ev
      exact ⟨u, pu, h4 _ _ _ (dX _ f0 f1) (a1 _ _ pu).2 dv kv ku⟩
    · rintro ⟨u, pu, eu⟩
      obtain ⟨v, pv, kv⟩ := h1 k u pu
      have dv := (b1 _ _ pv).2
      rw [← eu] at kv
      exact ⟨v, pv, (h3 _ _ _ (dX _ f0 f1) (dM j j0 j1') dv kj).mp kv⟩
  have g1 := a5 (φ j) f0 f1
  have g2 := b5 j j0 j1'
  refine ⟨kj, ?_, ?_⟩
  · rw [g1.1, g2.1]
    exact cn_cg (fun k _ _ => same k)
  · rw [g1.2.1, g2.2.1]
    exact fsF_cg3 (fun k _ _ => same k)

