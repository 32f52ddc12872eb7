/-! contracts: printed by tools/mk.py out of s98zzzzzi_opG.py -/
set_option maxRecDepth 100000
set_option maxHeartbeats 3000000
/-! the operations facet and histogram -/
theorem odN_cg {A A' B B' : Int → Int} {i i' j j' n m : Int} : ∀ (f : Nat) (k : Int), 0 ≤ k → k + f ≤ n → k + f ≤ m → (∀ l, 0 ≤ l → l < n → A (i + l) = A' (i' + l)) → (∀ l, 0 ≤ l → l < m → B (j + l) = B' (j' + l)) → odN A i n B j m f k = odN A' i' n B' j' m f k := by
  intro f
  induction f with
  | zero => intro k _ _ _ _ _; rfl
  | succ f ih =>
    intro k k0 kn km hA hB
    show (if A (i + k) % 256 = B (j + k) % 256 then odN A i n B j m f (k + 1) else A (i + k) % 256 - B (j + k) % 256) = (if A' (i' + k) % 256 = B' (j' + k) % 256 then odN A' i' n B' j' m f (k + 1) else A' (i' + k) % 256 - B' (j' + k) % 256)
    rw [hA k k0 (by omega), hB k k0 (by omega), ih (k + 1) (by omega) (by omega) (by omega) hA hB]
theorem od_cg {A A' B B' : Int → Int} {i i' j j' n m : Int} (hA : ∀ l, 0 ≤ l → l < n → A (i + l) = A' (i' + l)) (hB : ∀ l, 0 ≤ l → l < m → B (j + l) = B' (j' + l)) : od A i n B j m 0 = od A' i' n B' j' m 0 := by
  unfold od
  by_cases q : 0 ≤ min n m
  · exact odN_cg _ 0 (Int.le_refl _) (by omega) (by omega) hA hB
  · rw [show (min n m - 0).toNat = 0 by omega]; rfl
theorem odN_0 {A B : Int → Int} {i j n : Int} : ∀ (f : Nat) (k : Int), 0 ≤ k → k + f ≤ n → (∀ l, 0 ≤ l → l < n → A (i + l) = B (j + l)) → odN A i n B j n f k = 0 := by
  intro f
  induction f with
  | zero => intro k _ _ _; show n - n = 0; omega
  | succ f ih =>
    intro k k0 kn h
    show (if A (i + k) % 256 = B (j + k) % 256 then odN A i n B j n f (k + 1) else A (i + k) % 256 - B (j + k) % 256) = 0
    rw [if_pos (by rw [h k k0 (by omega)]), ih (k + 1) (by omega) (by omega) h]
theorem od_0 {A B : Int → Int} {i j n : Int} (h : ∀ l, 0 ≤ l → l < n → A (i + l) = B (j + l)) : od A i n B j n 0 = 0 := by
  unfold od
  by_cases q : 0 ≤ n
  · exact odN_0 _ 0 (Int.le_refl _) (by omega) h
  · rw [show (min n n - 0).toNat = 0 by omega]; show n - n = 0; omega
/-- types bound what lies in a row of longs, of bytes, of booleans -/
theorem ti_l {σ : Sto} {a z : Nat} (h : TI σ) (hs : σ.sh a = (4, z)) (i : Int) : inL (σ.I a i) := by
  have q := h.1 a i
  rw [hs] at q
  exact q
theorem ti_b {σ : Sto} {a z : Nat} (h : TI σ) (hs : σ.sh a = (1, z)) (i : Int) : -128 ≤ σ.I a i ∧ σ.I a i ≤ 127 := by
  have q := h.1 a i
  rw [hs] at q
  exact q
theorem ti_z {σ : Sto} {a z : Nat} (h : TI σ) (hs : σ.sh a = (3, z)) (i : Int) : 0 ≤ σ.I a i ∧ σ.I a i ≤ 1 := by
  have q := h.1 a i
  rw [hs] at q
  exact q
theorem smP_1 {g : Int → Int} {h : Int} (h0 : 0 ≤ h) : ∀ n : Nat, smP (fun o => o = h) g n = if h < (n : Int) then g h else 0 := by
  intro n
  induction n with
  | zero => rw [smP_0 _ _ _ (by omega), if_neg (by omega)]
  | succ n ih =>
    by_cases q : (n : Int) = h
    · rw [smP_t _ _ (n : Int) _ (by omega) (by omega) q, ih, if_neg (by omega), if_pos (by omega), q]
      omega
    · rw [smP_f _ _ (n : Int) _ (by omega) (by omega) q, ih]
      by_cases w : h < (n : Int)
      · rw [if_pos w, if_pos (by omega)]
      · rw [if_neg w, if_neg (by omega)]
/-- values of different objects are not more than all -/
theorem SC_sum {H g : Int → Int} {N : Nat} (hg : ∀ o, 0 ≤ o → o < (N : Int) → 0 ≤ g o) : ∀ n : Nat, (∀ k, 0 ≤ k → k < (n : Int) → 0 ≤ H k ∧ H k < (N : Int)) → (∀ i j, 0 ≤ i → i < j → j < (n : Int) → H i ≠ H j) → SCg H g n = smP (fun o => exN (fun k => H k = o) n) g N := by
  intro n
  induction n with
  | zero =>
    intro _ _
    unfold SCg
    rw [smP_0 _ _ _ (by omega)]
    exact (smP_z (by omega) (fun k _ _ z => by obtain ⟨j, a, b, _⟩ := z; omega)).symm
  | succ n ih =>
    intro hr hd
    have i := ih (fun k a b => hr k a (by omega)) (fun a b x y z => hd a b x y (by omega))
    have e : SCg H g ((n + 1 : Nat) : Int) = SCg H g n + g (H n) := smP_t _ _ (n : Int) _ (by omega) (by omega) trivial
    rw [e, i]
    have hn := hr n (by omega) (by omega)
    have or := smP_or (p := fun o => exN (fun k => H k = o) n) (q := fun o => o = H n) (g := g) (fun v z => by
      obtain ⟨⟨j, a, b, c⟩, d⟩ := z
      exact hd j n a b (by omega) (by rw [c]; exact d)) N
    rw [smP_1 hn.1 N, if_pos hn.2] at or
    rw [← or]
    refine smP_cg (fun o _ _ => ?_) (fun _ _ _ _ => rfl)
    constructor
    · rintro (⟨j, a, b, c⟩ | c)
      · exact ⟨j, a, by omega, c⟩
      · exact ⟨n, by omega, by omega, c.symm⟩
    · rintro ⟨j, a, b, c⟩
      by_cases q : j = n
      · rw [q] at c; exact Or.inr c.symm
      · exact Or.inl ⟨j, a, by omega, c⟩
theorem SC_all {σ : Sto} (lo : LOX σ) : ∀ m : Nat, (m : Int) ≤ σ.I 0 39 → smP (fun _ => True) (σ.I 43) m = ofsX σ m := by
  intro m
  induction m with
  | zero => intro _; rw [smP_0 _ _ _ (by omega)]; exact lo.2.2.1.symm
  | succ m ih =>
    intro hm
    have lk := lo.2.2.2 m (by omega) (by omega)
    rw [smP_t _ _ (m : Int) _ (by omega) (by omega) trivial, ih (by omega), ofs_lt (by omega), lk.2, show ((m + 1 : Nat) : Int) = (m : Int) + 1 by omega]
theorem SC_X {k : Nat} {σ : Sto} (r : RR k σ) : SCX σ (σ.I 0 70) ≤ 6000 := by
  have hi := r.HI
  have lo := r.PK.1
  have n39 := lo.1
  have dr := r.VA.1.2.1
  have nn : ∀ o, 0 ≤ o → o < σ.I 0 39 → 0 ≤ σ.I 43 o := fun o a b => (lo.2.2.2 o a b).1
  have e := SC_sum (H := σ.I 189) (g := σ.I 43) (N := (σ.I 0 39).toNat) (fun o a b => nn o a (by omega)) (σ.I 0 70).toNat (fun j a b => by have := (hi.2.1 j a (by omega)).2.1; omega) (fun i j a b c => hi.2.2.1 i j a b (by omega))
  have a := smP_sub' (p := fun o => exN (fun k => σ.I 189 k = o) (((σ.I 0 70).toNat : Nat) : Int)) n39.1 nn
  have b := SC_all lo (σ.I 0 39).toNat (by omega)
  rw [Int.toNat_of_nonneg n39.1] at b e
  rw [Int.toNat_of_nonneg hi.1.2.1] at e a
  rw [ofs_ge (Int.le_refl _)] at b
  have e2 : SCX σ (σ.I 0 70) = SCg (σ.I 189) (σ.I 43) (σ.I 0 70) := rfl
  omega
/-- a value of a hit -/
theorem HV {k : Nat} {σ : Sto} (r : RR k σ) {i j : Int} (i0 : 0 ≤ i) (i1 : i < σ.I 0 70) (j0 : 0 ≤ j) (j1 : j < σ.I 43 (σ.I 189 i)) : (0 ≤ σ.I 42 (σ.I 189 i) + j ∧ σ.I 42 (σ.I 189 i) + j < σ.I 0 31) ∧ σ.I 637 i = σ.I 189 i ∧ σ.I 595 (σ.I 189 i) = σ.I 42 (σ.I 189 i) ∧ σ.I 596 (σ.I 189 i) = σ.I 43 (σ.I 189 i) := by
  have hi := r.HI.2.1 i i0 i1
  have ob := ((r.OB.2.1 _ hi.2.1.1 hi.2.1.2).2.2 hi.2.2).1
  have lo := r.PK.1
  have lk := lo.2.2.2 _ hi.2.1.1 hi.2.1.2
  have b := ofs_b lo (show 0 ≤ σ.I 189 i + 1 by omega)
  have c := ofs_b lo hi.2.1.1
  rw [ofs_lt hi.2.1.2] at c
  exact ⟨by omega, hi.1.1.symm, ob.2.2.2.1.symm, ob.2.2.2.2.symm⟩
theorem mono582 {σ : Sto} (va : rVA σ) (fl : rFL σ) {a b : Int} (a0 : 0 ≤ a) (ab : a ≤ b) (b1 : b ≤ σ.I 0 20) : 0 ≤ σ.I 582 a ∧ σ.I 582 a ≤ σ.I 582 b := by
  have ea := VA_e582 va fl a.toNat (by omega)
  have eb := VA_e582 va fl b.toNat (by omega)
  rw [Int.toNat_of_nonneg a0] at ea
  rw [Int.toNat_of_nonneg (by omega)] at eb
  have nn : ∀ k, 0 ≤ k → k < b → 0 ≤ σ.I 32 k := fun k p0 p1 => (va.2.2.1 k p0 (by omega)).2.2.2.2.1.1
  have m1 := smP_lq nn a a0 ab
  have m2 := cn_mo (p := isWv σ) a0 ab
  have m3 : 0 ≤ smP (fun _ => True) (σ.I 32) a := smP_n0 (fun k p0 p1 => nn k p0 (by omega))
  have m4 := cn_in (isWv σ) a
  omega
/-- words of both -/
def KWd (σ : Sto) (f u u' : Int) : Prop := ((0 ≤ u ∧ u < σ.I 0 32) ∧ σ.I 20 u = f) ∧ σ.I 21 u = σ.I 587 u' ∧ ∀ k, 0 ≤ k → k < σ.I 21 u → σ.I 19 (20 * u + k) = σ.I 586 (20 * u' + k)
theorem PG_w {k : Nat} {σ : Sto} (r : RR k σ) (ti : TI σ) {f : Int} (f0 : 0 ≤ f) (f1 : f < σ.I 0 9) (fk : σ.I 16 f = 1) {i u : Int} (n0 : 0 < σ.I 0 70) : (PGX σ (σ.I 33) f (σ.I 0 70) 0 i u → ∃ u', PGM σ f 0 (σ.I 0 70) 0 i u' ∧ KWd σ f u u') ∧ ∀ u', PGM σ f 0 (σ.I 0 70) 0 i u' → (∃ u, PGX σ (σ.I 33) f (σ.I 0 70) 0 i u ∧ KWd σ f u u') ∧ u' < σ.I 582 (σ.I 0 31) := by
  have hi := r.HI
  have va := r.VA
  have fl := r.FL
  have dr := va.1.2.1
  have sh : (σ.I 639 f ≠ 0) ↔ ¬ bt32 (σ.I 102 1) f := by
    have a := hi.2.2.2.2.2.1 n0 f f0 (by have := fl.1; omega)
    have b := ti_z ti (s_639 r.Lay) f
    rw [a]
    omega
  have key : ∀ v, 0 ≤ v → v < σ.I 0 31 → σ.I 26 v = f → KWd σ f (σ.I 33 v) (σ.I 582 v) ∧ σ.I 582 v < σ.I 582 (σ.I 0 31) := fun v v0 v1 vf => by
    have z := (va.2.2.1 v v0 (by omega)).2.2
    have w := z.2.2.2.2.1 (by rw [vf]; exact fk)
    have d := (r.TE.2.2.2.1.2 v v0 v1).1 (by rw [vf]; exact fk)
    obtain ⟨w1, w2, w3, w4, w5, w6, w7⟩ := w
    have m := mono582 va fl (a := v + 1) (b := σ.I 0 31) (by omega) (by omega) (by omega)
    exact ⟨⟨⟨⟨w4.1, d⟩, by rw [w5]; exact vf⟩, w6, fun k k0 k1 => w7 k k0 (by rw [← w6]; exact k1)⟩, by omega⟩
  refine ⟨?_, ?_⟩
  · rintro ⟨j, j0, hj, ⟨hf, hs⟩, rfl⟩
    have hj' : 0 ≤ i ∧ i < σ.I 0 70 ∧ j < σ.I 43 (σ.I 189 i) := by omega
    obtain ⟨hv, e1, e2, e3⟩ := HV r hj'.1 hj'.2.1 j0 hj'.2.2
    have kk := (key _ hv.1 hv.2 hf).1
    refine ⟨_, ⟨j, j0, Or.inl ⟨hj'.1, hj'.2.1, by rw [e1, e3]; exact hj'.2.2⟩, ⟨?_, sh.mpr hs⟩, rfl⟩, ?_⟩
    · rw [e1, e2, ← (va.2.2.1 _ hv.1 (by omega)).2.2.1.1]; exact hf
    · unfold keyV
      rw [if_pos rfl, e1, e2]
      exact kk
  · rintro u' ⟨j, j0, hj, ⟨hf, hs⟩, rfl⟩
    have h1 : 0 ≤ i ∧ i < σ.I 0 70 ∧ j < σ.I 596 (σ.I 637 i) := by omega
    have q := hi.2.1 i h1.1 h1.2.1
    have ob := ((r.OB.2.1 _ q.2.1.1 q.2.1.2).2.2 q.2.2).1
    have jj : j < σ.I 43 (σ.I 189 i) := by rw [ob.2.2.2.2, q.1.1]; exact h1.2.2
    obtain ⟨hv, e1, e2, e3⟩ := HV r h1.1 h1.2.1 j0 jj
    rw [e1, e2, ← (va.2.2.1 _ hv.1 (by omega)).2.2.1.1] at hf
    have kk := key _ hv.1 hv.2 hf
    unfold keyV
    rw [if_pos rfl, e1, e2]
    exact ⟨⟨_, ⟨j, j0, Or.inl ⟨h1.1, h1.2.1, jj⟩, ⟨hf, sh.mp hs⟩, rfl⟩, kk.1⟩, kk.2⟩
theorem PG_h {k : Nat} {σ : Sto} (r : RR k σ) (ti : TI σ) {f w : Int} (f0 : 0 ≤ f) (f1 : f < σ.I 0 9) (fk : σ.I 16 f = 2) (hw : w ≠ 0) {i u : Int} (n0 : 0 < σ.I 0 70) : PGX σ (fun v => fdv (σ.I 30 v) w) f (σ.I 0 70) 0 i u ↔ PGM σ f w (σ.I 0 70) 0 i u := by
  have hi := r.HI
  have va := r.VA
  have fl := r.FL
  have dr := va.1.2.1
  have sh : (σ.I 639 f ≠ 0) ↔ ¬ bt32 (σ.I 102 1) f := by
    have a := hi.2.2.2.2.2.1 n0 f f0 (by have := fl.1; omega)
    have b := ti_z ti (s_639 r.Lay) f
    rw [a]
    omega
  have key : ∀ v, 0 ≤ v → v < σ.I 0 31 → σ.I 26 v = f → keyV σ w v = fdv (σ.I 30 v) w := fun v v0 v1 vf => by
    have z := (va.2.2.1 v v0 (by omega)).2.2
    unfold keyV
    rw [if_neg hw, z.2.2.2.2.2.2.1 (by rw [vf]; exact fk)]
  constructor
  · rintro ⟨j, j0, hj, ⟨hf, hs⟩, rfl⟩
    have hj' : 0 ≤ i ∧ i < σ.I 0 70 ∧ j < σ.I 43 (σ.I 189 i) := by omega
    obtain ⟨hv, e1, e2, e3⟩ := HV r hj'.1 hj'.2.1 j0 hj'.2.2
    refine ⟨j, j0, Or.inl ⟨hj'.1, hj'.2.1, by rw [e1, e3]; exact hj'.2.2⟩, ⟨?_, sh.mpr hs⟩, ?_⟩
    · rw [e1, e2, ← (va.2.2.1 _ hv.1 (by omega)).2.2.1.1]; exact hf
    · rw [e1, e2]; exact (key _ hv.1 hv.2 hf).symm
  · rintro ⟨j, j0, hj, ⟨hf, hs⟩, rfl⟩
    have h1 : 0 ≤ i ∧ i < σ.I 0 70 ∧ j < σ.I 596 (σ.I 637 i) := by omega
    have q := hi.2.1 i h1.1 h1.2.1
    have ob := ((r.OB.2.1 _ q.2.1.1 q.2.1.2).2.2 q.2.2).1
    have jj : j < σ.I 43 (σ.I 189 i) := by rw [ob.2.2.2.2, q.1.1]; exact h1.2.2
    obtain ⟨hv, e1, e2, e3⟩ := HV r h1.1 h1.2.1 j0 jj
    rw [e1, e2, ← (va.2.2.1 _ hv.1 (by omega)).2.2.1.1] at hf
    refine ⟨j, j0, Or.inl ⟨h1.1, h1.2.1, jj⟩, ⟨hf, sh.mp hs⟩, ?_⟩
    rw [e1, e2]
    exact key _ hv.1 hv.2 hf
theorem PG_0 {σ : Sto} {κ : Int → Int} {f w : Int} (n0 : σ.I 0 70 = 0) : (∀ i u, ¬ PGX σ κ f (σ.I 0 70) 0 i u) ∧ ∀ i u, ¬ PGM σ f w (σ.I 0 70) 0 i u := by
  refine ⟨fun i u => ?_, fun i u => ?_⟩
  · rintro ⟨j, j0, hj, -⟩
    omega
  · rintro ⟨j, j0, hj, -⟩
    omega
/-- groups of words: the same rows -/
theorem GR_w {k : Nat} {σ α β : Sto} (r : RR k σ) (ti : TI σ) {f : Int} (f0 : 0 ≤ f) (f1 : f < σ.I 0 9) (fk : σ.I 16 f = 1) (hX : GRX σ α f) (hM : GRM σ β f 0 (β.I 555 135) (-1)) (hF : FCT β 0) : α.I 0 79 = β.I 555 135 ∧ ∀ i, 0 ≤ i → i < α.I 0 79 → (α.I 197 i = β.I 656 i ∧ α.I 198 i = β.I 657 i) ∧ KWd σ f (α.I 196 i) (β.I 658 i) ∧ 0 ≤ β.I 658 i ∧ β.I 658 i < σ.I 582 (σ.I 0 31) := by
  obtain ⟨s, g, e, p, hp, rx, srt⟩ := hX
  obtain ⟨s', g', e', p', hp', rm, srt'⟩ := hM
  have bd := r.BD
  have hi := r.HI
  have te := r.TE
  have ky : kyG β = β.I 658 := by
    have : β.I 555 141 ≠ 0 := by unfold FCT at hF; omega
    unfold kyG
    rw [if_neg this]
  rw [← hi.1.1] at g'
  have t2 := te.2.1
  have va7 := r.VA.1.2.2.2
  have t4 := te.2.2.1
  by_cases n0 : 0 < σ.I 0 70
  · have tb : ∀ {u v : Int}, (0 ≤ u ∧ u < σ.I 18 7) → (0 ≤ v ∧ v < σ.I 18 7) → σ.I 20 u = f → σ.I 20 v = f → σ.I 21 u = σ.I 21 v → (∀ l, 0 ≤ l → l < σ.I 21 v → σ.I 19 (20 * u + l) = σ.I 19 (20 * v + l)) → u = v := fun {u v} hu hv fu fv z b => by
      rcases (show u < v ∨ u = v ∨ v < u by omega) with c | c | c
      · exact absurd ⟨by rw [fu, fv], z, b⟩ (te.1.2 u v hu.1 c hv.2)
      · exact c
      · exact absurd ⟨by rw [fu, fv], z.symm, fun l l0 l1 => (b l l0 (by rw [← z]; exact l1)).symm⟩ (te.1.2 v u hv.1 c hu.2)
    obtain ⟨es, φ, hφ, rows⟩ := GRU (K := KWd σ f) g g' (EMw_e bd.2.1) (fun i u h => (PG_w r ti f0 f1 fk n0).1 h) (fun i u' h => ((PG_w r ti f0 f1 fk (u := 0) n0).2 u' h).1)
      (fun u u' v' du du' dv' ku => by
        obtain ⟨⟨k1, k2⟩, k3, k4⟩ := ku
        have z1 := bd.2.1 u' (du' rfl).1 (du' rfl).2
        have z2 := bd.2.1 v' (dv' rfl).1 (dv' rfl).2
        constructor
        · rintro ⟨-, j3, j4⟩
          refine Or.inl ⟨rfl, ?_⟩
          unfold odM
          rw [← k3, ← j3]
          exact od_0 (fun l l0 l1 => by rw [← k4 l l0 l1, ← j4 l l0 l1])
        · rintro (⟨-, z⟩ | ⟨z, -⟩)
          · obtain ⟨y1, y2⟩ := od_z _ _ _ _ _ _ 1000 0 (by omega) z1.2 z2.2 (Int.le_refl _) z1.1 z2.1 z
            refine ⟨⟨k1, k2⟩, by rw [k3]; exact y1, fun l l0 l1 => ?_⟩
            rw [k4 l l0 l1]
            have a := y2 l l0 (by rw [← k3]; exact l1)
            have b1 := ti_b ti (s_586 r.Lay) (20 * u' + l)
            have b2 := ti_b ti (s_586 r.Lay) (20 * v' + l)
            omega
          · exact absurd rfl z)
      (fun u v u' du dv du' ku kv => by
        obtain ⟨⟨k1, k2⟩, k3, k4⟩ := ku
        obtain ⟨⟨j1, j2⟩, j3, j4⟩ := kv
        refine tb ⟨k1.1, by omega⟩ ⟨j1.1, by omega⟩ k2 j2 (k3.trans j3.symm) (fun l l0 l1 => ?_)
        rw [k4 l l0 (by rw [k3, ← j3]; exact l1), j4 l l0 l1])
    have kx : ∀ i, 0 ≤ i → i < s.1 → ((0 ≤ s.2.1 i ∧ s.2.1 i < σ.I 0 32) ∧ σ.I 20 (s.2.1 i) = f) := fun i i0 i1 => by
      obtain ⟨q, pq⟩ := g.2.2.1 i i0 i1
      obtain ⟨u', -, kk⟩ := (PG_w r ti f0 f1 fk n0).1 pq
      exact kk.1
    have un := PRM_un (L := LXs σ s) hp (q := fun i => φ (p' i)) (by
        refine ⟨fun i a b => ?_, fun i j a b c d e2 => ?_⟩
        · have x := hp'.1 i a (by omega)
          exact hφ.1 _ x.1 (by omega)
        · have x := hp'.1 i a (by omega)
          have y := hp'.1 j c (by omega)
          have z := hφ.2 _ _ x.1 (by omega) y.1 (by omega) e2
          exact hp'.2 i j a (by omega) c (by omega) z)
      (fun x y x0 x1 y0 y1 ne => by
        unfold LXs
        by_cases c : s.2.2.1 x = s.2.2.1 y
        · have kx1 := kx x x0 x1
          have ky1 := kx y y0 y1
          have z1 := bd.2.2.2.2.1 _ kx1.1.1 (by omega)
          have z2 := bd.2.2.2.2.1 _ ky1.1.1 (by omega)
          have ng : odX σ (s.2.1 y) (s.2.1 x) = - odX σ (s.2.1 x) (s.2.1 y) := od_neg _ _ _ _ _ _ 1000 0 (by omega) z1.2 z2.2 (Int.le_refl _)
          have nz : odX σ (s.2.1 x) (s.2.1 y) ≠ 0 := fun z => by
            obtain ⟨w1, w2⟩ := od_z _ _ _ _ _ _ 1000 0 (by omega) z1.2 z2.2 (Int.le_refl _) z1.1 z2.1 z
            have eq : s.2.1 x = s.2.1 y := tb ⟨kx1.1.1, by omega⟩ ⟨ky1.1.1, by omega⟩ kx1.2 ky1.2 w1 (fun l l0 l1 => by
              have a := w2 l l0 (by rw [w1]; exact l1)
              have b1 := ti_b ti (s_19 r.Lay) (20 * s.2.1 x + l)
              have b2 := ti_b ti (s_19 r.Lay) (20 * s.2.1 y + l)
              omega)
            rcases (show x < y ∨ y < x by omega) with o | o
            · exact g.2.2.2.2.1 x y x0 o y1 eq
            · exact g.2.2.2.2.1 y x y0 o x1 eq.symm
          omega
        · omega)
      (fun a b a0 ab b1 => srt a b a0 ab b1)
      (fun a b a0 ab b1 => by
        have xa := hp'.1 a a0 (by omega)
        have xb := hp'.1 b (by omega) (by omega)
        have ra := rows _ xa.1 (by omega)
        have rb := rows _ xb.1 (by omega)
        have nl := srt' trivial a b a0 ab (by omega) (by omega)
        refine fun l => nl (Or.inr ⟨rfl, ?_⟩)
        have eo : odM σ (s'.2.1 (p' b)) (s'.2.1 (p' a)) = odX σ (s.2.1 (φ (p' b))) (s.2.1 (φ (p' a))) := by
          unfold odM odX
          rw [rb.1.2.1, ra.1.2.1]
          exact od_cg (fun l l0 l1 => (rb.1.2.2 l l0 (by rw [rb.1.2.1]; exact l1)).symm) (fun l l0 l1 => (ra.1.2.2 l l0 (by rw [ra.1.2.1]; exact l1)).symm)
        rw [rb.2.1, ra.2.1, eo]
        exact l) s.1.toNat
    refine ⟨by omega, fun i i0 i1 => ?_⟩
    rw [← e] at i1
    have x := rx i i0 i1
    have y := rm i i0 (by omega)
    have xp := hp'.1 i i0 (by omega)
    have rr := rows _ xp.1 (by omega)
    have u := un i i0 (by omega) i1
    rw [ky] at y
    refine ⟨⟨?_, ?_⟩, ?_, ?_⟩
    · rw [x.2.1, y.2.1, u, rr.2.1]
    · rw [x.2.2, y.2.2, u, rr.2.2]
    · rw [x.1, y.1, u]
      exact rr.1
    · rw [y.1]
      obtain ⟨q, pq⟩ := g'.2.2.1 _ xp.1 (by omega)
      exact ⟨((g'.2.1 _ _ pq).2 rfl).1, ((PG_w r ti f0 f1 fk (u := 0) n0).2 _ pq).2⟩
  · have z := PG_0 (κ := σ.I 33) (f := f) (w := 0) (show σ.I 0 70 = 0 by have hi0 := r.HI.1; omega)
    have a : s.1 = 0 := by
      refine Classical.byContradiction fun c => ?_
      obtain ⟨q, pq⟩ := g.2.2.1 0 (Int.le_refl _) (by have := g.1; omega)
      exact z.1 _ _ pq
    have b : s'.1 = 0 := by
      refine Classical.byContradiction fun c => ?_
      obtain ⟨q, pq⟩ := g'.2.2.1 0 (Int.le_refl _) (by have := g'.1; omega)
      exact z.2 _ _ pq
    exact ⟨by omega, fun i i0 i1 => by omega⟩
/-- groups of numbers: the same rows -/
theorem GR_h {k : Nat} {σ α β : Sto} (r : RR k σ) (ti : TI σ) {f w : Int} (f0 : 0 ≤ f) (f1 : f < σ.I 0 9) (fk : σ.I 16 f = 2) (hw : w ≠ 0) (hX : HSX σ α f w) (hM : GRM σ β f w (β.I 555 135) (-1)) (hF : FCT β w) : α.I 0 79 = β.I 555 135 ∧ ∀ i, 0 ≤ i → i < α.I 0 79 → (α.I 197 i = β.I 656 i ∧ α.I 198 i = β.I 657 i) ∧ α.I 196 i = β.I 659 i := by
  obtain ⟨s, g, e, rx, srt⟩ := hX
  obtain ⟨s', g', e', p', hp', rm, srt'⟩ := hM
  have bd := r.BD
  have hi := r.HI
  have ky : kyG β = β.I 659 := by
    have : β.I 555 141 = 0 := by unfold FCT at hF; omega
    unfold kyG
    rw [if_pos this]
  rw [← hi.1.1] at g'
  by_cases n0 : 0 < σ.I 0 70
  · obtain ⟨es, φ, hφ, rows⟩ := GRU (K := fun a b => a = b) g g' (EMw_e bd.2.1) (fun i u h => ⟨u, (PG_h r ti f0 f1 fk hw n0).mp h, rfl⟩) (fun i u' h => ⟨u', (PG_h r ti f0 f1 fk hw n0).mpr h, rfl⟩)
      (fun u u' v' _ _ _ ku => by
        have ku' : u = u' := ku
        subst ku'
        constructor
        · intro z; exact Or.inr ⟨hw, z⟩
        · rintro (⟨z, -⟩ | ⟨-, z⟩)
          · exact absurd z hw
          · exact z)
      (fun u v u' _ _ _ ku kv => ku.trans kv.symm)
    have un := PRM_un (L := fun x y => s.2.1 x < s.2.1 y) (p := fun i => i) (n := s.1) PRM_id (q := fun i => φ (p' i)) (by
        refine ⟨fun i a b => ?_, fun i j a b c d e2 => ?_⟩
        · have x := hp'.1 i a (by omega)
          exact hφ.1 _ x.1 (by omega)
        · have x := hp'.1 i a (by omega)
          have y := hp'.1 j c (by omega)
          have z := hφ.2 _ _ x.1 (by omega) y.1 (by omega) e2
          exact hp'.2 i j a (by omega) c (by omega) z)
      (fun x y x0 x1 y0 y1 ne => by
        rcases (show x < y ∨ y < x by omega) with o | o
        · exact Or.inl (srt x y x0 o y1)
        · exact Or.inr (srt y x y0 o x1))
      (fun a b a0 ab b1 => by have := srt a b a0 ab b1; show ¬ s.2.1 b < s.2.1 a; omega)
      (fun a b a0 ab b1 => by
        have xa := hp'.1 a a0 (by omega)
        have xb := hp'.1 b (by omega) (by omega)
        have ra : s.2.1 (φ (p' a)) = s'.2.1 (p' a) := (rows _ xa.1 (by omega)).1
        have rb : s.2.1 (φ (p' b)) = s'.2.1 (p' b) := (rows _ xb.1 (by omega)).1
        have nl := srt' trivial a b a0 ab (by omega) (by omega)
        show ¬ s.2.1 (φ (p' b)) < s.2.1 (φ (p' a))
        rw [ra, rb]
        exact fun l => nl (Or.inl ⟨hw, l⟩)) s.1.toNat
    refine ⟨by omega, fun i i0 i1 => ?_⟩
    rw [← e] at i1
    have x := rx i i0 i1
    have y := rm i i0 (by omega)
    have xp := hp'.1 i i0 (by omega)
    have rr := rows _ xp.1 (by omega)
    have u : i = φ (p' i) := un i i0 (by omega) i1
    have r1 : s.2.1 (φ (p' i)) = s'.2.1 (p' i) := rr.1
    rw [ky] at y
    rw [← u] at rr r1
    exact ⟨⟨by rw [x.2.1, y.2.1, rr.2.1], by rw [x.2.2, y.2.2, rr.2.2]⟩, by rw [x.1, y.1, r1]⟩
  · have z := PG_0 (κ := fun v => fdv (σ.I 30 v) w) (f := f) (w := w) (show σ.I 0 70 = 0 by have hi0 := r.HI.1; omega)
    have a : s.1 = 0 := by
      refine Classical.byContradiction fun c => ?_
      obtain ⟨q, pq⟩ := g.2.2.1 0 (Int.le_refl _) (by have := g.1; omega)
      exact z.1 _ _ pq
    have b : s'.1 = 0 := by
      refine Classical.byContradiction fun c => ?_
      obtain ⟨q, pq⟩ := g'.2.2.1 0 (Int.le_refl _) (by have := g'.1; omega)
      exact z.2 _ _ pq
    exact ⟨by omega, fun i i0 i1 => by omega⟩
theorem GRM_cg {σ τ β : Sto} {f w m j : Int} (h : ∀ c : Nat, 555 ≤ c → c < 675 → τ.I c = σ.I c) (g : GRM τ β f w m j) : GRM σ β f w m j := by
  have o : odM τ = odM σ := by funext a b; unfold odM; rw [h 586 (by omega) (by omega), h 587 (by omega) (by omega)]
  have e1 : EMw τ w = EMw σ w := by funext a b; unfold EMw; rw [o]
  have e2 : PGM τ f w = PGM σ f w := by
    funext n m k u
    unfold PGM keyV
    rw [h 637 (by omega) (by omega), h 595 (by omega) (by omega), h 596 (by omega) (by omega), h 579 (by omega) (by omega), h 582 (by omega) (by omega), h 583 (by omega) (by omega), h 639 (by omega) (by omega)]
  have e3 : ∀ s, LMs τ w s = LMs σ w s := fun s => by funext a b; unfold LMs; rw [o]
  obtain ⟨s, a, b, c⟩ := g
  rw [e1, e2, h 555 (by omega) (by omega)] at a
  rw [e3] at c
  exact ⟨s, a, b, c⟩
theorem SC_199 {σ τ : Sto} (r : rSC σ) (h : ∀ c i, fSC c i → c ≠ 199 → τ.I c i = σ.I c i) (h199 : ∀ t, 0 ≤ t → t < 36500 → τ.I 199 t = 0) : rSC τ := by
  obtain ⟨κ, hκ⟩ : ∃ κ : Sto, κ = (fun c i => if c = 199 then σ.I 199 i else τ.I c i, τ.2) := ⟨_, rfl⟩
  have k1 : ∀ (c : Nat) (i : Int), c ≠ 199 → κ.I c i = τ.I c i := fun c i q => by rw [hκ]; exact if_neg q
  have k2 : ∀ i, κ.I 199 i = σ.I 199 i := fun i => by rw [hκ]; show (if (199 : Nat) = 199 then σ.I 199 i else τ.I 199 i) = σ.I 199 i; rw [if_pos rfl]
  have z : rSC κ := rSC_cg (fun c i q => by
    by_cases w : c = 199
    · rw [w]; exact k2 i
    · rw [k1 c i w]; exact h c i q w) r
  obtain ⟨a, b, -, c, d, e, f⟩ := z
  have kf : ∀ c : Nat, c ≠ 199 → τ.I c = κ.I c := fun c q => (funext fun i => k1 c i q).symm
  unfold rSC PBD OFZ WKB bd_0_20 bd_0_59 bd_0_20000 bd_m1_15 bd_0_500 bd_0_36499 bd_0_15 bd_0_1000000000000000 bd_0_1 bd_0_23999 at *
  rw [kf 12 (by omega), kf (87 + 21) (by omega), kf (87 + 23) (by omega), kf (87 + 32) (by omega), kf (87 + 26) (by omega), kf (121 + 21) (by omega), kf (121 + 23) (by omega), kf (121 + 32) (by omega), kf (121 + 26) (by omega), kf (155 + 21) (by omega), kf (155 + 23) (by omega), kf (155 + 32) (by omega), kf (155 + 26) (by omega), kf 206 (by omega), kf 201 (by omega), kf 207 (by omega), kf 635 (by omega), kf 573 (by omega), kf 630 (by omega), kf 629 (by omega), kf 633 (by omega), kf 622 (by omega), kf 621 (by omega), kf 662 (by omega)]
  exact ⟨a, b, h199, c, d, e, f⟩
section OPG
variable {E : XE} {d : Nat}

theorem op_facet (hd : 30 ≤ d) : OP_facet E d RR := by
  intro k σ hk r x1 h1
  have fl := r.FL
  have fl1 := fl.1
  have hi := r.HI
  have hi1 := hi.1
  have ob := r.OB
  have ob1 := ob.1
  have va := r.VA
  have bd := r.BD
  have te := r.TE
  have sc := SC_X r
  have wq : ((0 ≤ x1 ∧ x1 < σ.I 0 9) ∧ σ.I 577 x1 = (1 : Int)) ↔ ((0 ≤ x1 ∧ x1 < σ.I 0 9) ∧ σ.I 16 x1 = (1 : Int)) := by
    have key : 0 ≤ x1 ∧ x1 < σ.I 0 9 → σ.I 577 x1 = σ.I 16 x1 := fun q => (fl.2 x1 q.1 q.2).1.1.symm
    constructor
    · intro z
      have := key (by omega)
      omega
    · intro z
      have := key (by omega)
      omega
  unfold OPI
  refine v_ti (fun ti => ?_)
  by_cases w : (0 ≤ x1 ∧ x1 < σ.I 0 9) ∧ σ.I 16 x1 = (1 : Int)
  · show OPI _ _ _ _ _ _ _
    refine OPI.mk (sp_X0_facet (by omega) r.Lay h1 fl1.2 hi1.2 (fun i a b => by have := (hi.2.1 i a b).2.1; omega) ob.2.2.2.1 sc bd.2.2.2.2.1 r.SC.2.2.1 (fun i j i0 i1 j0 j1 vf k1 => by
        obtain ⟨hv, -, -, -⟩ := HV r i0 i1 j0 j1
        have dr := va.1.2.1
        have z := (va.2.2.1 _ hv.1 (show σ.I 42 (σ.I 189 i) + j < σ.I 0 20 by omega)).2.2
        have w := (z.2.2.2.2.1 (by rw [vf]; exact k1)).2.2.2.1
        have t2 := te.2.1
        have v7 := va.1.2.2.2
        exact ⟨w.1, by omega⟩)) (fun y σ1 p s1 => by
        have S : ∀ (c : Nat) (i : Int), 555 ≤ c → σ1.I c i = σ.I c i := fun c i h => p.2.2.2 c i (by unfold wsFx; omega)
        have S' : ∀ c : Nat, 555 ≤ c → σ1.I c = σ.I c := fun c h => funext fun i => S c i h
        have SR := p.2.2.1
        have scm : SCM σ1 (σ1.I 555 115) ≤ 6000 := by
          have e : SCM σ1 (σ1.I 555 115) = SCX σ (σ.I 0 70) := by
            unfold SCM SCX SCg
            rw [S' 637 (by omega), S' 596 (by omega), S 555 115 (by omega), ← hi1.1]
            refine smP_cg (fun _ _ _ => Iff.rfl) (fun i a b _ => ?_)
            have q := hi.2.1 i a b
            have o := ((ob.2.1 _ q.2.1.1 q.2.1.2).2.2 q.2.2).1
            rw [← q.1.1]
            exact o.2.2.2.2.symm
          rw [e]
          exact sc
        have obm : OB σ1 595 596 := by
          unfold OB
          rw [S' 595 (by omega), S' 596 (by omega)]
          exact ob.2.2.2.2.1
        exact sp_X9_facet (by omega) (r.Lay.sf s1) h1 (by rw [S 555 27 (by omega), ← fl1.1]; exact fl1.2) (by rw [S 555 115 (by omega), ← hi1.1]; exact hi1.2) (fun i a b => by rw [S 555 115 (by omega), ← hi1.1] at b; rw [S 637 i (by omega)]; have := hi.2.1 i a b; omega) obm scm (bd_0_20_eq bd.2.1 (S' 587 (by omega))) (fun i j i0 i1 j0 j1 => by
          rw [S 555 115 (by omega), ← hi1.1] at i1
          rw [S' 637 (by omega), S' 596 (by omega)] at j1
          have q := hi.2.1 i i0 i1
          have o := ((ob.2.1 _ q.2.1.1 q.2.1.2).2.2 q.2.2).1
          obtain ⟨hv, e1, e2, e3⟩ := HV r i0 i1 j0 (by rw [o.2.2.2.2, q.1.1]; exact j1)
          rw [S' 637 (by omega), S' 595 (by omega), S' 582 (by omega), S' 583 (by omega), S' 579 (by omega), S' 577 (by omega), e1, e2]
          have dr := va.1.2.1
          have m1 := mono582 va fl hv.1 (show σ.I 42 (σ.I 189 i) + j ≤ σ.I 0 20 by omega) (Int.le_refl _)
          have m2 := VA_582 va fl (σ.I 42 (σ.I 189 i) + j) hv.1 (by omega)
          have m3 := VA_582 va fl (σ.I 42 (σ.I 189 i) + j + 1) (by omega) (by omega)
          have v7 := va.1.2.2.2
          refine ⟨by omega, fun a b => ?_, ti_l ti (s_583 r.Lay) _⟩
          have z := (va.2.2.1 _ hv.1 (show σ.I 42 (σ.I 189 i) + j < σ.I 0 20 by omega)).2.2
          have fx := fl.2 _ z.1.2.1 z.1.2.2
          have w := (z.2.2.2.2.1 (by rw [fx.1.1, z.1.1, b]; exact a)).1
          omega)) ?_
    intro y σ1 z σ2 p s1 g s2
    have S : ∀ (c : Nat) (i : Int), 555 ≤ c → σ1.I c i = σ.I c i := fun c i h => p.2.2.2 c i (by unfold wsFx; omega)
    have S' : ∀ c : Nat, 555 ≤ c → σ1.I c = σ.I c := fun c h => funext fun i => S c i h
    have SR := p.2.2.1
    rw [S 555 27 (by omega), S 577 x1 (by omega), ← fl1.1] at g
    obtain ⟨py, p80, pb, pX⟩ := p.1.2 w
    obtain ⟨gy, gM, gF, gb⟩ := g.1.2 (wq.mpr w)
    have p199 := p.2.1
    have gM' := GRM_cg (σ := σ) (fun c a b => S' c a) gM
    have gg := GR_w r ti w.1.1 w.1.2 w.2 pX gM' gF
    have pF := p.2.2.2
    have gK := g.2
    have F1 : ∀ (c : Nat) (i : Int), ¬ ((196 ≤ c ∧ c ≤ 200) ∨ (c = 0 ∧ (i = 79 ∨ i = 80))) → σ1.I c i = σ.I c i := by
      intro c i q
      exact pF c i (by unfold wsFx; omega)
    have F2 : ∀ (c : Nat) (i : Int), ¬ ((656 ≤ c ∧ c ≤ 660) ∨ (c = 555 ∧ (i = 135 ∨ i = 141))) → σ2.I c i = σ1.I c i := by
      intro c i q
      exact gK.2 c i (by unfold wsGa; omega)
    have F : ∀ (c : Nat) (i : Int), ¬ ((196 ≤ c ∧ c ≤ 200) ∨ (c = 0 ∧ (i = 79 ∨ i = 80))) → ¬ ((656 ≤ c ∧ c ≤ 660) ∨ (c = 555 ∧ (i = 135 ∨ i = 141))) → σ2.I c i = σ.I c i := fun c i a b => (F2 c i b).trans (F1 c i a)
    have hR : σ2.R = σ.R := g.2.1.1.trans SR.1
    have hS : σ2.sh = σ.sh := g.2.1.2.1.trans SR.2.1
    have hN : σ2.n = σ.n := g.2.1.2.2.trans SR.2.2
    have A79 : σ2.I 0 79 = σ1.I 0 79 := F2 0 79 (by omega)
    have A80 : σ2.I 0 80 = 1 := (F2 0 80 (by omega)).trans p80
    have n79 : σ2.I 0 79 = σ2.I 555 135 := by rw [A79]; exact gg.1
    have B141 : σ2.I 555 141 = 1 := by unfold FCT at gF; omega
    refine ⟨by rw [gy, py]; exact gg.1.symm, r.Lay.sf (s1.tr s2), RK_cg hS hN (F 0 1 (by omega) (by omega)) (F 0 41 (by omega) (by omega)) (fun i => F 211 i (by omega) (by omega)) r.RK, ?_, ?_, ?_, ?_, ?_, ?_, ?_, ?_, ?_, ?_, ?_, ?_, ?_, ?_, ?_, ?_, ?_, ?_, ?_, ?_, ?_, ?_, ?_, ?_, ?_⟩
    · exact rTP_cg (fun c i h => F c i (by unfold fTP at h; omega) (by unfold fTP at h; omega)) r.TP
    · exact rFL_cg (fun c i h => F c i (by unfold fFL at h; omega) (by unfold fFL at h; omega)) r.FL
    · exact rVS_cg (fun c i h => F c i (by unfold fVS at h; omega) (by unfold fVS at h; omega)) r.VS
    · exact rOB_cg (fun c i h => F c i (by unfold fOB at h; omega) (by unfold fOB at h; omega)) r.OB
    · exact rVA_cg (fun c i h => F c i (by unfold fVA at h; omega) (by unfold fVA at h; omega)) r.VA
    · exact rBD_cg (fun c i h => F c i (by unfold fBD at h; omega) (by unfold fBD at h; omega)) r.BD
    · exact rTE_cg (fun c i h => F c i (by unfold fTE at h; omega) (by unfold fTE at h; omega)) r.TE
    · exact rPK_cg (fun c i h => F c i (by unfold fPK at h; omega) (by unfold fPK at h; omega)) r.PK
    · exact rUS_cg (fun c i h => F c i (by unfold fUS at h; omega) (by unfold fUS at h; omega)) r.US
    · exact rFO_cg (fun c i h => F c i (by unfold fFO at h; omega) (by unfold fFO at h; omega)) r.FO
    · exact rSH_cg (fun c i h => F c i (by unfold fSH at h; omega) (by unfold fSH at h; omega)) r.SH
    · exact rSW_cg (fun c i h => F c i (by unfold fSW at h; omega) (by unfold fSW at h; omega)) r.SW
    · exact rHI_cg (fun c i h => F c i (by unfold fHI at h; omega) (by unfold fHI at h; omega)) r.HI
    · exact rLN_cg (fun c i h => F c i (by unfold fLN at h; omega) (by unfold fLN at h; omega)) r.LN
    · exact rMK_cg (fun c i h => F c i (by unfold fMK at h; omega) (by unfold fMK at h; omega)) r.MK
    · refine ⟨⟨n79, by rw [A79]; exact pb.1, by rw [A79]; exact pb.2⟩, fun _ => ⟨by rw [A80, B141], Or.inr A80⟩, fun i i0 i1 => ?_⟩
      rw [A79] at i1
      obtain ⟨q1, q2, q3⟩ := gg.2 i i0 i1
      rw [F2 197 i (by omega), F2 198 i (by omega), F2 196 i (by omega), A80, F 0 32 (by omega) (by omega), F 0 31 (by omega) (by omega), F 582 _ (by omega) (by omega), F 21 _ (by omega) (by omega), F 587 _ (by omega) (by omega)]
      refine ⟨q1, fun e => by omega, fun _ => ⟨q2.1.1, q3, q2.2.1, fun k k0 k1 => ?_⟩⟩
      rw [F 19 _ (by omega) (by omega), F 586 _ (by omega) (by omega)]
      exact q2.2.2 k k0 k1
    · exact rTT_cg (fun c i h => F c i (by unfold fTT at h; omega) (by unfold fTT at h; omega)) r.TT
    · exact rMT_cg (fun c i h => F c i (by unfold fMT at h; omega) (by unfold fMT at h; omega)) r.MT
    · exact SC_199 r.SC (fun c i q q1 => F c i (by unfold fSC at q; omega) (by unfold fSC at q; omega)) (fun t a b => by rw [F2 199 t (by omega)]; exact p199 t a b)
    · exact rQU_cg (fun c i h => F c i (by unfold fQU at h; omega) (by unfold fQU at h; omega)) r.QU
    · exact rKQ_cg (fun c i h => F c i (by unfold fKQ at h; omega) (by unfold fKQ at h; omega)) r.KQ
    · exact rHQ_cg (fun c i h => F c i (by unfold fHQ at h; omega) (by unfold fHQ at h; omega)) r.HQ
    · exact rPP_cg (fun c i h => F c i (by unfold fPP at h; omega) (by unfold fPP at h; omega)) (by rw [hR]) (by rw [hR]) r.PP
    · exact rAN_cg (fun c i h => F c i (by unfold fAN at h; omega) (by unfold fAN at h; omega)) hR hS hN r.AN
    · exact rSE_cg r.SE
  · show OPI _ _ _ _ _ _ _
    refine OPI.mk (sp_X0_facet (by omega) r.Lay h1 fl1.2 hi1.2 (fun i a b => by have := (hi.2.1 i a b).2.1; omega) ob.2.2.2.1 sc bd.2.2.2.2.1 r.SC.2.2.1 (fun i j i0 i1 j0 j1 vf k1 => by
        obtain ⟨hv, -, -, -⟩ := HV r i0 i1 j0 j1
        have dr := va.1.2.1
        have z := (va.2.2.1 _ hv.1 (show σ.I 42 (σ.I 189 i) + j < σ.I 0 20 by omega)).2.2
        have w := (z.2.2.2.2.1 (by rw [vf]; exact k1)).2.2.2.1
        have t2 := te.2.1
        have v7 := va.1.2.2.2
        exact ⟨w.1, by omega⟩)) (fun y σ1 p s1 => by
        have S : ∀ (c : Nat) (i : Int), 555 ≤ c → σ1.I c i = σ.I c i := fun c i h => p.2.2.2 c i (by unfold wsFx; omega)
        have S' : ∀ c : Nat, 555 ≤ c → σ1.I c = σ.I c := fun c h => funext fun i => S c i h
        have SR := p.2.2.1
        have scm : SCM σ1 (σ1.I 555 115) ≤ 6000 := by
          have e : SCM σ1 (σ1.I 555 115) = SCX σ (σ.I 0 70) := by
            unfold SCM SCX SCg
            rw [S' 637 (by omega), S' 596 (by omega), S 555 115 (by omega), ← hi1.1]
            refine smP_cg (fun _ _ _ => Iff.rfl) (fun i a b _ => ?_)
            have q := hi.2.1 i a b
            have o := ((ob.2.1 _ q.2.1.1 q.2.1.2).2.2 q.2.2).1
            rw [← q.1.1]
            exact o.2.2.2.2.symm
          rw [e]
          exact sc
        have obm : OB σ1 595 596 := by
          unfold OB
          rw [S' 595 (by omega), S' 596 (by omega)]
          exact ob.2.2.2.2.1
        exact sp_X9_facet (by omega) (r.Lay.sf s1) h1 (by rw [S 555 27 (by omega), ← fl1.1]; exact fl1.2) (by rw [S 555 115 (by omega), ← hi1.1]; exact hi1.2) (fun i a b => by rw [S 555 115 (by omega), ← hi1.1] at b; rw [S 637 i (by omega)]; have := hi.2.1 i a b; omega) obm scm (bd_0_20_eq bd.2.1 (S' 587 (by omega))) (fun i j i0 i1 j0 j1 => by
          rw [S 555 115 (by omega), ← hi1.1] at i1
          rw [S' 637 (by omega), S' 596 (by omega)] at j1
          have q := hi.2.1 i i0 i1
          have o := ((ob.2.1 _ q.2.1.1 q.2.1.2).2.2 q.2.2).1
          obtain ⟨hv, e1, e2, e3⟩ := HV r i0 i1 j0 (by rw [o.2.2.2.2, q.1.1]; exact j1)
          rw [S' 637 (by omega), S' 595 (by omega), S' 582 (by omega), S' 583 (by omega), S' 579 (by omega), S' 577 (by omega), e1, e2]
          have dr := va.1.2.1
          have m1 := mono582 va fl hv.1 (show σ.I 42 (σ.I 189 i) + j ≤ σ.I 0 20 by omega) (Int.le_refl _)
          have m2 := VA_582 va fl (σ.I 42 (σ.I 189 i) + j) hv.1 (by omega)
          have m3 := VA_582 va fl (σ.I 42 (σ.I 189 i) + j + 1) (by omega) (by omega)
          have v7 := va.1.2.2.2
          refine ⟨by omega, fun a b => ?_, ti_l ti (s_583 r.Lay) _⟩
          have z := (va.2.2.1 _ hv.1 (show σ.I 42 (σ.I 189 i) + j < σ.I 0 20 by omega)).2.2
          have fx := fl.2 _ z.1.2.1 z.1.2.2
          have w := (z.2.2.2.2.1 (by rw [fx.1.1, z.1.1, b]; exact a)).1
          omega)) ?_
    intro y σ1 z σ2 p s1 g s2
    have S : ∀ (c : Nat) (i : Int), 555 ≤ c → σ1.I c i = σ.I c i := fun c i h => p.2.2.2 c i (by unfold wsFx; omega)
    have S' : ∀ c : Nat, 555 ≤ c → σ1.I c = σ.I c := fun c h => funext fun i => S c i h
    have SR := p.2.2.1
    rw [S 555 27 (by omega), S 577 x1 (by omega), ← fl1.1] at g
    obtain ⟨py, pe⟩ := p.1.1 w
    obtain ⟨gy, ge⟩ := g.1.1 (fun q => w (wq.mp q))
    have F1 : ∀ (c : Nat) (i : Int), ¬ (c = 0 ∧ c = 1) → σ1.I c i = σ.I c i := by
      intro c i q
      rw [pe]
    have F2 : ∀ (c : Nat) (i : Int), ¬ (c = 0 ∧ c = 1) → σ2.I c i = σ1.I c i := by
      intro c i q
      rw [ge]
    have F : ∀ (c : Nat) (i : Int), ¬ (c = 0 ∧ c = 1) → ¬ (c = 0 ∧ c = 1) → σ2.I c i = σ.I c i := fun c i a b => (F2 c i b).trans (F1 c i a)
    have hR : σ2.R = σ.R := g.2.1.1.trans SR.1
    have hS : σ2.sh = σ.sh := g.2.1.2.1.trans SR.2.1
    have hN : σ2.n = σ.n := g.2.1.2.2.trans SR.2.2
    refine ⟨gy.trans py.symm, r.Lay.sf (s1.tr s2), RK_cg hS hN (F 0 1 (by omega) (by omega)) (F 0 41 (by omega) (by omega)) (fun i => F 211 i (by omega) (by omega)) r.RK, ?_, ?_, ?_, ?_, ?_, ?_, ?_, ?_, ?_, ?_, ?_, ?_, ?_, ?_, ?_, ?_, ?_, ?_, ?_, ?_, ?_, ?_, ?_, ?_, ?_⟩
    · exact rTP_cg (fun c i h => F c i (by unfold fTP at h; omega) (by unfold fTP at h; omega)) r.TP
    · exact rFL_cg (fun c i h => F c i (by unfold fFL at h; omega) (by unfold fFL at h; omega)) r.FL
    · exact rVS_cg (fun c i h => F c i (by unfold fVS at h; omega) (by unfold fVS at h; omega)) r.VS
    · exact rOB_cg (fun c i h => F c i (by unfold fOB at h; omega) (by unfold fOB at h; omega)) r.OB
    · exact rVA_cg (fun c i h => F c i (by unfold fVA at h; omega) (by unfold fVA at h; omega)) r.VA
    · exact rBD_cg (fun c i h => F c i (by unfold fBD at h; omega) (by unfold fBD at h; omega)) r.BD
    · exact rTE_cg (fun c i h => F c i (by unfold fTE at h; omega) (by unfold fTE at h; omega)) r.TE
    · exact rPK_cg (fun c i h => F c i (by unfold fPK at h; omega) (by unfold fPK at h; omega)) r.PK
    · exact rUS_cg (fun c i h => F c i (by unfold fUS at h; omega) (by unfold fUS at h; omega)) r.US
    · exact rFO_cg (fun c i h => F c i (by unfold fFO at h; omega) (by unfold fFO at h; omega)) r.FO
    · exact rSH_cg (fun c i h => F c i (by unfold fSH at h; omega) (by unfold fSH at h; omega)) r.SH
    · exact rSW_cg (fun c i h => F c i (by unfold fSW at h; omega) (by unfold fSW at h; omega)) r.SW
    · exact rHI_cg (fun c i h => F c i (by unfold fHI at h; omega) (by unfold fHI at h; omega)) r.HI
    · exact rLN_cg (fun c i h => F c i (by unfold fLN at h; omega) (by unfold fLN at h; omega)) r.LN
    · exact rMK_cg (fun c i h => F c i (by unfold fMK at h; omega) (by unfold fMK at h; omega)) r.MK
    · exact rGR_cg (fun c i h => F c i (by unfold fGR at h; omega) (by unfold fGR at h; omega)) r.GR
    · exact rTT_cg (fun c i h => F c i (by unfold fTT at h; omega) (by unfold fTT at h; omega)) r.TT
    · exact rMT_cg (fun c i h => F c i (by unfold fMT at h; omega) (by unfold fMT at h; omega)) r.MT
    · exact rSC_cg (fun c i h => F c i (by unfold fSC at h; omega) (by unfold fSC at h; omega)) r.SC
    · exact rQU_cg (fun c i h => F c i (by unfold fQU at h; omega) (by unfold fQU at h; omega)) r.QU
    · exact rKQ_cg (fun c i h => F c i (by unfold fKQ at h; omega) (by unfold fKQ at h; omega)) r.KQ
    · exact rHQ_cg (fun c i h => F c i (by unfold fHQ at h; omega) (by unfold fHQ at h; omega)) r.HQ
    · exact rPP_cg (fun c i h => F c i (by unfold fPP at h; omega) (by unfold fPP at h; omega)) (by rw [hR]) (by rw [hR]) r.PP
    · exact rAN_cg (fun c i h => F c i (by unfold fAN at h; omega) (by unfold fAN at h; omega)) hR hS hN r.AN
    · exact rSE_cg r.SE

theorem op_histogram (hd : 30 ≤ d) : OP_histogram E d RR := by
  intro k σ hk r x1 y2 h1 h2
  have fl := r.FL
  have fl1 := fl.1
  have hi := r.HI
  have hi1 := hi.1
  have ob := r.OB
  have ob1 := ob.1
  have va := r.VA
  have bd := r.BD
  have te := r.TE
  have sc := SC_X r
  have wq : (((0 ≤ x1 ∧ x1 < σ.I 0 9) ∧ σ.I 577 x1 = (2 : Int)) ∧ 1 ≤ y2) ↔ (((0 ≤ x1 ∧ x1 < σ.I 0 9) ∧ σ.I 16 x1 = (2 : Int)) ∧ 1 ≤ y2) := by
    have key : 0 ≤ x1 ∧ x1 < σ.I 0 9 → σ.I 577 x1 = σ.I 16 x1 := fun q => (fl.2 x1 q.1 q.2).1.1.symm
    constructor
    · intro z
      have := key (by omega)
      omega
    · intro z
      have := key (by omega)
      omega
  unfold OPI
  refine v_ti (fun ti => ?_)
  by_cases w : ((0 ≤ x1 ∧ x1 < σ.I 0 9) ∧ σ.I 16 x1 = (2 : Int)) ∧ 1 ≤ y2
  · show OPI _ _ _ _ _ _ _
    refine OPI.mk (sp_X0_histogram (by omega) r.Lay h1 h2 fl1.2 hi1.2 (fun i a b => by have := (hi.2.1 i a b).2.1; omega) ob.2.2.2.1 sc bd.2.2.2.2.1 (fun v _ _ => ti_l ti (s_30 r.Lay) v)) (fun y σ1 p s1 => by
        have S : ∀ (c : Nat) (i : Int), 555 ≤ c → σ1.I c i = σ.I c i := fun c i h => p.2.2.2 c i (by unfold wsFx; omega)
        have S' : ∀ c : Nat, 555 ≤ c → σ1.I c = σ.I c := fun c h => funext fun i => S c i h
        have SR := p.2.2.1
        have scm : SCM σ1 (σ1.I 555 115) ≤ 6000 := by
          have e : SCM σ1 (σ1.I 555 115) = SCX σ (σ.I 0 70) := by
            unfold SCM SCX SCg
            rw [S' 637 (by omega), S' 596 (by omega), S 555 115 (by omega), ← hi1.1]
            refine smP_cg (fun _ _ _ => Iff.rfl) (fun i a b _ => ?_)
            have q := hi.2.1 i a b
            have o := ((ob.2.1 _ q.2.1.1 q.2.1.2).2.2 q.2.2).1
            rw [← q.1.1]
            exact o.2.2.2.2.symm
          rw [e]
          exact sc
        have obm : OB σ1 595 596 := by
          unfold OB
          rw [S' 595 (by omega), S' 596 (by omega)]
          exact ob.2.2.2.2.1
        exact sp_X9_histogram (by omega) (r.Lay.sf s1) h1 (by rw [S 555 27 (by omega), ← fl1.1]; exact fl1.2) (by rw [S 555 115 (by omega), ← hi1.1]; exact hi1.2) (fun i a b => by rw [S 555 115 (by omega), ← hi1.1] at b; rw [S 637 i (by omega)]; have := hi.2.1 i a b; omega) obm scm (bd_0_20_eq bd.2.1 (S' 587 (by omega))) (fun i j i0 i1 j0 j1 => by
          rw [S 555 115 (by omega), ← hi1.1] at i1
          rw [S' 637 (by omega), S' 596 (by omega)] at j1
          have q := hi.2.1 i i0 i1
          have o := ((ob.2.1 _ q.2.1.1 q.2.1.2).2.2 q.2.2).1
          obtain ⟨hv, e1, e2, e3⟩ := HV r i0 i1 j0 (by rw [o.2.2.2.2, q.1.1]; exact j1)
          rw [S' 637 (by omega), S' 595 (by omega), S' 582 (by omega), S' 583 (by omega), S' 579 (by omega), S' 577 (by omega), e1, e2]
          have dr := va.1.2.1
          have m1 := mono582 va fl hv.1 (show σ.I 42 (σ.I 189 i) + j ≤ σ.I 0 20 by omega) (Int.le_refl _)
          have m2 := VA_582 va fl (σ.I 42 (σ.I 189 i) + j) hv.1 (by omega)
          have m3 := VA_582 va fl (σ.I 42 (σ.I 189 i) + j + 1) (by omega) (by omega)
          have v7 := va.1.2.2.2
          refine ⟨by omega, fun a b => ?_, ti_l ti (s_583 r.Lay) _⟩
          have z := (va.2.2.1 _ hv.1 (show σ.I 42 (σ.I 189 i) + j < σ.I 0 20 by omega)).2.2
          have fx := fl.2 _ z.1.2.1 z.1.2.2
          have w := (z.2.2.2.2.1 (by rw [fx.1.1, z.1.1, b]; exact a)).1
          omega) h2) ?_
    intro y σ1 z σ2 p s1 g s2
    have S : ∀ (c : Nat) (i : Int), 555 ≤ c → σ1.I c i = σ.I c i := fun c i h => p.2.2.2 c i (by unfold wsFx; omega)
    have S' : ∀ c : Nat, 555 ≤ c → σ1.I c = σ.I c := fun c h => funext fun i => S c i h
    have SR := p.2.2.1
    rw [S 555 27 (by omega), S 577 x1 (by omega), ← fl1.1] at g
    obtain ⟨py, p80, pb, pX⟩ := p.1.2 w
    obtain ⟨gy, gM, gF, gb⟩ := g.1.2 (wq.mpr w)
    have p199 := p.2.1
    have gM' := GRM_cg (σ := σ) (fun c a b => S' c a) gM
    have gg := GR_h r ti w.1.1.1 w.1.1.2 w.1.2 (by have := w.2; omega) pX gM' gF
    have pF := p.2.2.2
    have gK := g.2
    have F1 : ∀ (c : Nat) (i : Int), ¬ ((196 ≤ c ∧ c ≤ 200) ∨ (c = 0 ∧ (i = 79 ∨ i = 80))) → σ1.I c i = σ.I c i := by
      intro c i q
      exact pF c i (by unfold wsFx; omega)
    have F2 : ∀ (c : Nat) (i : Int), ¬ ((656 ≤ c ∧ c ≤ 660) ∨ (c = 555 ∧ (i = 135 ∨ i = 141))) → σ2.I c i = σ1.I c i := by
      intro c i q
      exact gK.2 c i (by unfold wsGa; omega)
    have F : ∀ (c : Nat) (i : Int), ¬ ((196 ≤ c ∧ c ≤ 200) ∨ (c = 0 ∧ (i = 79 ∨ i = 80))) → ¬ ((656 ≤ c ∧ c ≤ 660) ∨ (c = 555 ∧ (i = 135 ∨ i = 141))) → σ2.I c i = σ.I c i := fun c i a b => (F2 c i b).trans (F1 c i a)
    have hR : σ2.R = σ.R := g.2.1.1.trans SR.1
    have hS : σ2.sh = σ.sh := g.2.1.2.1.trans SR.2.1
    have hN : σ2.n = σ.n := g.2.1.2.2.trans SR.2.2
    have A79 : σ2.I 0 79 = σ1.I 0 79 := F2 0 79 (by omega)
    have A80 : σ2.I 0 80 = 0 := (F2 0 80 (by omega)).trans p80
    have n79 : σ2.I 0 79 = σ2.I 555 135 := by rw [A79]; exact gg.1
    have B141 : σ2.I 555 141 = 0 := by unfold FCT at gF; omega
    refine ⟨by rw [gy, py]; exact gg.1.symm, r.Lay.sf (s1.tr s2), RK_cg hS hN (F 0 1 (by omega) (by omega)) (F 0 41 (by omega) (by omega)) (fun i => F 211 i (by omega) (by omega)) r.RK, ?_, ?_, ?_, ?_, ?_, ?_, ?_, ?_, ?_, ?_, ?_, ?_, ?_, ?_, ?_, ?_, ?_, ?_, ?_, ?_, ?_, ?_, ?_, ?_, ?_⟩
    · exact rTP_cg (fun c i h => F c i (by unfold fTP at h; omega) (by unfold fTP at h; omega)) r.TP
    · exact rFL_cg (fun c i h => F c i (by unfold fFL at h; omega) (by unfold fFL at h; omega)) r.FL
    · exact rVS_cg (fun c i h => F c i (by unfold fVS at h; omega) (by unfold fVS at h; omega)) r.VS
    · exact rOB_cg (fun c i h => F c i (by unfold fOB at h; omega) (by unfold fOB at h; omega)) r.OB
    · exact rVA_cg (fun c i h => F c i (by unfold fVA at h; omega) (by unfold fVA at h; omega)) r.VA
    · exact rBD_cg (fun c i h => F c i (by unfold fBD at h; omega) (by unfold fBD at h; omega)) r.BD
    · exact rTE_cg (fun c i h => F c i (by unfold fTE at h; omega) (by unfold fTE at h; omega)) r.TE
    · exact rPK_cg (fun c i h => F c i (by unfold fPK at h; omega) (by unfold fPK at h; omega)) r.PK
    · exact rUS_cg (fun c i h => F c i (by unfold fUS at h; omega) (by unfold fUS at h; omega)) r.US
    · exact rFO_cg (fun c i h => F c i (by unfold fFO at h; omega) (by unfold fFO at h; omega)) r.FO
    · exact rSH_cg (fun c i h => F c i (by unfold fSH at h; omega) (by unfold fSH at h; omega)) r.SH
    · exact rSW_cg (fun c i h => F c i (by unfold fSW at h; omega) (by unfold fSW at h; omega)) r.SW
    · exact rHI_cg (fun c i h => F c i (by unfold fHI at h; omega) (by unfold fHI at h; omega)) r.HI
    · exact rLN_cg (fun c i h => F c i (by unfold fLN at h; omega) (by unfold fLN at h; omega)) r.LN
    · exact rMK_cg (fun c i h => F c i (by unfold fMK at h; omega) (by unfold fMK at h; omega)) r.MK
    · refine ⟨⟨n79, by rw [A79]; exact pb.1, by rw [A79]; exact pb.2⟩, fun _ => ⟨by rw [A80, B141], Or.inl A80⟩, fun i i0 i1 => ?_⟩
      rw [A79] at i1
      obtain ⟨q1, q2⟩ := gg.2 i i0 i1
      rw [F2 197 i (by omega), F2 198 i (by omega), F2 196 i (by omega), A80]
      exact ⟨q1, fun _ => q2, fun e => by omega⟩
    · exact rTT_cg (fun c i h => F c i (by unfold fTT at h; omega) (by unfold fTT at h; omega)) r.TT
    · exact rMT_cg (fun c i h => F c i (by unfold fMT at h; omega) (by unfold fMT at h; omega)) r.MT
    · exact SC_199 r.SC (fun c i q q1 => F c i (by unfold fSC at q; omega) (by unfold fSC at q; omega)) (fun t a b => by rw [F2 199 t (by omega), p199]; exact r.SC.2.2.1 t a b)
    · exact rQU_cg (fun c i h => F c i (by unfold fQU at h; omega) (by unfold fQU at h; omega)) r.QU
    · exact rKQ_cg (fun c i h => F c i (by unfold fKQ at h; omega) (by unfold fKQ at h; omega)) r.KQ
    · exact rHQ_cg (fun c i h => F c i (by unfold fHQ at h; omega) (by unfold fHQ at h; omega)) r.HQ
    · exact rPP_cg (fun c i h => F c i (by unfold fPP at h; omega) (by unfold fPP at h; omega)) (by rw [hR]) (by rw [hR]) r.PP
    · exact rAN_cg (fun c i h => F c i (by unfold fAN at h; omega) (by unfold fAN at h; omega)) hR hS hN r.AN
    · exact rSE_cg r.SE
  · show OPI _ _ _ _ _ _ _
    refine OPI.mk (sp_X0_histogram (by omega) r.Lay h1 h2 fl1.2 hi1.2 (fun i a b => by have := (hi.2.1 i a b).2.1; omega) ob.2.2.2.1 sc bd.2.2.2.2.1 (fun v _ _ => ti_l ti (s_30 r.Lay) v)) (fun y σ1 p s1 => by
        have S : ∀ (c : Nat) (i : Int), 555 ≤ c → σ1.I c i = σ.I c i := fun c i h => p.2.2.2 c i (by unfold wsFx; omega)
        have S' : ∀ c : Nat, 555 ≤ c → σ1.I c = σ.I c := fun c h => funext fun i => S c i h
        have SR := p.2.2.1
        have scm : SCM σ1 (σ1.I 555 115) ≤ 6000 := by
          have e : SCM σ1 (σ1.I 555 115) = SCX σ (σ.I 0 70) := by
            unfold SCM SCX SCg
            rw [S' 637 (by omega), S' 596 (by omega), S 555 115 (by omega), ← hi1.1]
            refine smP_cg (fun _ _ _ => Iff.rfl) (fun i a b _ => ?_)
            have q := hi.2.1 i a b
            have o := ((ob.2.1 _ q.2.1.1 q.2.1.2).2.2 q.2.2).1
            rw [← q.1.1]
            exact o.2.2.2.2.symm
          rw [e]
          exact sc
        have obm : OB σ1 595 596 := by
          unfold OB
          rw [S' 595 (by omega), S' 596 (by omega)]
          exact ob.2.2.2.2.1
        exact sp_X9_histogram (by omega) (r.Lay.sf s1) h1 (by rw [S 555 27 (by omega), ← fl1.1]; exact fl1.2) (by rw [S 555 115 (by omega), ← hi1.1]; exact hi1.2) (fun i a b => by rw [S 555 115 (by omega), ← hi1.1] at b; rw [S 637 i (by omega)]; have := hi.2.1 i a b; omega) obm scm (bd_0_20_eq bd.2.1 (S' 587 (by omega))) (fun i j i0 i1 j0 j1 => by
          rw [S 555 115 (by omega), ← hi1.1] at i1
          rw [S' 637 (by omega), S' 596 (by omega)] at j1
          have q := hi.2.1 i i0 i1
          have o := ((ob.2.1 _ q.2.1.1 q.2.1.2).2.2 q.2.2).1
          obtain ⟨hv, e1, e2, e3⟩ := HV r i0 i1 j0 (by rw [o.2.2.2.2, q.1.1]; exact j1)
          rw [S' 637 (by omega), S' 595 (by omega), S' 582 (by omega), S' 583 (by omega), S' 579 (by omega), S' 577 (by omega), e1, e2]
          have dr := va.1.2.1
          have m1 := mono582 va fl hv.1 (show σ.I 42 (σ.I 189 i) + j ≤ σ.I 0 20 by omega) (Int.le_refl _)
          have m2 := VA_582 va fl (σ.I 42 (σ.I 189 i) + j) hv.1 (by omega)
          have m3 := VA_582 va fl (σ.I 42 (σ.I 189 i) + j + 1) (by omega) (by omega)
          have v7 := va.1.2.2.2
          refine ⟨by omega, fun a b => ?_, ti_l ti (s_583 r.Lay) _⟩
          have z := (va.2.2.1 _ hv.1 (show σ.I 42 (σ.I 189 i) + j < σ.I 0 20 by omega)).2.2
          have fx := fl.2 _ z.1.2.1 z.1.2.2
          have w := (z.2.2.2.2.1 (by rw [fx.1.1, z.1.1, b]; exact a)).1
          omega) h2) ?_
    intro y σ1 z σ2 p s1 g s2
    have S : ∀ (c : Nat) (i : Int), 555 ≤ c → σ1.I c i = σ.I c i := fun c i h => p.2.2.2 c i (by unfold wsFx; omega)
    have S' : ∀ c : Nat, 555 ≤ c → σ1.I c = σ.I c := fun c h => funext fun i => S c i h
    have SR := p.2.2.1
    rw [S 555 27 (by omega), S 577 x1 (by omega), ← fl1.1] at g
    obtain ⟨py, pe⟩ := p.1.1 w
    obtain ⟨gy, ge⟩ := g.1.1 (fun q => w (wq.mp q))
    have F1 : ∀ (c : Nat) (i : Int), ¬ (c = 0 ∧ c = 1) → σ1.I c i = σ.I c i := by
      intro c i q
      rw [pe]
    have F2 : ∀ (c : Nat) (i : Int), ¬ (c = 0 ∧ c = 1) → σ2.I c i = σ1.I c i := by
      intro c i q
      rw [ge]
    have F : ∀ (c : Nat) (i : Int), ¬ (c = 0 ∧ c = 1) → ¬ (c = 0 ∧ c = 1) → σ2.I c i = σ.I c i := fun c i a b => (F2 c i b).trans (F1 c i a)
    have hR : σ2.R = σ.R := g.2.1.1.trans SR.1
    have hS : σ2.sh = σ.sh := g.2.1.2.1.trans SR.2.1
    have hN : σ2.n = σ.n := g.2.1.2.2.trans SR.2.2
    refine ⟨gy.trans py.symm, r.Lay.sf (s1.tr s2), RK_cg hS hN (F 0 1 (by omega) (by omega)) (F 0 41 (by omega) (by omega)) (fun i => F 211 i (by omega) (by omega)) r.RK, ?_, ?_, ?_, ?_, ?_, ?_, ?_, ?_, ?_, ?_, ?_, ?_, ?_, ?_, ?_, ?_, ?_, ?_, ?_, ?_, ?_, ?_, ?_, ?_, ?_⟩
    · exact rTP_cg (fun c i h => F c i (by unfold fTP at h; omega) (by unfold fTP at h; omega)) r.TP
    · exact rFL_cg (fun c i h => F c i (by unfold fFL at h; omega) (by unfold fFL at h; omega)) r.FL
    · exact rVS_cg (fun c i h => F c i (by unfold fVS at h; omega) (by unfold fVS at h; omega)) r.VS
    · exact rOB_cg (fun c i h => F c i (by unfold fOB at h; omega) (by unfold fOB at h; omega)) r.OB
    · exact rVA_cg (fun c i h => F c i (by unfold fVA at h; omega) (by unfold fVA at h; omega)) r.VA
    · exact rBD_cg (fun c i h => F c i (by unfold fBD at h; omega) (by unfold fBD at h; omega)) r.BD
    · exact rTE_cg (fun c i h => F c i (by unfold fTE at h; omega) (by unfold fTE at h; omega)) r.TE
    · exact rPK_cg (fun c i h => F c i (by unfold fPK at h; omega) (by unfold fPK at h; omega)) r.PK
    · exact rUS_cg (fun c i h => F c i (by unfold fUS at h; omega) (by unfold fUS at h; omega)) r.US
    · exact rFO_cg (fun c i h => F c i (by unfold fFO at h; omega) (by unfold fFO at h; omega)) r.FO
    · exact rSH_cg (fun c i h => F c i (by unfold fSH at h; omega) (by unfold fSH at h; omega)) r.SH
    · exact rSW_cg (fun c i h => F c i (by unfold fSW at h; omega) (by unfold fSW at h; omega)) r.SW
    · exact rHI_cg (fun c i h => F c i (by unfold fHI at h; omega) (by unfold fHI at h; omega)) r.HI
    · exact rLN_cg (fun c i h => F c i (by unfold fLN at h; omega) (by unfold fLN at h; omega)) r.LN
    · exact rMK_cg (fun c i h => F c i (by unfold fMK at h; omega) (by unfold fMK at h; omega)) r.MK
    · exact rGR_cg (fun c i h => F c i (by unfold fGR at h; omega) (by unfold fGR at h; omega)) r.GR
    · exact rTT_cg (fun c i h => F c i (by unfold fTT at h; omega) (by unfold fTT at h; omega)) r.TT
    · exact rMT_cg (fun c i h => F c i (by unfold fMT at h; omega) (by unfold fMT at h; omega)) r.MT
    · exact rSC_cg (fun c i h => F c i (by unfold fSC at h; omega) (by unfold fSC at h; omega)) r.SC
    · exact rQU_cg (fun c i h => F c i (by unfold fQU at h; omega) (by unfold fQU at h; omega)) r.QU
    · exact rKQ_cg (fun c i h => F c i (by unfold fKQ at h; omega) (by unfold fKQ at h; omega)) r.KQ
    · exact rHQ_cg (fun c i h => F c i (by unfold fHQ at h; omega) (by unfold fHQ at h; omega)) r.HQ
    · exact rPP_cg (fun c i h => F c i (by unfold fPP at h; omega) (by unfold fPP at h; omega)) (by rw [hR]) (by rw [hR]) r.PP
    · exact rAN_cg (fun c i h => F c i (by unfold fAN at h; omega) (by unfold fAN at h; omega)) hR hS hN r.AN
    · exact rSE_cg r.SE
end OPG

