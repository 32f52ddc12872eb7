/-! contracts: printed by tools/mk.py out of s98zzzzzl_lfl.py -/
set_option maxRecDepth 100000
set_option maxHeartbeats 2000000
/-! leaves of a question, in both: plain -/
theorem dcN_eq {Q S : Int → Prop} {ob : Int → Int} {N : Nat} : ∀ n : Nat, (∀ i, 0 ≤ i → i < (n : Int) → Q i → 0 ≤ ob i ∧ ob i < (N : Int)) → (∀ i j, 0 ≤ i → i ≤ j → j < (n : Int) → Q i → Q j → ob i ≤ ob j) → (dcN Q S ob n).1 = cn (fun k => S k ∧ ∃ i, (0 ≤ i ∧ i < (n : Int)) ∧ Q i ∧ ob i = k) N ∧ (∀ i, 0 ≤ i → i < (n : Int) → Q i → S (ob i) → ob i ≤ (dcN Q S ob n).2) ∧ ((dcN Q S ob n).2 = -1 ∨ ∃ i, (0 ≤ i ∧ i < (n : Int)) ∧ Q i ∧ S (ob i) ∧ ob i = (dcN Q S ob n).2) := by
  intro n
  induction n with
  | zero =>
    intro _ _
    refine ⟨?_, fun i a b => by omega, Or.inl rfl⟩
    show (0 : Int) = _
    exact (cn_no N (fun j _ _ q => by obtain ⟨-, i, w, -⟩ := q; omega)).symm
  | succ n ih =>
    intro h1 h2
    obtain ⟨i1, i2, i3⟩ := ih (fun i a b c => h1 i a (by omega) c) (fun i j a b c => h2 i j a b (by omega))
    by_cases q : Q n ∧ S (ob n) ∧ ob n ≠ (dcN Q S ob n).2
    · have e : dcN Q S ob (n + 1) = ((dcN Q S ob n).1 + 1, ob n) := by
        show (if zb (Q n ∧ S (ob n) ∧ ob n ≠ (dcN Q S ob n).2) = 1 then _ else _) = _
        rw [if_pos (zb_t q)]
      rw [e]
      have o := h1 n (by omega) (by omega) q.1
      refine ⟨?_, fun i a b c _ => h2 i n a (by omega) (by omega) c q.1, Or.inr ⟨n, by omega, q.1, q.2.1, rfl⟩⟩
      have c := cn_one (p := fun k => S k ∧ ∃ i, (0 ≤ i ∧ i < (n : Int)) ∧ Q i ∧ ob i = k) (q := fun k => S k ∧ ∃ i, (0 ≤ i ∧ i < ((n + 1 : Nat) : Int)) ∧ Q i ∧ ob i = k) (h := ob n) (fun k => by
        constructor
        · rintro ⟨s, i, w, a, b⟩
          by_cases z : i < (n : Int)
          · exact Or.inl ⟨s, i, ⟨w.1, z⟩, a, b⟩
          · right
            rw [← b, show i = (n : Int) by omega]
        · rintro (⟨s, i, w, a, b⟩ | z)
          · exact ⟨s, i, by omega, a, b⟩
          · exact ⟨by rw [z]; exact q.2.1, n, by omega, q.1, z.symm⟩) (fun z => by
        obtain ⟨s, i, w, a, b⟩ := z
        have u := i2 i w.1 w.2 a (by rw [b]; exact s)
        rcases i3 with y | ⟨j, y1, y2, y3, y4⟩
        · omega
        · have := h2 j n y1.1 (by omega) (by omega) y2 q.1
          exact q.2.2 (by omega)) o.1 N
      rw [if_pos o.2] at c
      show (dcN Q S ob n).1 + 1 = _
      rw [c, i1]
    · have e : dcN Q S ob (n + 1) = dcN Q S ob n := by
        show (if zb (Q n ∧ S (ob n) ∧ ob n ≠ (dcN Q S ob n).2) = 1 then _ else _) = _
        rw [if_neg (by rw [zb_f q]; omega)]
      rw [e]
      have lst : Q n → S (ob n) → ob n = (dcN Q S ob n).2 := fun a b => Classical.byContradiction fun c => q ⟨a, b, c⟩
      refine ⟨?_, fun i a b c d => ?_, ?_⟩
      · rw [i1]
        refine cn_cg (fun k k0 k1 => ⟨?_, ?_⟩)
        · rintro ⟨s, i, w, a, b⟩
          exact ⟨s, i, by omega, a, b⟩
        · rintro ⟨s, i, w, a, b⟩
          by_cases z : i < (n : Int)
          · exact ⟨s, i, ⟨w.1, z⟩, a, b⟩
          · have z : i = (n : Int) := by omega
            subst z
            have u := lst a (by rw [b]; exact s)
            rcases i3 with y | ⟨j, y1, y2, y3, y4⟩
            · omega
            · exact ⟨s, j, y1, y2, by omega⟩
      · by_cases z : i < (n : Int)
        · exact i2 i a z c d
        · have z : i = (n : Int) := by omega
          subst z
          have u := lst c d
          omega
      · rcases i3 with y | ⟨j, y1, y2, y3⟩
        · exact Or.inl y
        · exact Or.inr ⟨j, by omega, y2, y3⟩
theorem dc_eq {Q S : Int → Prop} {ob : Int → Int} {N n : Int} (hN : 0 ≤ N) (hn : 0 ≤ n) (h1 : ∀ i, 0 ≤ i → i < n → Q i → 0 ≤ ob i ∧ ob i < N) (h2 : ∀ i j, 0 ≤ i → i ≤ j → j < n → Q i → Q j → ob i ≤ ob j) : (dc Q S ob n).1 = cn (fun k => S k ∧ ∃ i, (0 ≤ i ∧ i < n) ∧ Q i ∧ ob i = k) N := by
  have a := (dcN_eq (Q := Q) (S := S) (ob := ob) (N := N.toNat) n.toNat (fun i x y z => by have := h1 i x (by omega) z; omega) (fun i j x y z => h2 i j x y (by omega))).1
  rw [Int.toNat_of_nonneg hN, Int.toNat_of_nonneg hn] at a
  exact a
/-- a term is found by its bytes alone -/
theorem tm_is {σ : Sto} {f i n t : Int} {A : Int → Int} (tu : TU σ) (t0 : 0 ≤ t) (t1 : t < σ.I 18 7) (h : tQ σ f A i n t) : ls (tQ σ f A i n) (σ.I 18 7) = t := by
  refine ls_is t0 t1 h (fun s a b q => tu t s t0 a b ?_)
  refine ⟨h.1.1.trans q.1.1.symm, h.1.2.trans q.1.2.symm, fun k k0 k1 => ?_⟩
  have n1 : k < n := by have := q.1.2; omega
  have u : σ.I 19 (20 * t + k) = A (i + k) := h.2 k k0 n1
  have w : σ.I 19 (20 * s + k) = A (i + k) := q.2 k k0 n1
  rw [u, w]
theorem tm_eq {σ : Sto} {f i n t : Int} {A : Int → Int} (tu : TU σ) (t0 : 0 ≤ t) (t1 : t < σ.I 18 7) : (0 ≤ ls (tQ σ f A i n) (σ.I 18 7) ∧ ls (tQ σ f A i n) (σ.I 18 7) = t) ↔ tQ σ f A i n t := by
  constructor
  · rintro ⟨a, b⟩
    rcases ls_in (tQ σ f A i n) (σ.I 18 7) with z | z
    · omega
    · rw [b] at z; exact z.2.2
  · intro h
    have := tm_is tu t0 t1 h
    omega
theorem smP_itv {g : Int → Int} {a : Int} (a0 : 0 ≤ a) : ∀ m : Nat, smP (fun v => a ≤ v ∧ v < a + m) g (a + m) = smP (fun _ => True) (fun j => g (a + j)) m := by
  intro m
  induction m with
  | zero =>
    rw [smP_0 (fun _ => True) _ _ (show ((0 : Nat) : Int) ≤ 0 by omega)]
    exact smP_z (by omega) (fun k _ _ q => by omega)
  | succ m ih =>
    rw [smP_t (fun _ => True) _ (m : Int) _ (by omega) (by omega) trivial, smP_t _ g (a + m) _ (by omega) (by omega) (by omega), ← ih]
    congr 1
    exact smP_cg (fun k k0 k1 => by constructor <;> intro z <;> omega) (fun _ _ _ _ => rfl)
section LFL
variable {σ : Sto}
/-- values of an object, by the object -/
theorem sm_own (pk : rPK σ) {k : Int} (k0 : 0 ≤ k) (k1 : k < σ.I 0 39) (g : Int → Int) : smP (fun v => σ.I 27 v = k) g (σ.I 0 31) = smP (fun _ => True) (fun j => g (σ.I 42 k + j)) (σ.I 43 k) := by
  have lo := pk.1
  have b := ofs_b lo k0
  rw [ofs_lt k1] at b
  have lk := lo.2.2.2 k k0 k1
  have b2 := ofs_b lo (show 0 ≤ k + 1 by omega)
  have e : smP (fun v => σ.I 27 v = k) g (σ.I 0 31) = smP (fun v => σ.I 42 k ≤ v ∧ v < σ.I 42 k + σ.I 43 k) g (σ.I 0 31) := smP_cg (fun v v0 v1 => by
    have w := own pk v v0 v1
    constructor
    · intro z; rw [z] at w; exact w.2
    · intro z
      have := (pk.2.1 k k0 k1).2 (v - σ.I 42 k) (by omega) (by omega)
      rw [show σ.I 42 k + (v - σ.I 42 k) = v by omega] at this
      exact this) (fun _ _ _ _ => rfl)
  have s := smP_itv (g := g) b.1 (σ.I 43 k).toNat
  rw [Int.toNat_of_nonneg lk.1] at s
  rw [e, smP_ex (n := σ.I 42 k + σ.I 43 k) (by omega) (by omega) (fun v v0 v1 q => by omega), s]
/-- an object that is held: its values are the same ones -/
theorem ob_l (ob : rOB σ) (pk : rPK σ) {k : Int} (k0 : 0 ≤ k) (k1 : k < σ.I 0 39) (h : σ.I 47 k = 1) : (σ.I 42 k = σ.I 595 k ∧ σ.I 43 k = σ.I 596 k) ∧ 0 ≤ σ.I 42 k ∧ 0 ≤ σ.I 43 k ∧ σ.I 42 k + σ.I 43 k ≤ σ.I 0 31 := by
  have w := ((ob.2.1 k k0 k1).2.2 h).1
  have lo := pk.1
  have b := ofs_b lo k0
  rw [ofs_lt k1] at b
  have lk := lo.2.2.2 k k0 k1
  have b2 := ofs_b lo (show 0 ≤ k + 1 by omega)
  exact ⟨⟨w.2.2.2.1, w.2.2.2.2⟩, b.1, lk.1, by omega⟩
theorem tkm (va : rVA σ) (te : rTE σ) {f v j q : Int} {l : TL} (v0 : 0 ≤ v) (v1 : v < σ.I 0 20) (f0 : σ.I 16 (σ.I 26 v) = 0) (fv : σ.I 26 v = f) (j0 : 0 ≤ j) (j1 : j < σ.I 32 v) : (0 ≤ tmX σ f l q ∧ tmX σ f l q = σ.I 36 (σ.I 31 v + j)) ↔ mT σ (l.2.2.1 q) 0 (l.2.1 q) (σ.I 582 v + j) := by
  have z := (va.2.2.1 v v0 v1).2.2
  have t := (z.2.2.2.1 f0).2 j j0 j1
  obtain ⟨⟨t1, t2, t3, t4⟩, -, -⟩ := t
  have u := tm_eq (σ := σ) (f := f) (i := 0) (n := l.2.1 q) (A := l.2.2.1 q) te.1.2 t1.1 t1.2
  refine u.trans ?_
  constructor
  · rintro ⟨⟨a, b⟩, c⟩
    refine ⟨by rw [← t3]; exact b, fun k k0 k1 => ?_⟩
    have w : σ.I 19 (20 * σ.I 36 (σ.I 31 v + j) + k) = l.2.2.1 q (0 + k) := c k k0 k1
    show σ.I 586 (20 * (σ.I 582 v + j) + k) = l.2.2.1 q (0 + k)
    rw [← t4 k k0 (by rw [← t3, b]; exact k1)]
    exact w
  · rintro ⟨a, c⟩
    refine ⟨⟨by rw [t2]; exact fv, by rw [t3]; exact a⟩, fun k k0 k1 => ?_⟩
    have w : σ.I 586 (20 * (σ.I 582 v + j) + k) = l.2.2.1 q (0 + k) := c k k0 k1
    show σ.I 19 (20 * σ.I 36 (σ.I 31 v + j) + k) = l.2.2.1 q (0 + k)
    rw [t4 k k0 (by rw [a]; exact k1)]
    exact w
theorem tc_t (va : rVA σ) {v : Int} (v0 : 0 ≤ v) (v1 : v < σ.I 0 20) (f0 : σ.I 16 (σ.I 26 v) = 0) : tcM σ v = σ.I 32 v := by
  have z := (va.2.2.1 v v0 v1).2.2
  have := (z.2.2.2.1 f0).1
  unfold tcM
  omega
theorem sqVL (va : rVA σ) (te : rTE σ) {f v p x : Int} {l : TL} (v0 : 0 ≤ v) (v1 : v < σ.I 0 20) (f0 : σ.I 16 f = 0) (fv : σ.I 26 v = f) : sqV σ f l v p x ↔ sqL σ l (mL l) v p x := by
  have f0' : σ.I 16 (σ.I 26 v) = 0 := by rw [fv]; exact f0
  have z := (va.2.2.1 v v0 v1).2.2
  unfold sqV sqL lkL
  rw [tc_t va v0 v1 f0']
  constructor
  · rintro ⟨j, j0, j1, e, q, q0, q1, c, d⟩
    have t := (z.2.2.2.1 f0').2 j j0 j1
    exact ⟨j, j0, j1, by rw [← t.2.1.1]; exact e, q, q0, q1, c, (tkm va te v0 v1 f0' fv j0 j1).mp d⟩
  · rintro ⟨j, j0, j1, e, q, q0, q1, c, d⟩
    have t := (z.2.2.2.1 f0').2 j j0 j1
    exact ⟨j, j0, j1, by rw [t.2.1.1]; exact e, q, q0, q1, c, (tkm va te v0 v1 f0' fv j0 j1).mpr d⟩
theorem mtVL (va : rVA σ) (te : rTE σ) {f v sl : Int} {l : TL} (v0 : 0 ≤ v) (v1 : v < σ.I 0 20) (f0 : σ.I 16 f = 0) (fv : σ.I 26 v = f) : mtV σ f l sl v = mtL σ l sl v := by
  unfold mtV mtL
  rw [show sqV σ f l v = sqL σ l (mL l) v from funext fun p => funext fun x => propext (sqVL va te v0 v1 f0 fv)]
theorem mtV_z (va : rVA σ) (fl : rFL σ) {f v sl : Int} {l : TL} (v0 : 0 ≤ v) (v1 : v < σ.I 0 20) (fv : σ.I 26 v ≠ f) : mtV σ f l sl v = 0 := by
  have z := (va.2.2.1 v v0 v1).2.2
  unfold mtV mtc
  refine cn_no (p := fun x => sqV σ f l v 0 x ∧ mAt (sqV σ f l v) (pPl l.2.2.2.2.2 l.1) (nL l) sl x) 500 (fun y _ _ q => ?_)
  obtain ⟨j, j0, j1, -, q, q0, q1, -, q2, q3⟩ := q.1
  have g := (fl.2 (σ.I 26 v) z.1.2.1 z.1.2.2).2.1
  by_cases c0 : σ.I 16 (σ.I 26 v) = 0
  · have t := (z.2.2.2.1 c0).2 j j0 j1
    rcases ls_in (tQ σ f (l.2.2.1 q) 0 (l.2.1 q)) (σ.I 18 7) with c | ⟨-, -, c⟩
    · have : tmX σ f l q = ls (tQ σ f (l.2.2.1 q) 0 (l.2.1 q)) (σ.I 18 7) := rfl
      omega
    · have c1 := c.1.1
      have e : ls (tQ σ f (l.2.2.1 q) 0 (l.2.1 q)) (σ.I 18 7) = σ.I 36 (σ.I 31 v + j) := q3
      rw [e, t.1.2.1] at c1
      exact fv c1
  · by_cases c1 : σ.I 16 (σ.I 26 v) = 1
    · have := (z.2.2.2.2.1 c1).2.1; omega
    · have := (z.2.2.2.2.2.1 (by omega)).2.1; omega
/-- how often an object has a text -/
theorem fo_cl (va : rVA σ) (fl : rFL σ) (te : rTE σ) (ob : rOB σ) (pk : rPK σ) {f sl k : Int} {l : TL} (f0 : σ.I 16 f = 0) (f2 : σ.I 602 f = 1) (k0 : 0 ≤ k) (k1 : k < σ.I 0 39) (h : σ.I 47 k = 1) : smP (fun v => σ.I 27 v = k) (mtV σ f l sl) (σ.I 0 31) = cL σ f l sl k (σ.I 596 k) := by
  have w := ob_l ob pk k0 k1 h
  have dr := va.1.2.1
  rw [sm_own pk k0 k1]
  unfold cL
  rw [← w.1.1, ← w.1.2]
  have e := smP_cz (p := fun j => σ.I 26 (σ.I 42 k + j) = f) (q := fun _ => True) (g := fun j => mtV σ f l sl (σ.I 42 k + j)) (σ.I 43 k).toNat (fun j j0 j1 => ⟨fun _ => trivial, fun _ q => mtV_z va fl (by omega) (by omega) q⟩)
  rw [Int.toNat_of_nonneg w.2.2.1] at e
  rw [← e]
  refine smP_cg (fun j j0 j1 => ?_) (fun j j0 j1 q => mtVL va te (by omega) (by omega) f0 q)
  have z := (va.2.2.1 (σ.I 42 k + j) (by omega) (by omega)).2.2.1.1
  unfold mV
  rw [← z]
  exact ⟨fun q => ⟨q, f2⟩, fun q => q.1⟩
/-- an object has a field -/
theorem hx_l (va : rVA σ) (ob : rOB σ) (pk : rPK σ) {f k : Int} (f2 : σ.I 602 f = 1) (k0 : 0 ≤ k) (k1 : k < σ.I 0 39) (h : σ.I 47 k = 1) : hxV σ f k ↔ mHV σ f k := by
  have w := ob_l ob pk k0 k1 h
  have dr := va.1.2.1
  unfold hxV mHV qvX mV
  rw [← w.1.1, ← w.1.2]
  constructor
  · rintro ⟨j, j0, j1, e⟩
    exact ⟨j, j0, j1, by rw [← (va.2.2.1 (σ.I 42 k + j) (by omega) (by omega)).2.2.1.1]; exact e, f2⟩
  · rintro ⟨j, j0, j1, e, _⟩
    exact ⟨j, j0, j1, by show σ.I 26 (σ.I 42 k + j) = f; rw [(va.2.2.1 (σ.I 42 k + j) (by omega) (by omega)).2.2.1.1]; exact e⟩
theorem to_l (va : rVA σ) (ob : rOB σ) (pk : rPK σ) {f k : Int} (f0 : σ.I 16 f = 0) (f2 : σ.I 602 f = 1) (k0 : 0 ≤ k) (k1 : k < σ.I 0 39) (h : σ.I 47 k = 1) : xTO σ f k = mTO σ f k := by
  have w := ob_l ob pk k0 k1 h
  have dr := va.1.2.1
  unfold xTO mTO
  rw [← w.1.1, ← w.1.2]
  refine smP_cg (fun j j0 j1 => ?_) (fun j j0 j1 q => ?_)
  · unfold mV
    rw [← (va.2.2.1 (σ.I 42 k + j) (by omega) (by omega)).2.2.1.1]
    exact ⟨fun q => ⟨q, f2⟩, fun q => q.1⟩
  · exact (tc_t va (by omega) (by omega) (by rw [q]; exact f0)).symm
end LFL

