/-! contracts: printed by tools/mk.py out of s98zzzzzj_pre.py -/
set_option maxRecDepth 100000
set_option maxHeartbeats 2000000
/-! what a search asks for, out of the relation -/
theorem cn_itv {a m : Int} (a0 : 0 ≤ a) (m0 : 0 ≤ m) : ∀ n : Nat, cn (fun v => a ≤ v ∧ v < a + m) n ≤ m ∧ ((n : Int) ≤ a → cn (fun v => a ≤ v ∧ v < a + m) n = 0) ∧ (a ≤ (n : Int) → (n : Int) ≤ a + m → cn (fun v => a ≤ v ∧ v < a + m) n = n - a) := by
  intro n
  induction n with
  | zero => rw [cn_0 _ _ (by omega)]; exact ⟨m0, fun _ => rfl, fun h _ => by omega⟩
  | succ n ih =>
    rw [cn_s _ (n : Int) _ (by omega) (by omega)]
    by_cases q : a ≤ (n : Int) ∧ (n : Int) < a + m
    · rw [zb_t q]
      have := ih.2.2 q.1 (by omega)
      exact ⟨by omega, fun h => by omega, fun h h2 => by omega⟩
    · rw [zb_f q]
      refine ⟨by omega, fun h => by have := ih.2.1 (by omega); omega, fun h h2 => ?_⟩
      by_cases c : (n : Int) < a
      · have := ih.2.1 (by omega); omega
      · omega
/-- whose value it is -/
theorem own {σ : Sto} (pk : rPK σ) (v : Int) (v0 : 0 ≤ v) (v1 : v < σ.I 0 31) : (0 ≤ σ.I 27 v ∧ σ.I 27 v < σ.I 0 39) ∧ σ.I 42 (σ.I 27 v) ≤ v ∧ v < σ.I 42 (σ.I 27 v) + σ.I 43 (σ.I 27 v) := by
  have lo := pk.1
  have key : ∀ m : Nat, (m : Int) ≤ σ.I 0 39 → v < ofsX σ m → ∃ k, (0 ≤ k ∧ k < σ.I 0 39) ∧ σ.I 42 k ≤ v ∧ v < σ.I 42 k + σ.I 43 k := by
    intro m
    induction m with
    | zero => intro _ e; rw [show ofsX σ ((0 : Nat) : Int) = 0 from lo.2.2.1] at e; omega
    | succ m ih =>
      intro hm e
      by_cases c : v < ofsX σ m
      · exact ih (by omega) c
      · have lk := lo.2.2.2 m (by omega) (by omega)
        rw [ofs_lt (show (m : Int) < σ.I 0 39 by omega)] at c
        rw [show ((m + 1 : Nat) : Int) = (m : Int) + 1 by omega, ← lk.2] at e
        exact ⟨m, by omega, by omega, e⟩
  obtain ⟨k, k0, k1, k2⟩ := key (σ.I 0 39).toNat (by have := lo.1; omega) (by rw [Int.toNat_of_nonneg lo.1.1, ofs_ge (Int.le_refl _)]; exact v1)
  have e := (pk.2.1 k k0.1 k0.2).2 (v - σ.I 42 k) (by omega) (by omega)
  rw [show σ.I 42 k + (v - σ.I 42 k) = v by omega] at e
  rw [e]
  exact ⟨k0, k1, k2⟩
theorem own_mo {σ : Sto} (pk : rPK σ) {v w : Int} (v0 : 0 ≤ v) (vw : v ≤ w) (w1 : w < σ.I 0 31) : σ.I 27 v ≤ σ.I 27 w := by
  have a := own pk v v0 (by omega)
  have b := own pk w (by omega) w1
  refine Classical.byContradiction fun c => ?_
  have lo := pk.1
  have lk := lo.2.2.2 _ b.1.1 b.1.2
  have m := ofs_mo lo (j := σ.I 27 w + 1) (k := σ.I 27 v) (by omega) (by omega)
  rw [ofs_lt a.1.2] at m
  omega
section BSXR
variable {k : Nat} {σ : Sto}
theorem kt_R (va : rVA σ) (x : Int) (x0 : 0 ≤ x) (x1 : x ≤ σ.I 0 20) : tkAt σ x = smP (fun _ => True) (σ.I 32) x := by
  unfold tkAt
  by_cases q : x < σ.I 0 20
  · rw [if_pos q]
    exact (va.2.2.1 _ x0 q).2.1
  · rw [if_neg q, va.2.1.2.2.2.1, show x = σ.I 0 20 by omega]
/-- a token before the draft: its value, its term -/
theorem tok_R (va : rVA σ) (fl : rFL σ) (j : Int) (j0 : 0 ≤ j) (j1 : j < tkAt σ (σ.I 0 31)) : (0 ≤ σ.I 38 j ∧ σ.I 38 j < σ.I 0 31) ∧ (σ.I 31 (σ.I 38 j) ≤ j ∧ j < σ.I 31 (σ.I 38 j) + σ.I 32 (σ.I 38 j)) ∧ σ.I 16 (σ.I 26 (σ.I 38 j)) = 0 ∧ (0 ≤ σ.I 36 j ∧ σ.I 36 j < σ.I 18 7) ∧ σ.I 20 (σ.I 36 j) = σ.I 26 (σ.I 38 j) := by
  have dr := va.1.2.1
  rw [kt_R va _ dr.1 dr.2.1] at j1
  obtain ⟨v, v0, v1, v2, v3⟩ := sm_at (σ.I 0 31).toNat j j0 (by rw [Int.toNat_of_nonneg dr.1]; exact j1)
  rw [Int.toNat_of_nonneg dr.1] at v1
  have z := va.2.2.1 v v0 (by omega)
  rw [← z.2.1] at v2 v3
  obtain ⟨e1, e2, e3, e4, e5, e6, -⟩ := z.2.2
  by_cases c0 : σ.I 16 (σ.I 26 v) = 0
  · have y := (e4 c0).2 (j - σ.I 31 v) (by omega) (by omega)
    rw [show σ.I 31 v + (j - σ.I 31 v) = j by omega] at y
    have y38 := y.2.2
    rw [y38]
    exact ⟨⟨v0, v1⟩, ⟨v2, v3⟩, c0, y.1.1, y.1.2.1⟩
  · exfalso
    have g := (fl.2 (σ.I 26 v) e1.2.1 e1.2.2).2.1
    by_cases c1 : σ.I 16 (σ.I 26 v) = 1
    · have := (e5 c1).2.1; omega
    · have := (e6 (by omega)).2.1; omega
theorem TVL_R (va : rVA σ) (fl : rFL σ) : TVL σ (tkAt σ (σ.I 0 31)) (σ.I 0 31) := by
  have dr := va.1.2.1
  have nn : ∀ w, 0 ≤ w → w < σ.I 0 20 → 0 ≤ σ.I 32 w := fun w p0 p1 => (va.2.2.1 w p0 p1).2.2.2.2.1.1
  have up : ∀ v w, 0 ≤ v → v < w → w ≤ σ.I 0 31 → σ.I 31 v + σ.I 32 v ≤ smP (fun _ => True) (σ.I 32) w := fun v w v0 vw w1 => by
    have z := va.2.2.1 v v0 (by omega)
    have m := smP_lq (f := σ.I 32) (n := w) (fun x p0 p1 => nn x p0 (by omega)) (v + 1) (by omega) (by omega)
    rw [smP_t _ _ v _ v0 rfl trivial, ← z.2.1] at m
    exact m
  refine ⟨fun j j0 j1 => ?_, fun v i v0 v1 i0 i1 => ?_, fun v w v0 vw w1 => ?_⟩
  · have t := tok_R va fl j j0 j1
    exact ⟨t.1, t.2.1.1, t.2.1.2⟩
  · have z := va.2.2.1 v v0 (by omega)
    have t := VA_tk va v v0 (by omega)
    have u := up v (σ.I 0 31) v0 v1 (Int.le_refl _)
    rw [← kt_R va _ dr.1 dr.2.1] at u
    have y := tok_R va fl (σ.I 31 v + i) (by omega) (by omega)
    refine ⟨by omega, by omega, ?_⟩
    refine Classical.byContradiction fun c => ?_
    rcases (show σ.I 38 (σ.I 31 v + i) < v ∨ v < σ.I 38 (σ.I 31 v + i) by omega) with o | o
    · have a := up _ v y.1.1 o (by omega)
      rw [← z.2.1] at a
      omega
    · have z2 := va.2.2.1 _ y.1.1 (show σ.I 38 (σ.I 31 v + i) < σ.I 0 20 by omega)
      have a := up v _ v0 o (by omega)
      rw [← z2.2.1] at a
      omega
  · have z := va.2.2.1 w (by omega) (by omega)
    rw [z.2.1]
    exact up v w v0 vw (by omega)
theorem VOC_R (va : rVA σ) (pk : rPK σ) (ob : rOB σ) : VOC σ (σ.I 0 31) := by
  have dr := va.1.2.1
  refine ⟨fun b => ?_, by omega⟩
  by_cases q : 0 ≤ b ∧ b < σ.I 0 39
  · have lo := pk.1
    have c := (ofs_b lo q.1).1
    rw [ofs_lt q.2] at c
    have lk := lo.2.2.2 b q.1 q.2
    have o1 := ob.2.2.2.1 b q.1 (by have := lo.1; omega)
    have a := (cn_itv (a := σ.I 42 b) (m := σ.I 43 b) c lk.1 (σ.I 0 31).toNat).1
    rw [Int.toNat_of_nonneg dr.1] at a
    have e : cn (fun v => σ.I 27 v = b) (σ.I 0 31) = cn (fun v => σ.I 42 b ≤ v ∧ v < σ.I 42 b + σ.I 43 b) (σ.I 0 31) := cn_cg (fun v v0 v1 => by
      have w := own pk v v0 v1
      constructor
      · intro z; rw [z] at w; exact w.2
      · intro z
        have := (pk.2.1 b q.1 q.2).2 (v - σ.I 42 b) (by omega) (by omega)
        rw [show σ.I 42 b + (v - σ.I 42 b) = v by omega] at this
        exact this)
    rw [e]
    omega
  · have e := cn_no (p := fun v => σ.I 27 v = b) (σ.I 0 31).toNat (fun v v0 v1 z => by
      have w := (own pk v v0 (by omega)).1
      rw [z] at w
      exact q w)
    rw [Int.toNat_of_nonneg dr.1] at e
    rw [e]
    omega
/-- what comes in order of objects is counted once for each -/
theorem dc_le {Q S P : Int → Prop} {ob : Int → Int} {N : Int} (hN : 0 ≤ N) : ∀ n : Nat, (∀ i, 0 ≤ i → i < (n : Int) → Q i → 0 ≤ ob i ∧ ob i < N) → (∀ i j, 0 ≤ i → i ≤ j → j < (n : Int) → Q i → Q j → ob i ≤ ob j) → (∀ i, 0 ≤ i → i < (n : Int) → Q i → S (ob i) → P (ob i)) → ((dcN Q S ob n).1 ≤ cn P ((dcN Q S ob n).2 + 1) ∧ (dcN Q S ob n).2 < N) ∧ ((dcN Q S ob n).2 = -1 ∨ ∃ i, 0 ≤ i ∧ i < (n : Int) ∧ Q i ∧ ob i = (dcN Q S ob n).2) := by
  intro n
  induction n with
  | zero => intro _ _ _; exact ⟨⟨by show (0 : Int) ≤ cn P (-1 + 1); rw [cn_0 _ _ (by omega)]; omega, by show (-1 : Int) < N; omega⟩, Or.inl rfl⟩
  | succ n ih =>
    intro h1 h2 h3
    obtain ⟨⟨i1, i2⟩, i3⟩ := ih (fun i a b c => h1 i a (by omega) c) (fun i j a b c => h2 i j a b (by omega)) (fun i a b => h3 i a (by omega))
    by_cases q : Q n ∧ S (ob n) ∧ ob n ≠ (dcN Q S ob n).2
    · have e : dcN Q S ob (n + 1) = ((dcN Q S ob n).1 + 1, ob n) := by
        show (if zb (Q n ∧ S (ob n) ∧ ob n ≠ (dcN Q S ob n).2) = 1 then _ else _) = _
        rw [if_pos (zb_t q)]
      rw [e]
      have o := h1 n (by omega) (by omega) q.1
      have lt : (dcN Q S ob n).2 < ob n := by
        rcases i3 with z | ⟨i, a, b, c, d⟩
        · omega
        · have := h2 i n a (by omega) (by omega) c q.1
          have := q.2.2
          omega
      have p := h3 n (by omega) (by omega) q.1 q.2.1
      have lo : -1 ≤ (dcN Q S ob n).2 := by
        rcases i3 with z | ⟨i, a, b, c, d⟩
        · omega
        · have := (h1 i a (by omega) c).1; omega
      have m := cn_mo (p := P) (a := (dcN Q S ob n).2 + 1) (b := ob n) (by omega) (by omega)
      refine ⟨⟨?_, o.2⟩, Or.inr ⟨n, by omega, by omega, q.1, rfl⟩⟩
      show (dcN Q S ob n).1 + 1 ≤ cn P (ob n + 1)
      rw [cn_s _ (ob n) _ o.1 rfl, zb_t p]
      omega
    · have e : dcN Q S ob (n + 1) = dcN Q S ob n := by
        show (if zb (Q n ∧ S (ob n) ∧ ob n ≠ (dcN Q S ob n).2) = 1 then _ else _) = _
        rw [if_neg (by rw [zb_f q]; omega)]
      rw [e]
      refine ⟨⟨i1, i2⟩, ?_⟩
      rcases i3 with z | ⟨i, a, b, c, d⟩
      · exact Or.inl z
      · exact Or.inr ⟨i, a, by omega, c, d⟩
theorem dc_cn {Q S P : Int → Prop} {ob : Int → Int} {N n : Int} (hN : 0 ≤ N) (h1 : ∀ i, 0 ≤ i → i < n → Q i → 0 ≤ ob i ∧ ob i < N) (h2 : ∀ i j, 0 ≤ i → i ≤ j → j < n → Q i → Q j → ob i ≤ ob j) (h3 : ∀ i, 0 ≤ i → i < n → Q i → S (ob i) → P (ob i)) : (dc Q S ob n).1 ≤ cn P N := by
  have a := dc_le (S := S) (P := P) hN n.toNat (fun i x y => h1 i x (by omega)) (fun i j x y z => h2 i j x y (by omega)) (fun i x y => h3 i x (by omega))
  have lo : -1 ≤ (dcN Q S ob n.toNat).2 := by
    rcases a.2 with z | ⟨i, x, y, c, d⟩
    · omega
    · have := (h1 i x (by omega) c).1; omega
  have m := cn_mo (p := P) (a := (dcN Q S ob n.toNat).2 + 1) (b := N) (by omega) (by have := a.1.2; omega)
  have e : dc Q S ob n = dcN Q S ob n.toNat := rfl
  rw [e]
  have := a.1.1
  omega
theorem HOWA_R (r : RR k σ) : HOWA σ (tkAt σ (σ.I 0 31)) (σ.I 0 31) := by
  intro τ o ho eA e0 e8 e6 e7
  have va := r.VA
  have fl := r.FL
  have pk := r.PK
  have lo := pk.1
  have dr := va.1.2.1
  have sw : ∀ x, sn τ (o + 15) x → 0 ≤ x → swX τ (o + 15) x := fun x h h0 => ⟨by rw [e6]; exact h0, h⟩
  have hx : ∀ v, 0 ≤ v → v < σ.I 0 31 → hxV τ (σ.I 26 v) (σ.I 27 v) := fun v v0 v1 => by
    have w := own pk v v0 v1
    refine ⟨v - σ.I 42 (σ.I 27 v), by omega, by rw [eA 43 (by omega)]; omega, ?_⟩
    unfold qvX
    rw [eA 26 (by omega), eA 42 (by omega), show σ.I 42 (σ.I 27 v) + (v - σ.I 42 (σ.I 27 v)) = v by omega]
  refine ⟨fun t t0 t1 => ⟨?_, ?_⟩, ?_, fun f l sl x hs hf => ?_⟩
  · unfold owX
    split <;> exact dc_in.1
  · unfold owX hvX
    by_cases w : τ.I 16 (τ.I 20 t) = 1
    · rw [if_pos w]
      have w' : σ.I 16 (σ.I 20 t) = 1 := by rw [eA 16 (by omega), eA 20 (by omega)] at w; exact w
      refine dc_cn lo.1.1 (fun v v0 v1 q => ?_) (fun v u v0 vu u1 _ _ => ?_) (fun v v0 v1 q s => ?_)
      · rw [eA 27 (by omega)]; exact (own pk v v0 v1).1
      · rw [eA 27 (by omega)]; exact own_mo pk v0 vu u1
      · have ow := own pk v v0 v1
        rw [eA 27 (by omega)] at s ⊢
        unfold wkQ at q
        rw [eA 16 (by omega), eA 26 (by omega), eA 33 (by omega)] at q
        have z := ((va.2.2.1 v v0 (by omega)).2.2.2.2.2.2.1 q.1).2.2.2.2.1
        rw [q.2] at z
        refine ⟨sw _ s ow.1.1, ?_⟩
        rw [z]
        exact hx v v0 v1
    · rw [if_neg w]
      refine dc_cn lo.1.1 (fun j j0 j1 q => ?_) (fun i j i0 ij j1 _ _ => ?_) (fun j j0 j1 q s => ?_)
      · have t := tok_R va fl j j0 j1
        unfold obT
        rw [eA 27 (by omega), eA 38 (by omega)]
        exact (own pk _ t.1.1 t.1.2).1
      · have a := tok_R va fl i i0 (by omega)
        have b := tok_R va fl j (by omega) j1
        unfold obT
        rw [eA 27 (by omega), eA 38 (by omega)]
        refine own_mo pk a.1.1 ?_ b.1.2
        refine Classical.byContradiction fun c => ?_
        have u := (TVL_R va fl).2.2 (σ.I 38 j) (σ.I 38 i) b.1.1 (by omega) a.1.2
        omega
      · have t := tok_R va fl j j0 j1
        unfold obT at s ⊢
        rw [eA 27 (by omega), eA 38 (by omega)] at s ⊢
        have ow := own pk _ t.1.1 t.1.2
        unfold tkQ at q
        rw [eA 36 (by omega)] at q
        have z := t.2.2.2.2
        rw [q] at z
        refine ⟨sw _ s ow.1.1, ?_⟩
        rw [z]
        exact hx _ t.1.1 t.1.2
  · unfold owX
    split
    · rw [dc_no (i := 0) (m := σ.I 0 31) (Int.le_refl _) dr.1 (fun v v0 v1 q => by
        unfold wkQ at q
        rw [eA 16 (by omega), eA 26 (by omega), eA 33 (by omega)] at q
        have z := ((va.2.2.1 v v0 (by omega)).2.2.2.2.2.2.1 q.1).2.2.2.1.1
        omega), dc_0 (Int.le_refl _)]
    · rw [dc_no (i := 0) (m := tkAt σ (σ.I 0 31)) (Int.le_refl _) (by rw [kt_R va _ dr.1 dr.2.1]; exact smP_n0 (fun x p0 p1 => (va.2.2.1 x p0 (by omega)).2.2.2.2.1.1)) (fun j j0 j1 q => by
        have t := tok_R va fl j j0 j1
        unfold tkQ at q
        rw [eA 36 (by omega)] at q
        omega), dc_0 (Int.le_refl _)]
  · unfold foX at hf
    rw [if_pos e8] at hf
    by_cases s : zb (sn τ (o + 15) x) = 1
    · rw [if_pos s] at hf
      have sn' := zb_1.mp s
      have nz := smP_ne (p := fun v => τ.I 27 v = x) (g := mtV τ f l sl) (σ.I 0 31).toNat (by rw [Int.toNat_of_nonneg dr.1]; exact hf)
      rw [Int.toNat_of_nonneg dr.1] at nz
      obtain ⟨v, v0, v1, vx, vm⟩ := nz
      rw [eA 27 (by omega)] at vx
      have ow := own pk v v0 v1
      rw [vx] at ow
      have z := va.2.2.1 v v0 (by omega)
      have mt : ∃ y, sqV τ f l v 0 y := by
        refine Classical.byContradiction fun c => vm ?_
        unfold mtV mtc
        exact cn_no (p := fun x => sqV τ f l v 0 x ∧ mAt (sqV τ f l v) (pPl l.2.2.2.2.2 l.1) (nL l) sl x) 500 (fun y _ _ q => c ⟨y, q.1⟩)
      obtain ⟨y, j, j0, j1, -, q, q0, q1, -, q2, q3⟩ := mt
      rw [eA 32 (by omega)] at j1
      have fv : σ.I 26 v = f := by
        have tt := (TVL_R va fl).2.1 v j v0 v1 j0 j1
        have tk := tok_R va fl (σ.I 31 v + j) tt.1 tt.2.1
        rw [eA 36 (by omega), eA 31 (by omega)] at q3
        rw [tt.2.2] at tk
        have lin := ls_in (tQ τ f (l.2.2.1 q) 0 (l.2.1 q)) (τ.I 18 7)
        have tx : tmX τ f l q = ls (tQ τ f (l.2.2.1 q) 0 (l.2.1 q)) (τ.I 18 7) := rfl
        rw [← tx] at lin
        rcases lin with c | ⟨-, -, c⟩
        · omega
        · have c1 := c.1.1
          rw [q3, eA 20 (by omega)] at c1
          rw [← tk.2.2.2.2]
          exact c1
      have n32 : ∀ u, 0 ≤ u → u < σ.I 43 x → 0 ≤ σ.I 32 (σ.I 42 x + u) := fun u u0 u1 => by
        have b := ofs_b lo ow.1.1
        rw [ofs_lt ow.1.2] at b
        have lk := lo.2.2.2 x ow.1.1 ow.1.2
        have b2 := ofs_b lo (show 0 ≤ x + 1 by omega)
        exact (va.2.2.1 _ (by omega) (by omega)).2.2.2.2.1.1
      have one : 1 ≤ xTO τ f x := by
        unfold xTO
        rw [eA 26 (by omega), eA 42 (by omega), eA 32 (by omega), eA 43 (by omega)]
        have e := smP_el (p := fun j => σ.I 26 (σ.I 42 x + j) = f) (g := fun j => σ.I 32 (σ.I 42 x + j)) (k := v - σ.I 42 x) (by omega) (by show σ.I 26 (σ.I 42 x + (v - σ.I 42 x)) = f; rw [show σ.I 42 x + (v - σ.I 42 x) = v by omega]; exact fv) (σ.I 43 x).toNat (fun u u0 u1 _ => n32 u u0 (by omega)) (by omega)
        rw [Int.toNat_of_nonneg (lo.2.2.2 x ow.1.1 ow.1.2).1] at e
        have e : σ.I 32 (σ.I 42 x + (v - σ.I 42 x)) ≤ smP (fun j => σ.I 26 (σ.I 42 x + j) = f) (fun j => σ.I 32 (σ.I 42 x + j)) (σ.I 43 x) := e
        rw [show σ.I 42 x + (v - σ.I 42 x) = v by omega] at e
        omega
      unfold tkX
      have e := smP_el (p := swX τ (o + 15)) (g := fun y => xTO τ f y) (k := x) ow.1.1 (sw x sn' ow.1.1) (σ.I 0 39).toNat (fun y y0 y1 _ => by
        unfold xTO
        rw [eA 26 (by omega), eA 42 (by omega), eA 32 (by omega), eA 43 (by omega)]
        refine smP_n0 (fun u u0 u1 => ?_)
        have b := ofs_b lo y0
        rw [ofs_lt (by omega)] at b
        have lk := lo.2.2.2 y y0 (by omega)
        have b2 := ofs_b lo (show 0 ≤ y + 1 by omega)
        exact (va.2.2.1 _ (by omega) (by omega)).2.2.2.2.1.1) (by omega)
      rw [Int.toNat_of_nonneg lo.1.1] at e
      have e2 : (fun y => xTO τ f y) x = xTO τ f x := rfl
      omega
    · rw [if_neg s] at hf
      exact absurd rfl hf
theorem BSX_R (r : RR k σ) : BSX σ (tkAt σ (σ.I 0 31)) (σ.I 0 31) := by
  have va := r.VA
  have fl := r.FL
  have te := r.TE
  have ob := r.OB
  have pk := r.PK
  have bd := r.BD
  have an := r.AN
  have lo := pk.1
  have dr := va.1.2.1
  have v7 := va.1.2.2.2
  have x29 := VA_29 va
  have t2 := te.2.1
  have kt := kt_R va _ dr.1 dr.2.1
  have k0 : 0 ≤ tkAt σ (σ.I 0 31) := by rw [kt]; exact smP_n0 (fun x p0 p1 => (va.2.2.1 x p0 (by omega)).2.2.2.2.1.1)
  have k1 : tkAt σ (σ.I 0 31) ≤ σ.I 0 29 := by
    rw [kt, va.2.1.2.2.2.1]
    exact smP_lq (fun x p0 p1 => (va.2.2.1 x p0 p1).2.2.2.2.1.1) _ dr.1 dr.2.1
  refine ⟨⟨fl.1.2, ob.2.2.2.1, bd.1.2.2.2, te.1.1, ⟨t2.1, by omega⟩, te.2.2.2.2.1, te.2.2.2.2.2.1, te.2.2.2.2.2.2, ⟨⟨k0, by omega⟩, ⟨dr.1, by omega⟩, fun j a b => (tok_R va fl j a b).1, fun v a b => pk.2.2 v a (by omega)⟩, TVL_R va fl, ⟨⟨dr.1, dr.2.1, dr.2.2.1⟩, fun v a b => ?_⟩⟩, ob.1.2, bd.2.2.2.2.1, an.2.1, an.2.2.1, an.1.2.2, bd.1.1, fun v a b => ?_, VOC_R va pk ob, fun x x0 x1 => ?_, fun v a b => (own pk v a b).1.2, ob.2.2.1, HOWA_R r⟩
  · have z := (va.2.2.1 v (by omega) b).2.2
    have t := VA_tk va v (by omega) b
    exact ⟨⟨z.1.2.1, by have := z.1.2.2; have := fl.1; omega⟩, t.1, z.2.2.1.1, z.2.2.1.2, by omega⟩
  · have z := (va.2.2.1 v a (by omega)).2.2
    have t := VA_tk va v a (by omega)
    exact ⟨t.1, z.2.2.1.1, by omega⟩
  · have c := ofs_b lo x0
    rw [ofs_lt x1] at c
    have lk := lo.2.2.2 x x0 x1
    have b2 := ofs_b lo (show 0 ≤ x + 1 by omega)
    exact ⟨by omega, fun j j0 j1 => (va.2.2.1 _ (by omega) (by omega)).2.2.1.2⟩
theorem BAS_R (r : RR k σ) : BAS σ := by
  have va := r.VA
  have fl := r.FL
  have bd := r.BD
  have dr := va.1.2.1
  refine ⟨r.AN.2.2.2.2.1, r.OB.2.2.2.2.1, fun v v0 v1 => ?_, by rw [← va.1.1.1]; exact dr.2.2.1, bd.2.1, bd.2.2.1, r.OB.2.2.2.2.2, bd.2.2.2.1, fun f f0 f1 => ?_⟩
  · rw [← va.1.1.1] at v1
    have ln := lnT_va va fl v v0 v1
    have z := (va.2.2.1 v v0 v1).2.2
    have q := zb_in (isWv σ v)
    have m := mono582 va fl v0 (show v ≤ v + 1 by omega) (by omega)
    have m2 := VA_582 va fl (v + 1) (by omega) (by omega)
    have v7 := va.1.2.2.2
    have e : tcM σ v = lnT σ v := rfl
    have z3 := z.2.2.1
    refine ⟨by rw [e]; omega, ?_, m.1, by omega⟩
    rw [e, ln]
    by_cases w : isWv σ v
    · have := (z.2.2.2.2.1 w).2.1
      omega
    · rw [zb_f w]; omega
  · rw [← fl.1.1] at f1
    have z := fl.2 f f0 f1
    have a := r.AN.1
    rw [← z.1.2]
    by_cases c : σ.I 16 f = 0
    · have := z.2.2.1 c; omega
    · have := z.2.2.2 c; omega
theorem WOH_R (r : RR k σ) (v : Int) : WOH σ v := by
  intro o o0 o1 h
  have w := zb_1.mp h
  have ob := r.OB
  have e := ob.1
  have z := ob.2.1 o o0 (by omega)
  have hz : σ.I 47 o = 1 := by rw [z.1]; exact w.2.1
  have y := (z.2.2 hz).1
  have lo := r.PK.1
  have lk := lo.2.2.2 o o0 (by omega)
  have b2 := ofs_b lo (show 0 ≤ o + 1 by omega)
  have va := r.VA.1
  omega
end BSXR

