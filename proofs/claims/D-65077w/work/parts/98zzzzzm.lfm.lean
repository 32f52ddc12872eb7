/-! contracts: printed by tools/mk.py out of s98zzzzzm_lfm.py -/
set_option maxRecDepth 100000
set_option maxHeartbeats 2000000
/-! leaves of a question, in both: terms of objects -/
/-- the world of both is one -/
def WLK (σ : Sto) (o : Nat) : Prop := (σ.I (o + 15) 6 = 0 ∧ σ.I (o + 15) 7 = σ.I 0 39 ∧ σ.I (o + 15) 8 = 0) ∧ (∀ k, 0 ≤ k → k < σ.I 0 39 → (σ.I (o + 16) k = 1 ↔ σ.I 601 k = 1)) ∧ ∀ k, 0 ≤ k → k < 601 → σ.I 601 k = 1 → k < σ.I 0 39 ∧ σ.I 47 k = 1
/-- an object has a term -/
def HTk (σ : Sto) (s k : Int) : Prop := exN (fun j => (σ.I 16 (σ.I 26 (σ.I 42 k + j)) = 0 ∧ exN (fun i => σ.I 36 (σ.I 31 (σ.I 42 k + j) + i) = s) (σ.I 32 (σ.I 42 k + j))) ∨ (σ.I 16 (σ.I 26 (σ.I 42 k + j)) = 1 ∧ σ.I 33 (σ.I 42 k + j) = s)) (σ.I 43 k)
section LFM2
variable {σ : Sto} {o : Nat}
theorem tq_mt (va : rVA σ) {f v j i n : Int} {A : Int → Int} (v0 : 0 ≤ v) (v1 : v < σ.I 0 20) (f0 : σ.I 16 (σ.I 26 v) = 0) (fv : σ.I 26 v = f) (j0 : 0 ≤ j) (j1 : j < σ.I 32 v) : tQ σ f A i n (σ.I 36 (σ.I 31 v + j)) ↔ mT σ A i n (σ.I 582 v + j) := by
  have z := (va.2.2.1 v v0 v1).2.2
  have t := (z.2.2.2.1 f0).2 j j0 j1
  obtain ⟨⟨t1, t2, t3, t4⟩, -, -⟩ := t
  constructor
  · rintro ⟨⟨a, b⟩, c⟩
    refine ⟨by rw [← t3]; exact b, fun k k0 k1 => ?_⟩
    have w : σ.I 19 (20 * σ.I 36 (σ.I 31 v + j) + k) = A (i + k) := c k k0 k1
    show σ.I 586 (20 * (σ.I 582 v + j) + k) = A (i + k)
    rw [← t4 k k0 (by rw [← t3, b]; exact k1)]
    exact w
  · rintro ⟨a, c⟩
    refine ⟨⟨by rw [t2]; exact fv, by rw [t3]; exact a⟩, fun k k0 k1 => ?_⟩
    have w : σ.I 586 (20 * (σ.I 582 v + j) + k) = A (i + k) := c k k0 k1
    show σ.I 19 (20 * σ.I 36 (σ.I 31 v + j) + k) = A (i + k)
    rw [t4 k k0 (by rw [a]; exact k1)]
    exact w
theorem tq_mw (va : rVA σ) {f v i n : Int} {A : Int → Int} (v0 : 0 ≤ v) (v1 : v < σ.I 0 20) (f0 : σ.I 16 (σ.I 26 v) = 1) (fv : σ.I 26 v = f) : tQ σ f A i n (σ.I 33 v) ↔ mT σ A i n (σ.I 582 v) := by
  have z := (va.2.2.1 v v0 v1).2.2
  obtain ⟨-, -, -, t1, t2, t3, t4⟩ := z.2.2.2.2.1 f0
  constructor
  · rintro ⟨⟨a, b⟩, c⟩
    refine ⟨by rw [← t3]; exact b, fun k k0 k1 => ?_⟩
    have w : σ.I 19 (20 * σ.I 33 v + k) = A (i + k) := c k k0 k1
    show σ.I 586 (20 * σ.I 582 v + k) = A (i + k)
    rw [← t4 k k0 (by rw [← t3, b]; exact k1)]
    exact w
  · rintro ⟨a, c⟩
    refine ⟨⟨by rw [t2]; exact fv, by rw [t3]; exact a⟩, fun k k0 k1 => ?_⟩
    have w : σ.I 586 (20 * σ.I 582 v + k) = A (i + k) := c k k0 k1
    show σ.I 19 (20 * σ.I 33 v + k) = A (i + k)
    rw [t4 k k0 (by rw [a]; exact k1)]
    exact w
/-- the field of a term that an object has -/
theorem HT_f (va : rVA σ) (pk : rPK σ) {s k : Int} (k0 : 0 ≤ k) (k1 : k < σ.I 0 39) (h : HTk σ s k) : (0 ≤ s ∧ s < σ.I 18 7) ∧ ∃ j, (0 ≤ j ∧ j < σ.I 43 k) ∧ σ.I 20 s = σ.I 26 (σ.I 42 k + j) ∧ ((σ.I 16 (σ.I 20 s) = 0 ∧ exN (fun i => σ.I 36 (σ.I 31 (σ.I 42 k + j) + i) = s) (σ.I 32 (σ.I 42 k + j))) ∨ (σ.I 16 (σ.I 20 s) = 1 ∧ σ.I 33 (σ.I 42 k + j) = s)) := by
  have lo := pk.1
  have b := ofs_b lo k0
  rw [ofs_lt k1] at b
  have lk := lo.2.2.2 k k0 k1
  have b2 := ofs_b lo (show 0 ≤ k + 1 by omega)
  have dr := va.1.2.1
  obtain ⟨j, j0, j1, h⟩ := h
  have z := (va.2.2.1 (σ.I 42 k + j) (by omega) (by omega)).2.2
  rcases h with ⟨f0, i, i0, i1, e⟩ | ⟨f0, e⟩
  · have t := (z.2.2.2.1 f0).2 i i0 i1
    have t1 := t.1.1
    have t2 := t.1.2.1
    have e : σ.I 36 (σ.I 31 (σ.I 42 k + j) + i) = s := e
    rw [e] at t1 t2
    exact ⟨t1, j, ⟨j0, j1⟩, t2, Or.inl ⟨by rw [t2]; exact f0, i, i0, i1, e⟩⟩
  · obtain ⟨-, -, -, t1, t2, -⟩ := z.2.2.2.2.1 f0
    rw [e] at t1 t2
    exact ⟨t1, j, ⟨j0, j1⟩, t2, Or.inr ⟨by rw [t2]; exact f0, e⟩⟩
/-- the program's lists of a term tell its objects -/
theorem mk_l (va : rVA σ) (fl : rFL σ) (pk : rPK σ) (h8 : σ.I (o + 15) 8 = 0) {s k : Int} (k0 : 0 ≤ k) (k1 : k < σ.I 0 39) : mkQ σ o s (tkAt σ (σ.I 0 31)) (σ.I 0 31) k ↔ σ.I (o + 16) k = 1 ∧ HTk σ s k := by
  have dr := va.1.2.1
  have lo := pk.1
  have b := ofs_b lo k0
  rw [ofs_lt k1] at b
  have lk := lo.2.2.2 k k0 k1
  have b2 := ofs_b lo (show 0 ≤ k + 1 by omega)
  unfold mkQ
  constructor
  · rintro (⟨-, q, w⟩ | ⟨z, -⟩)
    · refine ⟨q, ?_⟩
      rcases w with ⟨-, i, i0, i1, e1, e2⟩ | ⟨-, v, v0, v1, ⟨e1, e3⟩, e2⟩
      · have e1 : σ.I 36 i = s := e1
        have e2 : σ.I 27 (σ.I 38 i) = k := e2
        have t := tok_R va fl i i0 i1
        have w := own pk _ t.1.1 t.1.2
        rw [e2] at w
        refine ⟨σ.I 38 i - σ.I 42 k, by omega, by omega, Or.inl ?_⟩
        rw [show σ.I 42 k + (σ.I 38 i - σ.I 42 k) = σ.I 38 i by omega]
        refine ⟨t.2.2.1, i - σ.I 31 (σ.I 38 i), by omega, by omega, ?_⟩
        show σ.I 36 (σ.I 31 (σ.I 38 i) + (i - σ.I 31 (σ.I 38 i))) = s
        rw [show σ.I 31 (σ.I 38 i) + (i - σ.I 31 (σ.I 38 i)) = i by omega]
        exact e1
      · have w := own pk v v0 v1
        rw [e2] at w
        refine ⟨v - σ.I 42 k, by omega, by omega, Or.inr ?_⟩
        rw [show σ.I 42 k + (v - σ.I 42 k) = v by omega]
        exact ⟨e1, e3⟩
    · exact absurd h8 z
  · rintro ⟨q, h⟩
    have hf := HT_f va pk k0 k1 h
    obtain ⟨-, j, jj, e0, w⟩ := hf
    have ow := (pk.2.1 k k0 k1).2 j jj.1 jj.2
    refine Or.inl ⟨h8, q, ?_⟩
    rcases w with ⟨f0, i, i0, i1, e⟩ | ⟨f0, e⟩
    · have t := (TVL_R va fl).2.1 (σ.I 42 k + j) i (by omega) (by omega) i0 i1
      refine Or.inl ⟨fun z => ?_, _, t.1, t.2.1, e, ?_⟩
      · have z : σ.I 16 (σ.I 20 s) = 1 := z
        omega
      · show σ.I 27 (σ.I 38 (σ.I 31 (σ.I 42 k + j) + i)) = k
        rw [t.2.2]; exact ow
    · refine Or.inr ⟨f0, σ.I 42 k + j, by omega, by omega, ⟨?_, e⟩, ow⟩
      rw [← e0]; exact f0
/-- in how many objects of the world a term is -/
theorem ow_l (va : rVA σ) (fl : rFL σ) (pk : rPK σ) {s : Int} (s0 : 0 ≤ s) (s1 : s < σ.I 18 7) (sf : 0 ≤ σ.I 20 s ∧ σ.I 20 s < σ.I 0 9) : owX σ (o + 15) s (tkAt σ (σ.I 0 31)) (σ.I 0 31) = cn (fun k => σ.I (o + 16) k = 1 ∧ HTk σ s k) (σ.I 0 39) := by
  have dr := va.1.2.1
  have lo := pk.1
  have kt := kt_R va _ dr.1 dr.2.1
  have kn : 0 ≤ tkAt σ (σ.I 0 31) := by rw [kt]; exact smP_n0 (fun x p0 p1 => (va.2.2.1 x p0 (by omega)).2.2.2.2.1.1)
  unfold owX
  by_cases c : σ.I 16 (σ.I 20 s) = 1
  · rw [if_pos c, dc_eq (N := σ.I 0 39) lo.1.1 dr.1 (fun v v0 v1 q => (own pk v v0 v1).1) (fun v u v0 vu u1 _ _ => own_mo pk v0 vu u1)]
    refine cn_cg (fun k k0 k1 => ?_)
    have b := ofs_b lo k0
    rw [ofs_lt k1] at b
    have lk := lo.2.2.2 k k0 k1
    have b2 := ofs_b lo (show 0 ≤ k + 1 by omega)
    constructor
    · rintro ⟨q, v, ⟨v0, v1⟩, ⟨e1, e3⟩, e2⟩
      refine ⟨q, ?_⟩
      have w := own pk v v0 v1
      rw [e2] at w
      refine ⟨v - σ.I 42 k, by omega, by omega, Or.inr ?_⟩
      rw [show σ.I 42 k + (v - σ.I 42 k) = v by omega]
      exact ⟨e1, e3⟩
    · rintro ⟨q, h⟩
      obtain ⟨-, j, jj, e0, w⟩ := HT_f va pk k0 k1 h
      refine ⟨q, σ.I 42 k + j, ⟨by omega, by omega⟩, ?_, (pk.2.1 k k0 k1).2 j jj.1 jj.2⟩
      rcases w with ⟨f0, -⟩ | ⟨f0, e⟩
      · omega
      · exact ⟨by rw [← e0]; exact f0, e⟩
  · have mo : ∀ i j, 0 ≤ i → i ≤ j → j < tkAt σ (σ.I 0 31) → obT σ i ≤ obT σ j := fun i j i0 ij j1 => by
      have a := tok_R va fl i i0 (by omega)
      have b := tok_R va fl j (by omega) j1
      refine own_mo pk a.1.1 ?_ b.1.2
      refine Classical.byContradiction fun c => ?_
      have u := (TVL_R va fl).2.2 (σ.I 38 j) (σ.I 38 i) b.1.1 (by omega) a.1.2
      omega
    rw [if_neg c, dc_eq (N := σ.I 0 39) lo.1.1 kn (fun i i0 i1 q => by have t := tok_R va fl i i0 i1; exact (own pk _ t.1.1 t.1.2).1) (fun i j i0 ij j1 _ _ => mo i j i0 ij j1)]
    refine cn_cg (fun k k0 k1 => ?_)
    have b := ofs_b lo k0
    rw [ofs_lt k1] at b
    have lk := lo.2.2.2 k k0 k1
    have b2 := ofs_b lo (show 0 ≤ k + 1 by omega)
    constructor
    · rintro ⟨q, i, ⟨i0, i1⟩, e1, e2⟩
      refine ⟨q, ?_⟩
      have e1 : σ.I 36 i = s := e1
      have e2 : σ.I 27 (σ.I 38 i) = k := e2
      have t := tok_R va fl i i0 i1
      have w := own pk _ t.1.1 t.1.2
      rw [e2] at w
      refine ⟨σ.I 38 i - σ.I 42 k, by omega, by omega, Or.inl ?_⟩
      rw [show σ.I 42 k + (σ.I 38 i - σ.I 42 k) = σ.I 38 i by omega]
      refine ⟨t.2.2.1, i - σ.I 31 (σ.I 38 i), by omega, by omega, ?_⟩
      show σ.I 36 (σ.I 31 (σ.I 38 i) + (i - σ.I 31 (σ.I 38 i))) = s
      rw [show σ.I 31 (σ.I 38 i) + (i - σ.I 31 (σ.I 38 i)) = i by omega]
      exact e1
    · rintro ⟨q, h⟩
      obtain ⟨-, j, jj, e0, w⟩ := HT_f va pk k0 k1 h
      refine ⟨q, ?_⟩
      rcases w with ⟨f0, i, i0, i1, e⟩ | ⟨f0, e⟩
      · have t := (TVL_R va fl).2.1 (σ.I 42 k + j) i (by omega) (by omega) i0 i1
        refine ⟨_, ⟨t.1, t.2.1⟩, e, ?_⟩
        show σ.I 27 (σ.I 38 (σ.I 31 (σ.I 42 k + j) + i)) = k
        rw [t.2.2]
        exact (pk.2.1 k k0 k1).2 j jj.1 jj.2
      · exact absurd f0 c
theorem tc_w (va : rVA σ) {v : Int} (v0 : 0 ≤ v) (v1 : v < σ.I 0 20) (f0 : σ.I 16 (σ.I 26 v) = 1) : tcM σ v = 1 := by
  have z := (va.2.2.1 v v0 v1).2.2
  have := (z.2.2.2.2.1 f0).1
  unfold tcM
  omega
theorem tc_o (va : rVA σ) {v : Int} (v0 : 0 ≤ v) (v1 : v < σ.I 0 20) (f0 : 2 ≤ σ.I 16 (σ.I 26 v)) : tcM σ v = 0 := by
  have z := (va.2.2.1 v v0 v1).2.2
  have := (z.2.2.2.2.2.1 f0).1
  unfold tcM
  omega
/-- rows of the model's terms of an object: each is a term of the program's -/
theorem row_t (va : rVA σ) (fl : rFL σ) (ob : rOB σ) (pk : rPK σ) {k : Int} (k0 : 0 ≤ k) (k1 : k < σ.I 0 39) (h : σ.I 47 k = 1) {f : Int} (f2 : σ.I 602 f = 1) {P : Int → Prop} {R : Int → Prop} (hP : ∀ b s, (0 ≤ s ∧ s < σ.I 18 7) → σ.I 20 s = f → σ.I 21 s = σ.I 587 b → (∀ i, 0 ≤ i → i < σ.I 587 b → σ.I 19 (20 * s + i) = σ.I 586 (20 * b + i)) → (R b ↔ P s)) : exN (fun j => mV σ f (σ.I 595 k + j) ∧ exN (fun t => R (σ.I 582 (σ.I 595 k + j) + t)) (tcM σ (σ.I 595 k + j))) (σ.I 596 k) ↔ ∃ s, (0 ≤ s ∧ s < σ.I 18 7) ∧ σ.I 20 s = f ∧ P s ∧ HTk σ s k := by
  have w := ob_l ob pk k0 k1 h
  have dr := va.1.2.1
  rw [← w.1.1, ← w.1.2]
  constructor
  · rintro ⟨j, j0, j1, ⟨e, -⟩, t, t0, t1, r⟩
    have z := (va.2.2.1 (σ.I 42 k + j) (by omega) (by omega)).2.2
    rw [← z.1.1] at e
    have g := (fl.2 (σ.I 26 (σ.I 42 k + j)) z.1.2.1 z.1.2.2).2.1
    by_cases c0 : σ.I 16 (σ.I 26 (σ.I 42 k + j)) = 0
    · rw [tc_t va (by omega) (by omega) c0] at t1
      obtain ⟨⟨a1, a2, a3, a4⟩, -, -⟩ := (z.2.2.2.1 c0).2 t t0 t1
      exact ⟨_, a1, a2.trans e, (hP _ _ a1 (a2.trans e) a3 a4).mp r, j, j0, j1, Or.inl ⟨c0, t, t0, t1, rfl⟩⟩
    · by_cases c1 : σ.I 16 (σ.I 26 (σ.I 42 k + j)) = 1
      · rw [tc_w va (by omega) (by omega) c1] at t1
        obtain ⟨-, -, -, a1, a2, a3, a4⟩ := z.2.2.2.2.1 c1
        rw [show t = 0 by omega, Int.add_zero] at r
        exact ⟨_, a1, a2.trans e, (hP _ _ a1 (a2.trans e) a3 a4).mp r, j, j0, j1, Or.inr ⟨c1, rfl⟩⟩
      · rw [tc_o va (by omega) (by omega) (by omega)] at t1
        omega
  · rintro ⟨s, s0, sf, p, hs⟩
    obtain ⟨-, j, jj, e0, q⟩ := HT_f va pk k0 k1 hs
    have z := (va.2.2.1 (σ.I 42 k + j) (by omega) (by omega)).2.2
    refine ⟨j, jj.1, jj.2, ⟨by rw [← z.1.1, ← e0]; exact sf, f2⟩, ?_⟩
    rcases q with ⟨f0, i, i0, i1, e⟩ | ⟨f0, e⟩
    · rw [e0] at f0
      have e : σ.I 36 (σ.I 31 (σ.I 42 k + j) + i) = s := e
      obtain ⟨⟨a1, a2, a3, a4⟩, -, -⟩ := (z.2.2.2.1 f0).2 i i0 i1
      rw [e] at a3 a4
      exact ⟨i, i0, by rw [tc_t va (by omega) (by omega) f0]; exact i1, (hP _ s s0 sf a3 a4).mpr p⟩
    · rw [e0] at f0
      obtain ⟨-, -, -, a1, a2, a3, a4⟩ := z.2.2.2.2.1 f0
      rw [e] at a3 a4
      refine ⟨0, Int.le_refl _, by rw [tc_w va (by omega) (by omega) f0]; omega, ?_⟩
      show R (σ.I 582 (σ.I 42 k + j) + 0)
      rw [Int.add_zero]
      exact (hP _ s s0 sf a3 a4).mpr p
/-- an object has a word -/
theorem mht_l (va : rVA σ) (fl : rFL σ) (te : rTE σ) (ob : rOB σ) (pk : rPK σ) {k f i n : Int} {A : Int → Int} (k0 : 0 ≤ k) (k1 : k < σ.I 0 39) (h : σ.I 47 k = 1) (f2 : σ.I 602 f = 1) : mHT σ f A i n k ↔ 0 ≤ ls (tQ σ f A i n) (σ.I 18 7) ∧ HTk σ (ls (tQ σ f A i n) (σ.I 18 7)) k := by
  have key := row_t va fl ob pk k0 k1 h f2 (P := tQ σ f A i n) (R := mT σ A i n) (fun b s s0 sf e1 e2 => by
    constructor
    · rintro ⟨a, c⟩
      refine ⟨⟨sf, by rw [e1]; exact a⟩, fun m m0 m1 => ?_⟩
      have w : σ.I 586 (20 * b + m) = A (i + m) := c m m0 m1
      show σ.I 19 (20 * s + m) = A (i + m)
      rw [e2 m m0 (by rw [a]; exact m1)]
      exact w
    · rintro ⟨⟨a, c⟩, d⟩
      refine ⟨by rw [← e1]; exact c, fun m m0 m1 => ?_⟩
      have w : σ.I 19 (20 * s + m) = A (i + m) := d m m0 m1
      show σ.I 586 (20 * b + m) = A (i + m)
      rw [← e2 m m0 (by rw [← e1, c]; exact m1)]
      exact w)
  unfold mHT mVT
  refine key.trans ?_
  constructor
  · rintro ⟨s, s0, sf, p, q⟩
    have e := tm_is te.1.2 s0.1 s0.2 p
    rw [e]
    exact ⟨s0.1, q⟩
  · rintro ⟨s0, q⟩
    rcases ls_in (tQ σ f A i n) (σ.I 18 7) with z | z
    · omega
    · exact ⟨_, ⟨z.1, z.2.1⟩, z.2.2.1.1, z.2.2, q⟩
/-- counts over the world -/
theorem hv_l (va : rVA σ) (ob : rOB σ) (pk : rPK σ) (wl : WLK σ o) {f : Int} (f2 : σ.I 602 f = 1) : hvX σ (o + 15) f (σ.I 0 39) = hwM σ f := by
  have e39 := ob.1.2
  unfold hvX hwM
  rw [cn_ext (p := fun o => σ.I 601 o = 1 ∧ mHV σ f o) (n := σ.I 0 39) (m := 601) e39.1 (by omega) (fun k k0 k1 q => by have := wl.2.2 k (by omega) k1 q.1; omega)]
  refine cn_cg (fun k k0 k1 => ?_)
  have s := wl.2.1 k k0 k1
  constructor
  · rintro ⟨⟨-, a⟩, b⟩
    have a := s.mp a
    exact ⟨a, (hx_l va ob pk f2 k0 k1 (wl.2.2 k k0 (by omega) a).2).mp b⟩
  · rintro ⟨a, b⟩
    exact ⟨⟨by rw [wl.1.1]; exact k0, s.mpr a⟩, (hx_l va ob pk f2 k0 k1 (wl.2.2 k k0 (by omega) a).2).mpr b⟩
theorem tk_l (va : rVA σ) (ob : rOB σ) (pk : rPK σ) (wl : WLK σ o) {f : Int} (f0 : σ.I 16 f = 0) (f2 : σ.I 602 f = 1) : tkX σ (o + 15) f (σ.I 0 39) = mAT σ f := by
  have e39 := ob.1.2
  unfold tkX mAT
  rw [smP_ex (p := fun o => σ.I 601 o = 1) (n := σ.I 0 39) (m := 601) e39.1 (by omega) (fun k k0 k1 q => by have := wl.2.2 k (by omega) k1 q; omega)]
  refine smP_cg (fun k k0 k1 => ?_) (fun k k0 k1 q => to_l va ob pk f0 f2 k0 k1 (wl.2.2 k k0 (by omega) ((wl.2.1 k k0 k1).mp q.2)).2)
  exact ⟨fun q => (wl.2.1 k k0 k1).mp q.2, fun q => ⟨by rw [wl.1.1]; exact k0, (wl.2.1 k k0 k1).mpr q⟩⟩
theorem dl_l (va : rVA σ) (fl : rFL σ) (te : rTE σ) (ob : rOB σ) (pk : rPK σ) (wl : WLK σ o) {f i n : Int} {A : Int → Int} (f2 : σ.I 602 f = 1) : cn (fun k => σ.I 601 k = 1 ∧ mHT σ f A i n k) 601 = if 0 ≤ ls (tQ σ f A i n) (σ.I 18 7) then owX σ (o + 15) (ls (tQ σ f A i n) (σ.I 18 7)) (tkAt σ (σ.I 0 31)) (σ.I 0 31) else 0 := by
  have e39 := ob.1.2
  rw [cn_ext (p := fun k => σ.I 601 k = 1 ∧ mHT σ f A i n k) (n := σ.I 0 39) (m := 601) e39.1 (by omega) (fun k k0 k1 q => by have := wl.2.2 k (by omega) k1 q.1; omega)]
  by_cases c : 0 ≤ ls (tQ σ f A i n) (σ.I 18 7)
  · rw [if_pos c]
    rcases ls_in (tQ σ f A i n) (σ.I 18 7) with z | z
    · omega
    · rw [ow_l va fl pk z.1 z.2.1 (te.2.2.2.2.1 _ z.1 z.2.1)]
      refine cn_cg (fun k k0 k1 => ?_)
      constructor
      · rintro ⟨a, b⟩
        exact ⟨(wl.2.1 k k0 k1).mpr a, ((mht_l va fl te ob pk k0 k1 (wl.2.2 k k0 (by omega) a).2 f2).mp b).2⟩
      · rintro ⟨a, b⟩
        have a := (wl.2.1 k k0 k1).mp a
        exact ⟨a, (mht_l va fl te ob pk k0 k1 (wl.2.2 k k0 (by omega) a).2 f2).mpr ⟨c, b⟩⟩
  · rw [if_neg c]
    have e := cn_no (p := fun k => σ.I 601 k = 1 ∧ mHT σ f A i n k) (σ.I 0 39).toNat (fun k k0 k1 q => c ((mht_l va fl te ob pk k0 (by omega) (wl.2.2 k k0 (by omega) q.1).2 f2).mp q.2).1)
    rw [Int.toNat_of_nonneg e39.1] at e
    exact e
end LFM2

