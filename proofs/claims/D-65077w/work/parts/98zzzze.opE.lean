/-! contracts: printed by tools/mk.py out of s98zzzze_opE.py -/
set_option maxRecDepth 100000
set_option maxHeartbeats 1200000
/-! objects are removed -/
theorem OB_trH {σ : Sto} (r : rOB σ) : trH σ (σ.I 555 52) := by
  intro k h0 h1
  rw [← r.1.1] at h1
  have z := r.2.1 k h0 h1
  have t := r.2.2.1 k h0 h1
  unfold pH
  by_cases q : σ.I 594 k = 1
  · rw [if_pos q]
    have w := z.2.2 (by rw [z.1]; exact q)
    rw [← w.1.1]
    refine ⟨t.1, t.2, fun h => ?_⟩
    have y := (w.2.2.2 h).1
    rw [← (r.2.1 (σ.I 44 k) h (by omega)).1]
    exact y
  · rw [if_neg q]
    exact ⟨by omega, by omega, fun h => by omega⟩
/-- what is removed is the same on both sides -/
theorem rm_eq {H P G H' P' G' : Int → Int} {Q : Int → Int} {g x n : Int} (hx : 0 ≤ x ∧ x < n) (hg : g + 1 < 2147483647) (hH : ∀ k, 0 ≤ k → k < n → H' k = H k) (hP : ∀ k, 0 ≤ k → k < n → H k = 1 → P' k = P k ∧ G' k = G k ∧ (0 ≤ P k → P k < k ∧ H (P k) = 1 ∧ G k ≤ G (P k)) ∧ (G k = 2147483647 ∨ G k ≤ g + 1))
    (hQ : ∀ k, x < k → k < n → H k = 1 → (bl Q x k ↔ bl Q x (P k))) (hx1 : H x = 1 ∧ G x = 2147483647) :
    ∀ m, x + 1 ≤ m → m ≤ n → (∀ i, 0 ≤ i → i < n → H i = 1 → rm H' P' (fun k => zb (bl Q x k)) g x G' m i = rm H P (fun _ => 1) g x G m i ∧ (rm H P (fun _ => 1) g x G m i = G i ∨ (rm H P (fun _ => 1) g x G m i = g + 1 ∧ bl Q x i ∧ G i = 2147483647)) ∧ (m ≤ i → rm H P (fun _ => 1) g x G m i = G i)) ∧ rc H' P' (fun k => zb (bl Q x k)) g x G' m = rc H P (fun _ => 1) g x G m := by
  have key : ∀ (j : Nat) (m : Int), m = x + 1 + j → m ≤ n → (∀ i, 0 ≤ i → i < n → H i = 1 → rm H' P' (fun k => zb (bl Q x k)) g x G' m i = rm H P (fun _ => 1) g x G m i ∧ (rm H P (fun _ => 1) g x G m i = G i ∨ (rm H P (fun _ => 1) g x G m i = g + 1 ∧ bl Q x i ∧ G i = 2147483647)) ∧ (m ≤ i → rm H P (fun _ => 1) g x G m i = G i)) ∧ rc H' P' (fun k => zb (bl Q x k)) g x G' m = rc H P (fun _ => 1) g x G m := by
    intro j
    induction j with
    | zero =>
      intro m hm hn
      refine ⟨fun i h0 h1 hh => ?_, by rw [rc_0 _ _ _ _ _ _ _ (by omega), rc_0 _ _ _ _ _ _ _ (by omega)]⟩
      rw [rm_0 _ _ _ _ _ _ _ _ (by omega), rm_0 _ _ _ _ _ _ _ _ (by omega)]
      by_cases q : i = x
      · rw [if_pos q, if_pos q]
        exact ⟨rfl, Or.inr ⟨rfl, by rw [q]; exact (bl_0 Q x x (by omega)).mpr rfl, by rw [q]; exact hx1.2⟩, fun h => by omega⟩
      · rw [if_neg q, if_neg q]
        exact ⟨(hP i h0 h1 hh).2.1, Or.inl rfl, fun _ => rfl⟩
    | succ j ih =>
      intro m hm hn
      obtain ⟨a, b⟩ := ih (m - 1) (by omega) (by omega)
      have c : (H' (m - 1) = 1 ∧ rm H' P' (fun k => zb (bl Q x k)) g x G' (m - 1) (m - 1) = 2147483647 ∧ 0 ≤ P' (m - 1) ∧ rm H' P' (fun k => zb (bl Q x k)) g x G' (m - 1) (P' (m - 1)) = g + 1 ∧ zb (bl Q x (m - 1)) = 1) ↔ (H (m - 1) = 1 ∧ rm H P (fun _ => 1) g x G (m - 1) (m - 1) = 2147483647 ∧ 0 ≤ P (m - 1) ∧ rm H P (fun _ => 1) g x G (m - 1) (P (m - 1)) = g + 1 ∧ (1 : Int) = 1) := by
        rw [hH (m - 1) (by omega) (by omega)]
        constructor
        · rintro ⟨c1, c2, c3, c4, -⟩
          have p := hP (m - 1) (by omega) (by omega) c1
          rw [p.1] at c3 c4
          have p2 := p.2.2.1 c3
          rw [(a (m - 1) (by omega) (by omega) c1).1] at c2
          rw [(a (P (m - 1)) c3 (by omega) p2.2.1).1] at c4
          exact ⟨c1, c2, c3, c4, rfl⟩
        · rintro ⟨c1, c2, c3, c4, -⟩
          have p := hP (m - 1) (by omega) (by omega) c1
          have p2 := p.2.2.1 c3
          have a1 := a (m - 1) (by omega) (by omega) c1
          have a2 := a (P (m - 1)) c3 (by omega) p2.2.1
          rw [p.1, a1.1, a2.1]
          refine ⟨c1, c2, c3, c4, ?_⟩
          rw [zb_1, hQ (m - 1) (by omega) (by omega) c1]
          have g1 := a1.2.2 (by omega)
          have p3 := (hP (P (m - 1)) c3 (by omega) p2.2.1).2.2.2
          rcases a2.2.1 with y | y
          · exfalso
            have p4 := p2.2.2
            omega
          · exact y.2.1
      refine ⟨fun i h0 h1 hh => ?_, ?_⟩
      · rw [rm_s _ _ _ _ _ _ (m - 1) m i (by omega) (by omega), rm_s _ _ _ _ _ _ (m - 1) m i (by omega) (by omega)]
        have a3 := a i h0 h1 hh
        by_cases q : (H (m - 1) = 1 ∧ rm H P (fun _ => 1) g x G (m - 1) (m - 1) = 2147483647 ∧ 0 ≤ P (m - 1) ∧ rm H P (fun _ => 1) g x G (m - 1) (P (m - 1)) = g + 1 ∧ (1 : Int) = 1) ∧ i = m - 1
        · rw [if_pos ⟨c.mpr q.1, q.2⟩, if_pos q]
          have y := c.mpr q.1
          refine ⟨rfl, Or.inr ⟨rfl, by rw [q.2]; exact zb_1.mp y.2.2.2.2, ?_⟩, fun h => by omega⟩
          have h3 := a3.2.2 (by omega)
          have q2 := q.1.2.1
          rw [q.2] at h3 ⊢
          omega
        · rw [if_neg (fun y => q ⟨c.mp y.1, y.2⟩), if_neg q]
          exact ⟨a3.1, a3.2.1, fun h => a3.2.2 (by omega)⟩
      · rw [rc_s _ _ _ _ _ _ (m - 1) m (by omega) (by omega), rc_s _ _ _ _ _ _ (m - 1) m (by omega) (by omega), b]
        by_cases q : H (m - 1) = 1 ∧ rm H P (fun _ => 1) g x G (m - 1) (m - 1) = 2147483647 ∧ 0 ≤ P (m - 1) ∧ rm H P (fun _ => 1) g x G (m - 1) (P (m - 1)) = g + 1 ∧ (1 : Int) = 1
        · rw [if_pos (c.mpr q), if_pos q]
        · rw [if_neg (fun y => q (c.mp y)), if_neg q]
  intro m h1 h2
  exact key (m - (x + 1)).toNat m (by omega) h2
/-- a child of what goes goes -/
theorem rm_ch {H P G : Int → Int} {g x n : Int} (hx : 0 ≤ x ∧ x < n) (hg : g + 1 < 2147483647) (hP : ∀ k, 0 ≤ k → k < n → H k = 1 → (0 ≤ P k → P k < k ∧ H (P k) = 1 ∧ G k ≤ G (P k)) ∧ (G k = 2147483647 ∨ G k ≤ g + 1)) (hx1 : H x = 1 ∧ G x = 2147483647) :
    ∀ m, x + 1 ≤ m → m ≤ n → (∀ i, 0 ≤ i → i < m → H i = 1 → 0 ≤ P i → rm H P (fun _ => 1) g x G m i ≤ rm H P (fun _ => 1) g x G m (P i)) ∧ (∀ i, rm H P (fun _ => 1) g x G m i = G i ∨ (rm H P (fun _ => 1) g x G m i = g + 1 ∧ G i = 2147483647)) ∧ ∀ i, m ≤ i → rm H P (fun _ => 1) g x G m i = G i := by
  have key : ∀ (j : Nat) (m : Int), m = x + 1 + j → m ≤ n → (∀ i, 0 ≤ i → i < m → H i = 1 → 0 ≤ P i → rm H P (fun _ => 1) g x G m i ≤ rm H P (fun _ => 1) g x G m (P i)) ∧ (∀ i, rm H P (fun _ => 1) g x G m i = G i ∨ (rm H P (fun _ => 1) g x G m i = g + 1 ∧ G i = 2147483647)) ∧ ∀ i, m ≤ i → rm H P (fun _ => 1) g x G m i = G i := by
    intro j
    induction j with
    | zero =>
      intro m hm hn
      have e : ∀ i, rm H P (fun _ => 1) g x G m i = if i = x then g + 1 else G i := fun i => rm_0 _ _ _ _ _ _ _ _ (by omega)
      refine ⟨fun i h0 h1 hh hp => ?_, fun i => ?_, fun i h => ?_⟩
      · have p := (hP i h0 (by omega) hh).1 hp
        rw [e, e, if_neg (show ¬ P i = x by omega)]
        by_cases q : i = x
        · rw [if_pos q]
          have := p.2.2
          rw [q] at this ⊢
          omega
        · rw [if_neg q]
          exact p.2.2
      · rw [e]
        by_cases q : i = x
        · rw [if_pos q]
          exact Or.inr ⟨rfl, by rw [q]; exact hx1.2⟩
        · rw [if_neg q]
          exact Or.inl rfl
      · rw [e, if_neg (by omega)]
    | succ j ih =>
      intro m hm hn
      obtain ⟨a, b, c⟩ := ih (m - 1) (by omega) (by omega)
      have e : ∀ i, rm H P (fun _ => 1) g x G m i = if (H (m - 1) = 1 ∧ rm H P (fun _ => 1) g x G (m - 1) (m - 1) = 2147483647 ∧ 0 ≤ P (m - 1) ∧ rm H P (fun _ => 1) g x G (m - 1) (P (m - 1)) = g + 1 ∧ (1 : Int) = 1) ∧ i = m - 1 then g + 1 else rm H P (fun _ => 1) g x G (m - 1) i := fun i => rm_s _ _ _ _ _ _ (m - 1) m i (by omega) (by omega)
      refine ⟨fun i h0 h1 hh hp => ?_, fun i => ?_, fun i h => ?_⟩
      · have p := (hP i h0 (by omega) hh).1 hp
        have p2 := (hP i h0 (by omega) hh).2
        rw [e i, e (P i), if_neg (show ¬ (_ ∧ P i = m - 1) from fun y => by have := y.2; omega)]
        by_cases q : i = m - 1
        · subst q
          have c1 := c (m - 1) (by omega)
          by_cases w : H (m - 1) = 1 ∧ rm H P (fun _ => 1) g x G (m - 1) (m - 1) = 2147483647 ∧ 0 ≤ P (m - 1) ∧ rm H P (fun _ => 1) g x G (m - 1) (P (m - 1)) = g + 1 ∧ (1 : Int) = 1
          · rw [if_pos ⟨w, rfl⟩]
            have := w.2.2.2.1
            omega
          · rw [if_neg (fun y => w y.1), c1]
            rcases b (P (m - 1)) with y | y
            · have := p.2.2
              omega
            · have z : ¬ G (m - 1) = 2147483647 := fun z => w ⟨hh, by rw [c1]; exact z, hp, y.1, rfl⟩
              omega
        · rw [if_neg (fun y => q y.2)]
          exact a i h0 (by omega) hh hp
      · rw [e i]
        by_cases w : (H (m - 1) = 1 ∧ rm H P (fun _ => 1) g x G (m - 1) (m - 1) = 2147483647 ∧ 0 ≤ P (m - 1) ∧ rm H P (fun _ => 1) g x G (m - 1) (P (m - 1)) = g + 1 ∧ (1 : Int) = 1) ∧ i = m - 1
        · rw [if_pos w]
          refine Or.inr ⟨rfl, ?_⟩
          have h3 := c i (by omega)
          have w2 := w.1.2.1
          rw [w.2] at h3 ⊢
          omega
        · rw [if_neg w]
          exact b i
      · rw [e i, if_neg (fun y => by have := y.2; omega)]
        exact c i (by omega)
  intro m h1 h2
  exact key (m - (x + 1)).toNat m (by omega) h2
section OPE
variable {E : XE} {d : Nat}

theorem op_remove (hd : 30 ≤ d) : OP_remove E d RR := by
  intro k σ hk r x1 h1
  have ob := r.OB
  have ob1 := ob.1
  have vs := r.VS
  have vs2 := vs.2.1
  have rk := r.RK
  have k2 := rk.2.2.2.1
  have wq : (0 ≤ x1 ∧ x1 < σ.I 555 52 ∧ σ.I 594 x1 = 1 ∧ σ.I 593 x1 = 2147483647) ↔ (0 ≤ x1 ∧ x1 < σ.I 0 39 ∧ σ.I 47 x1 = 1 ∧ σ.I 46 x1 = 2147483647) := by
    rw [← ob.1.1]
    refine and_congr_right fun q0 => and_congr_right fun q1 => ?_
    have z := ob.2.1 x1 q0 q1
    rw [← z.1]
    refine and_congr_right fun q2 => ?_
    rw [(z.2.2 q2).1.2.2.1]
  by_cases w : 0 ≤ x1 ∧ x1 < σ.I 0 39 ∧ σ.I 47 x1 = 1 ∧ σ.I 46 x1 = 2147483647
  · refine OPI.mk (sp_X0_remove (by omega) r.Lay ob.1.2 ob.2.2.1 h1 ⟨by omega, by omega⟩) (fun y σ1 p s1 => by
        have e555_52 : σ1.I 555 52 = σ.I 555 52 := by
          rw [congrFun (congrFun p.2.2 555) 52]
          ((try simp only [at2, rg, fgX, fgM, CQF, and_false, false_and, and_true, true_and, or_false, false_or, or_true, true_or, if_false, if_true, not_false_eq_true, not_true_eq_false])  <;> (repeat' split)) <;> first | rfl | omega
        have e555_54 : σ1.I 555 54 = σ.I 555 54 := by
          rw [congrFun (congrFun p.2.2 555) 54]
          ((try simp only [at2, rg, fgX, fgM, CQF, and_false, false_and, and_true, true_and, or_false, false_or, or_true, true_or, if_false, if_true, not_false_eq_true, not_true_eq_false])  <;> (repeat' split)) <;> first | rfl | omega
        exact sp_X9_remove (by omega) (r.Lay.sf s1) (by rw [e555_52, ← ob.1.1]; exact ob.1.2) (fun k h0 h1 => by
              have S : ∀ (c : Nat) (i : Int), 48 ≤ c → σ1.I c i = σ.I c i := by
                intro c i q
                rw [congrFun (congrFun p.2.2 c) i]
                ((try simp only [at2, rg, fgX, fgM, CQF, and_false, false_and, and_true, true_and, or_false, false_or, or_true, true_or, if_false, if_true, not_false_eq_true, not_true_eq_false])  <;> (repeat' split)) <;> first | rfl | omega
              rw [S 555 52 (by omega)] at h1
              have z := OB_trH ob k h0 h1
              unfold pH at z ⊢
              rw [S 594 k (by omega), S 591 k (by omega), S 594 _ (by omega)]
              exact z) h1 (by rw [e555_54, ← vs.1.2.1]; omega)) ?_
    intro y σ1 z σ2 p s1 g s2
    have S : ∀ (c : Nat) (i : Int), 48 ≤ c → σ1.I c i = σ.I c i := by
      intro c i q
      rw [congrFun (congrFun p.2.2 c) i]
      ((try simp only [at2, rg, fgX, fgM, CQF, and_false, false_and, and_true, true_and, or_false, false_or, or_true, true_or, if_false, if_true, not_false_eq_true, not_true_eq_false])  <;> (repeat' split)) <;> first | rfl | omega
    have SP : pH σ1 = pH σ := by
      funext k
      unfold pH
      rw [S 594 k (by omega), S 591 k (by omega)]
    rw [S 555 52 (by omega), S 555 54 (by omega), show σ1.I 594 = σ.I 594 from funext fun i => S 594 i (by omega), show σ1.I 591 = σ.I 591 from funext fun i => S 591 i (by omega), show σ1.I 593 = σ.I 593 from funext fun i => S 593 i (by omega), SP] at g
    have w3 := wq.mpr w
    have F1 : ∀ (c : Nat) (i : Int), ¬ (c = 46) → σ1.I c i = σ.I c i := by
      intro c i q
      rw [congrFun (congrFun p.2.2 c) i]
      ((try simp only [at2, rg, fgX, fgM, CQF, and_false, false_and, and_true, true_and, or_false, false_or, or_true, true_or, if_false, if_true, not_false_eq_true, not_true_eq_false])  <;> (repeat' split)) <;> first | rfl | (exfalso; omega)
    have F2 : ∀ (c : Nat) (i : Int), ¬ (c = 593) → σ2.I c i = σ1.I c i := by
      intro c i q
      rw [congrFun (congrFun g.2.2 c) i]
      ((try simp only [at2, rg, fgX, fgM, CQF, and_false, false_and, and_true, true_and, or_false, false_or, or_true, true_or, if_false, if_true, not_false_eq_true, not_true_eq_false])  <;> (repeat' split)) <;> first | rfl | (exfalso; omega)
    have F : ∀ (c : Nat) (i : Int), ¬ (c = 46) → ¬ (c = 593) → σ2.I c i = σ.I c i := fun c i a b => (F2 c i b).trans (F1 c i a)
    have hR : σ2.R = σ.R := g.2.1.1.trans p.2.1.1
    have hS : σ2.sh = σ.sh := g.2.1.2.1.trans p.2.1.2.1
    have hN : σ2.n = σ.n := g.2.1.2.2.trans p.2.1.2.2
    have hb : ∀ k, 0 ≤ k → k < σ.I 0 39 → σ.I 47 k = 1 → σ.I 591 k = σ.I 44 k ∧ σ.I 593 k = σ.I 46 k ∧ (0 ≤ σ.I 44 k → σ.I 44 k < k ∧ σ.I 47 (σ.I 44 k) = 1 ∧ σ.I 46 k ≤ σ.I 46 (σ.I 44 k)) ∧ (σ.I 46 k = 2147483647 ∨ σ.I 46 k ≤ σ.I 0 41 + 1) := by
      intro k h0 h1 hh
      have q := (ob.2.1 k h0 h1).2.2 hh
      exact ⟨q.1.1.symm, q.1.2.2.1.symm, fun h => ⟨(ob.2.2.1 k h0 h1).2, (q.2.2.2 h).1, (q.2.2.2 h).2.2⟩, q.2.2.1⟩
    have R1 := rm_eq (H := σ.I 47) (P := σ.I 44) (G := σ.I 46) (H' := σ.I 594) (P' := σ.I 591) (G' := σ.I 593) (Q := pH σ) (g := σ.I 0 41) (x := x1) (n := σ.I 0 39) ⟨w.1, w.2.1⟩ (by omega) (fun k h0 h1 => (ob.2.1 k h0 h1).1.symm) hb (fun k h0 h1 hh => by
      have e := trH_bl (OB_trH ob) w.1 h0 (by rw [← ob.1.1]; exact h1) (by rw [← (ob.2.1 k (by omega) h1).1]; exact hh)
      rw [e, (hb k (by omega) h1 hh).1]) ⟨w.2.2.1, w.2.2.2⟩ (σ.I 0 39) (by omega) (by omega)
    have R2 := rm_ch (H := σ.I 47) (P := σ.I 44) (G := σ.I 46) (g := σ.I 0 41) (x := x1) (n := σ.I 0 39) ⟨w.1, w.2.1⟩ (by omega) (fun k h0 h1 hh => (hb k h0 h1 hh).2.2) ⟨w.2.2.1, w.2.2.2⟩ (σ.I 0 39) (by omega) (by omega)
    have A46 : ∀ i, σ2.I 46 i = rm (σ.I 47) (σ.I 44) (fun _ => 1) (σ.I 0 41) x1 (σ.I 46) (σ.I 0 39) i := by
      intro i
      rw [F2 46 i (by omega), congrFun (congrFun p.2.2 46) i]
      show (if _ then (if 46 = 46 then _ else _) else _) = _
      rw [if_pos w, if_pos rfl]
    have B593 : ∀ i, σ2.I 593 i = rm (σ.I 594) (σ.I 591) (fun k => zb (bl (pH σ) x1 k)) (σ.I 0 41) x1 (σ.I 593) (σ.I 0 39) i := by
      intro i
      rw [congrFun (congrFun g.2.2 593) i]
      show (if _ then (if 593 = 593 then _ else _) else _) = _
      rw [if_pos (wq.mpr w), if_pos rfl, ← vs.1.2.1, ← ob.1.1]
    refine ⟨by rw [g.1, p.1, if_pos w, if_pos (wq.mpr w), ← vs.1.2.1, ← ob.1.1]; exact R1.2, r.Lay.sf (s1.tr s2), RK_cg hS hN (F 0 1 (by omega) (by omega)) (F 0 41 (by omega) (by omega)) (fun i => F 211 i (by omega) (by omega)) r.RK, ?_, ?_, ?_, ?_, ?_, ?_, ?_, ?_, ?_, ?_, ?_, ?_, ?_, ?_, ?_, ?_, ?_, ?_, ?_, ?_, ?_, ?_, ?_, ?_, ?_⟩
    · exact rTP_cg (fun c i h => F c i (by unfold fTP at h; omega) (by unfold fTP at h; omega)) r.TP
    · exact rFL_cg (fun c i h => F c i (by unfold fFL at h; omega) (by unfold fFL at h; omega)) r.FL
    · exact rVS_cg (fun c i h => F c i (by unfold fVS at h; omega) (by unfold fVS at h; omega)) r.VS
    · obtain ⟨o1, o2, o3, o4, o5, o6⟩ := ob
      refine ⟨by rw [F 0 39 (by omega) (by omega), F 555 52 (by omega) (by omega)]; exact o1, fun o h0 h1 => ?_, fun k h0 h1 => ?_, fun o h0 h1 => ?_, fun o h0 h1 => ?_, fun o h0 h1 => ?_⟩
      · rw [F 0 39 (by omega) (by omega)] at h1
        have q := o2 o h0 h1
        rw [F 47 o (by omega) (by omega), F 594 o (by omega) (by omega)]
        refine ⟨q.1, q.2.1, fun y => ?_⟩
        have u := q.2.2 y
        have E1 := R1.1 o h0 h1 y
        have hu : hOb σ o := u
        unfold hOb at hu ⊢
        rw [F 44 o (by omega) (by omega), F 591 o (by omega) (by omega), F 45 o (by omega) (by omega), F 592 o (by omega) (by omega), F 42 o (by omega) (by omega), F 595 o (by omega) (by omega), F 43 o (by omega) (by omega), F 596 o (by omega) (by omega), F 0 41 (by omega) (by omega), F 47 _ (by omega) (by omega), F 45 _ (by omega) (by omega), A46, A46, B593]
        refine ⟨⟨hu.1.1, hu.1.2.1, E1.1.symm, hu.1.2.2.2⟩, ⟨hu.2.1.1, hu.2.1.2.1, ?_⟩, ?_, fun h => ?_⟩
        · have hc := hu.2.1
          rcases E1.2.1 with e | e
          · rw [e]; exact hu.2.1.2.2
          · rw [e.1]; omega
        · rcases E1.2.1 with e | e
          · rw [e]; exact hu.2.2.1
          · rw [e.1]; omega
        · have h2 := hu.2.2.2 h
          exact ⟨h2.1, h2.2.1, (R2.1 o h0 h1 y h)⟩
      · rw [F 0 39 (by omega) (by omega)] at h1
        rw [F 44 k (by omega) (by omega)]
        exact o3 k h0 h1
      · rw [F 42 o (by omega) (by omega), F 43 o (by omega) (by omega)]
        exact o4 o h0 h1
      · rw [F 595 o (by omega) (by omega), F 596 o (by omega) (by omega)]
        exact o5 o h0 h1
      · rw [F 591 o (by omega) (by omega)]
        exact o6 o h0 h1
    · exact rVA_cg (fun c i h => F c i (by unfold fVA at h; omega) (by unfold fVA at h; omega)) r.VA
    · exact rBD_cg (fun c i h => F c i (by unfold fBD at h; omega) (by unfold fBD at h; omega)) r.BD
    · exact rTE_cg (fun c i h => F c i (by unfold fTE at h; omega) (by unfold fTE at h; omega)) r.TE
    · exact rPK_cg (fun c i h => F c i (by unfold fPK at h; omega) (by unfold fPK at h; omega)) r.PK
    · exact rUS_cg (fun c i h => F c i (by unfold fUS at h; omega) (by unfold fUS at h; omega)) r.US
    · exact rFO_cg (fun c i h => F c i (by unfold fFO at h; omega) (by unfold fFO at h; omega)) r.FO
    · exact rSH_cg (fun c i h => F c i (by unfold fSH at h; omega) (by unfold fSH at h; omega)) r.SH
    · exact rSW_cg (fun c i h => F c i (by unfold fSW at h; omega) (by unfold fSW at h; omega)) r.SW
    · exact rHI_cg (fun c i h => F c i (by unfold fHI at h; omega) (by unfold fHI at h; omega)) r.HI
    · exact rLN_cg (fun c i h => F c i (by unfold fLN at h; omega) (by unfold fLN at h; omega)) r.LN
    · exact rMK_cg (fun c i h => F c i (by unfold fMK at h; omega) (by unfold fMK at h; omega)) r.MK
    · exact rGR_cg (fun c i h => F c i (by unfold fGR at h; omega) (by unfold fGR at h; omega)) r.GR
    · exact rTT_cg (fun c i h => F c i (by unfold fTT at h; omega) (by unfold fTT at h; omega)) r.TT
    · exact rMT_cg (fun c i h => F c i (by unfold fMT at h; omega) (by unfold fMT at h; omega)) r.MT
    · exact rSC_cg (fun c i h => F c i (by unfold fSC at h; omega) (by unfold fSC at h; omega)) r.SC
    · exact rQU_cg (fun c i h => F c i (by unfold fQU at h; omega) (by unfold fQU at h; omega)) r.QU
    · exact rKQ_cg (fun c i h => F c i (by unfold fKQ at h; omega) (by unfold fKQ at h; omega)) r.KQ
    · exact rHQ_cg (fun c i h => F c i (by unfold fHQ at h; omega) (by unfold fHQ at h; omega)) r.HQ
    · exact rPP_cg (fun c i h => F c i (by unfold fPP at h; omega) (by unfold fPP at h; omega)) (by rw [hR]) (by rw [hR]) r.PP
    · exact rAN_cg (fun c i h => F c i (by unfold fAN at h; omega) (by unfold fAN at h; omega)) hR hS hN r.AN
    · exact rSE_cg r.SE
  · refine OPI.mk (sp_X0_remove (by omega) r.Lay ob.1.2 ob.2.2.1 h1 ⟨by omega, by omega⟩) (fun y σ1 p s1 => by
        have e555_52 : σ1.I 555 52 = σ.I 555 52 := by
          rw [congrFun (congrFun p.2.2 555) 52]
          ((try simp only [at2, rg, fgX, fgM, CQF, and_false, false_and, and_true, true_and, or_false, false_or, or_true, true_or, if_false, if_true, not_false_eq_true, not_true_eq_false])  <;> (repeat' split)) <;> first | rfl | omega
        have e555_54 : σ1.I 555 54 = σ.I 555 54 := by
          rw [congrFun (congrFun p.2.2 555) 54]
          ((try simp only [at2, rg, fgX, fgM, CQF, and_false, false_and, and_true, true_and, or_false, false_or, or_true, true_or, if_false, if_true, not_false_eq_true, not_true_eq_false])  <;> (repeat' split)) <;> first | rfl | omega
        exact sp_X9_remove (by omega) (r.Lay.sf s1) (by rw [e555_52, ← ob.1.1]; exact ob.1.2) (fun k h0 h1 => by
              have S : ∀ (c : Nat) (i : Int), 48 ≤ c → σ1.I c i = σ.I c i := by
                intro c i q
                rw [congrFun (congrFun p.2.2 c) i]
                ((try simp only [at2, rg, fgX, fgM, CQF, and_false, false_and, and_true, true_and, or_false, false_or, or_true, true_or, if_false, if_true, not_false_eq_true, not_true_eq_false])  <;> (repeat' split)) <;> first | rfl | omega
              rw [S 555 52 (by omega)] at h1
              have z := OB_trH ob k h0 h1
              unfold pH at z ⊢
              rw [S 594 k (by omega), S 591 k (by omega), S 594 _ (by omega)]
              exact z) h1 (by rw [e555_54, ← vs.1.2.1]; omega)) ?_
    intro y σ1 z σ2 p s1 g s2
    have S : ∀ (c : Nat) (i : Int), 48 ≤ c → σ1.I c i = σ.I c i := by
      intro c i q
      rw [congrFun (congrFun p.2.2 c) i]
      ((try simp only [at2, rg, fgX, fgM, CQF, and_false, false_and, and_true, true_and, or_false, false_or, or_true, true_or, if_false, if_true, not_false_eq_true, not_true_eq_false])  <;> (repeat' split)) <;> first | rfl | omega
    have SP : pH σ1 = pH σ := by
      funext k
      unfold pH
      rw [S 594 k (by omega), S 591 k (by omega)]
    rw [S 555 52 (by omega), S 555 54 (by omega), show σ1.I 594 = σ.I 594 from funext fun i => S 594 i (by omega), show σ1.I 591 = σ.I 591 from funext fun i => S 591 i (by omega), show σ1.I 593 = σ.I 593 from funext fun i => S 593 i (by omega), SP] at g
    have w3 := fun q => w (wq.mp q)
    have F1 : ∀ (c : Nat) (i : Int), ¬ (c = 0 ∧ c = 1) → σ1.I c i = σ.I c i := by
      intro c i q
      rw [congrFun (congrFun p.2.2 c) i]
      exact if_neg w
    have F2 : ∀ (c : Nat) (i : Int), ¬ (c = 0 ∧ c = 1) → σ2.I c i = σ1.I c i := by
      intro c i q
      rw [congrFun (congrFun g.2.2 c) i]
      exact if_neg w3
    have F : ∀ (c : Nat) (i : Int), ¬ (c = 0 ∧ c = 1) → ¬ (c = 0 ∧ c = 1) → σ2.I c i = σ.I c i := fun c i a b => (F2 c i b).trans (F1 c i a)
    have hR : σ2.R = σ.R := g.2.1.1.trans p.2.1.1
    have hS : σ2.sh = σ.sh := g.2.1.2.1.trans p.2.1.2.1
    have hN : σ2.n = σ.n := g.2.1.2.2.trans p.2.1.2.2
    refine ⟨by rw [g.1, p.1, if_neg w, if_neg w3], r.Lay.sf (s1.tr s2), RK_cg hS hN (F 0 1 (by omega) (by omega)) (F 0 41 (by omega) (by omega)) (fun i => F 211 i (by omega) (by omega)) r.RK, ?_, ?_, ?_, ?_, ?_, ?_, ?_, ?_, ?_, ?_, ?_, ?_, ?_, ?_, ?_, ?_, ?_, ?_, ?_, ?_, ?_, ?_, ?_, ?_, ?_⟩
    · exact rTP_cg (fun c i h => F c i (by unfold fTP at h; omega) (by unfold fTP at h; omega)) r.TP
    · exact rFL_cg (fun c i h => F c i (by unfold fFL at h; omega) (by unfold fFL at h; omega)) r.FL
    · exact rVS_cg (fun c i h => F c i (by unfold fVS at h; omega) (by unfold fVS at h; omega)) r.VS
    · exact rOB_cg (fun c i h => F c i (by unfold fOB at h; omega) (by unfold fOB at h; omega)) r.OB
    · exact rVA_cg (fun c i h => F c i (by unfold fVA at h; omega) (by unfold fVA at h; omega)) r.VA
    · exact rBD_cg (fun c i h => F c i (by unfold fBD at h; omega) (by unfold fBD at h; omega)) r.BD
    · exact rTE_cg (fun c i h => F c i (by unfold fTE at h; omega) (by unfold fTE at h; omega)) r.TE
    · exact rPK_cg (fun c i h => F c i (by unfold fPK at h; omega) (by unfold fPK at h; omega)) r.PK
    · exact rUS_cg (fun c i h => F c i (by unfold fUS at h; omega) (by unfold fUS at h; omega)) r.US
    · exact rFO_cg (fun c i h => F c i (by unfold fFO at h; omega) (by unfold fFO at h; omega)) r.FO
    · exact rSH_cg (fun c i h => F c i (by unfold fSH at h; omega) (by unfold fSH at h; omega)) r.SH
    · exact rSW_cg (fun c i h => F c i (by unfold fSW at h; omega) (by unfold fSW at h; omega)) r.SW
    · exact rHI_cg (fun c i h => F c i (by unfold fHI at h; omega) (by unfold fHI at h; omega)) r.HI
    · exact rLN_cg (fun c i h => F c i (by unfold fLN at h; omega) (by unfold fLN at h; omega)) r.LN
    · exact rMK_cg (fun c i h => F c i (by unfold fMK at h; omega) (by unfold fMK at h; omega)) r.MK
    · exact rGR_cg (fun c i h => F c i (by unfold fGR at h; omega) (by unfold fGR at h; omega)) r.GR
    · exact rTT_cg (fun c i h => F c i (by unfold fTT at h; omega) (by unfold fTT at h; omega)) r.TT
    · exact rMT_cg (fun c i h => F c i (by unfold fMT at h; omega) (by unfold fMT at h; omega)) r.MT
    · exact rSC_cg (fun c i h => F c i (by unfold fSC at h; omega) (by unfold fSC at h; omega)) r.SC
    · exact rQU_cg (fun c i h => F c i (by unfold fQU at h; omega) (by unfold fQU at h; omega)) r.QU
    · exact rKQ_cg (fun c i h => F c i (by unfold fKQ at h; omega) (by unfold fKQ at h; omega)) r.KQ
    · exact rHQ_cg (fun c i h => F c i (by unfold fHQ at h; omega) (by unfold fHQ at h; omega)) r.HQ
    · exact rPP_cg (fun c i h => F c i (by unfold fPP at h; omega) (by unfold fPP at h; omega)) (by rw [hR]) (by rw [hR]) r.PP
    · exact rAN_cg (fun c i h => F c i (by unfold fAN at h; omega) (by unfold fAN at h; omega)) hR hS hN r.AN
    · exact rSE_cg r.SE
end OPE

