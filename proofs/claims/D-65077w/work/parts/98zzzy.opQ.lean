/-! contracts: printed by tools/mk.py out of s98zzzy_opQ.py -/
set_option maxRecDepth 100000
set_option maxHeartbeats 400000
/-! operations that only tell -/
section OPQ
variable {E : XE} {d : Nat}
theorem op_hit (hd : 30 ≤ d) : OP_hit E d RR := by
  intro k σ hk r x1 h1
  have q := r.HI
  refine OPI.q (sp_X0_hit (by omega) r.Lay h1 q.1.2) (sp_X9_hit (by omega) r.Lay h1 (by rw [← q.1.1]; exact q.1.2)) ?_ (RR.up k σ r)
  rw [← q.1.1]
  split
  · rename_i w
    exact (q.2.1 x1 w.1 w.2).1.1.symm
  · rfl
theorem op_score (hd : 30 ≤ d) : OP_score E d RR := by
  intro k σ hk r x1 h1
  have q := r.HI
  refine OPL.q (sp_X0_score (by omega) r.Lay h1 q.1.2) (sp_X9_score (by omega) r.Lay h1 (by rw [← q.1.1]; exact q.1.2)) ?_ (RR.up k σ r)
  rw [← q.1.1]
  split
  · rename_i w
    exact (q.2.1 x1 w.1 w.2).1.2.symm
  · rfl
theorem tell4 {n x1 x2 a b c e : Int} {F : Int → Int} (h : 0 ≤ x1 ∧ x1 < n → a = F (4 * x1) ∧ b = F (4 * x1 + 1) ∧ c = F (4 * x1 + 2) ∧ e = F (4 * x1 + 3)) : (if ¬ (0 ≤ x1 ∧ x1 < n) ∨ x2 < 0 ∨ 3 < x2 then (-1 : Int) else F (4 * x1 + x2)) = (if ¬ (0 ≤ x1 ∧ x1 < n) then -1 else if x2 = 0 then a else if x2 = 1 then b else if x2 = 2 then c else if x2 = 3 then e else -1) := by
  by_cases w : 0 ≤ x1 ∧ x1 < n
  · obtain ⟨p1, p2, p3, p4⟩ := h w
    rw [if_neg (show ¬ ¬ (0 ≤ x1 ∧ x1 < n) from fun z => z w)]
    by_cases c0 : x2 = 0
    · rw [if_neg (by omega), if_pos c0, c0, Int.add_zero, p1]
    rw [if_neg c0]
    by_cases c1 : x2 = 1
    · rw [if_neg (by omega), if_pos c1, c1, p2]
    rw [if_neg c1]
    by_cases c2 : x2 = 2
    · rw [if_neg (by omega), if_pos c2, c2, p3]
    rw [if_neg c2]
    by_cases c3 : x2 = 3
    · rw [if_neg (by omega), if_pos c3, c3, p4]
    rw [if_neg c3, if_pos (by omega)]
  · rw [if_pos (Or.inl w), if_pos w]
theorem tell3 {n x1 x2 a b c : Int} {F : Int → Int} (h : 0 ≤ x1 ∧ x1 < n → a = F (3 * x1) ∧ b = F (3 * x1 + 1) ∧ c = F (3 * x1 + 2)) : (if ¬ (0 ≤ x1 ∧ x1 < n) ∨ x2 < 0 ∨ 2 < x2 then (-1 : Int) else F (3 * x1 + x2)) = (if ¬ (0 ≤ x1 ∧ x1 < n) then -1 else if x2 = 0 then a else if x2 = 1 then b else if x2 = 2 then c else -1) := by
  by_cases w : 0 ≤ x1 ∧ x1 < n
  · obtain ⟨p1, p2, p3⟩ := h w
    rw [if_neg (show ¬ ¬ (0 ≤ x1 ∧ x1 < n) from fun z => z w)]
    by_cases c0 : x2 = 0
    · rw [if_neg (by omega), if_pos c0, c0, Int.add_zero, p1]
    rw [if_neg c0]
    by_cases c1 : x2 = 1
    · rw [if_neg (by omega), if_pos c1, c1, p2]
    rw [if_neg c1]
    by_cases c2 : x2 = 2
    · rw [if_neg (by omega), if_pos c2, c2, p3]
    rw [if_neg c2, if_pos (by omega)]
  · rw [if_pos (Or.inl w), if_pos w]
theorem op_token (hd : 30 ≤ d) : OP_token E d RR := by
  intro k σ hk r x1 x2 h1 h2
  have q := r.SW
  refine OPI.q (sp_X0_token (by omega) r.Lay h1 h2 q.1.2) (sp_X9_token (by omega) r.Lay h1 h2 (by rw [← q.1.1]; exact q.1.2)) ?_ (RR.up k σ r)
  rw [← q.1.1]
  exact tell4 (F := σ.I 575) (fun w => (q.2.2 x1 w.1 w.2).1)
theorem op_line (hd : 30 ≤ d) : OP_line E d RR := by
  intro k σ hk r x1 x2 h1 h2
  have q := r.LN
  refine OPL.q (sp_X0_line (by omega) r.Lay h1 h2 ⟨q.1.2.1, by have := q.1.2.2; omega⟩) (sp_X9_line (by omega) r.Lay h1 h2 (by rw [← q.1.1]; exact q.1.2)) ?_ (RR.up k σ r)
  rw [← q.1.1]
  exact tell4 (F := σ.I 653) (fun w => q.2 x1 w.1 w.2)
theorem op_mark (hd : 30 ≤ d) : OP_mark E d RR := by
  intro k σ hk r x1 x2 h1 h2
  have q := r.MK
  refine OPI.q (sp_X0_mark (by omega) r.Lay h1 h2 q.1.2) (sp_X9_mark (by omega) r.Lay h1 h2 (by rw [← q.1.1]; exact q.1.2)) ?_ (RR.up k σ r)
  rw [← q.1.1]
  exact tell3 (F := σ.I 655) (fun w => q.2 x1 w.1 w.2)
theorem op_term (hd : 30 ≤ d) : OP_term E d RR := by
  intro k σ hk r x1 x2 h1 h2
  have q := r.TT
  refine OPI.q (sp_X0_term (by omega) r.Lay h1 h2 q.1.2) (sp_X9_term (by omega) r.Lay h1 h2 (by rw [← q.1.1]; exact q.1.2)) ?_ (RR.up k σ r)
  rw [← q.1.1]
  exact tell3 (F := σ.I 668) (fun w => (q.2.2.2 x1 w.1 w.2).1)
theorem tellB {n x1 x2 a b : Int} {F G : Int → Int} (h : 0 ≤ x1 ∧ x1 < n → a = b ∧ ∀ k, 0 ≤ k → k < a → F k = G k) : (if (0 ≤ x1 ∧ x1 < n) ∧ (0 ≤ x2 ∧ x2 < b) then G x2 % 256 else (-1 : Int)) = (if (0 ≤ x1 ∧ x1 < n) ∧ (0 ≤ x2 ∧ x2 < a) then F x2 % 256 else -1) := by
  by_cases w : 0 ≤ x1 ∧ x1 < n
  · obtain ⟨p1, p2⟩ := h w
    subst p1
    by_cases c0 : 0 ≤ x2 ∧ x2 < a
    · rw [if_pos ⟨w, c0⟩, if_pos ⟨w, c0⟩, p2 x2 c0.1 c0.2]
    · rw [if_neg (fun z => c0 z.2), if_neg (fun z => c0 z.2)]
  · rw [if_neg (fun z => w z.1), if_neg (fun z => w z.1)]
theorem op_letter (hd : 30 ≤ d) : OP_letter E d RR := by
  intro k σ hk r x1 x2 h1 h2
  have q := r.SW
  have p3 : 0 ≤ x1 ∧ x1 < σ.I 555 24 → σ.I 575 (4 * x1 + 3) ≤ 20 := fun w => by
    rw [← q.1.1] at w
    rw [← (q.2.2 x1 w.1 w.2).1.2.2.2]
    exact (q.2.1 x1 w.1 (by have := q.1.2.2; omega)).2
  refine OPI.q (sp_X0_letter (by omega) r.Lay h1 h2 q.1.2 q.2.1) (sp_X9_letter (by omega) r.Lay h1 h2 (by rw [← q.1.1]; exact q.1.2) p3) ?_ (RR.up k σ r)
  rw [← q.1.1]
  exact tellB (F := fun j => σ.I 5 (20 * x1 + j)) (G := fun j => σ.I 576 (20 * x1 + j)) (fun w => ⟨(q.2.2 x1 w.1 w.2).1.2.2.2, (q.2.2 x1 w.1 w.2).2⟩)
theorem op_termByte (hd : 30 ≤ d) : OP_termByte E d RR := by
  intro k σ hk r x1 x2 h1 h2
  have q := r.TT
  refine OPI.q (sp_X0_termByte (by omega) r.Lay h1 h2 q.1.2 q.2.1) (sp_X9_termByte (by omega) r.Lay h1 h2 (by rw [← q.1.1]; exact q.1.2) q.2.2.1.1 q.2.2.1.2) ?_ (RR.up k σ r)
  rw [← q.1.1]
  exact tellB (F := fun j => σ.I 204 (20 * x1 + j)) (G := fun j => σ.I 667 (20 * x1 + j)) (fun w => ⟨(q.2.2.2 x1 w.1 w.2).1.1, (q.2.2.2 x1 w.1 w.2).2⟩)
theorem op_matched (hd : 30 ≤ d) : OP_matched E d RR := by
  intro k σ hk r x1 h1
  have q := r.MT
  refine OPI.q (sp_X0_matched (by omega) r.Lay h1 q.1.2) (sp_X9_matched (by omega) r.Lay h1 (by rw [← q.1.1]; exact q.1.2)) ?_ (RR.up k σ r)
  rw [← q.1.1]
  split
  · rename_i w
    exact (q.2 x1 w.1 w.2).symm
  · rfl
theorem nOf_cg {F G : Int → Int} {n s : Int} (hn : 1 ≤ n ∧ n ≤ 8) (hs : 0 ≤ s) (h : ∀ i, 0 ≤ i → i < 8 → F i = G i) : nOf G n s = nOf F n s := by
  have a1 : 0 ≤ tm s n ∧ tm s n < n := by
    unfold tm
    exact ⟨Int.tmod_nonneg n hs, Int.tmod_lt_of_pos s (by omega)⟩
  have a2 : 0 ≤ tm (s + 1) n ∧ tm (s + 1) n < n := by
    unfold tm
    exact ⟨Int.tmod_nonneg n (by omega), Int.tmod_lt_of_pos (s + 1) (by omega)⟩
  unfold nOf
  rw [h (tm s n) a1.1 (by omega), h (tm (s + 1) n) a2.1 (by omega)]
theorem op_route (hd : 30 ≤ d) : OP_route E d RR := by
  intro k σ hk r x1 h1
  have q := r.SH
  refine OPI.q (sp_X0_route (by omega) r.Lay q.2.1.2 q.1.2 h1) (sp_X9_route (by omega) r.Lay (by rw [← q.2.1.1]; exact q.2.1.2) (by rw [← q.1.1]; exact q.1.2) h1) ?_ (RR.up k σ r)
  rw [← q.1.1, ← q.2.1.1]
  by_cases w : 0 ≤ x1 ∧ x1 < 600
  · have e : nOf (σ.I 598) (σ.I 0 96) (tm x1 (σ.I 0 95)) = nOf (σ.I 210) (σ.I 0 96) (tm x1 (σ.I 0 95)) := nOf_cg q.2.1.2 (by unfold tm; exact Int.tmod_nonneg _ w.1) (fun i h0 h1 => (q.2.2 i h0 h1).1)
    rw [e]
  · rw [if_pos w, if_pos w]
theorem op_asked (hd : 30 ≤ d) : OP_asked E d RR := by
  intro k σ hk r x1 h1
  have q := r.SH
  refine OPI.q (sp_X0_asked (by omega) r.Lay q.2.1.2 h1) (sp_X9_asked (by omega) r.Lay (by rw [← q.2.1.1]; exact q.2.1.2) h1) ?_ (RR.up k σ r)
  rw [← q.2.1.1]
  split
  · rename_i w
    exact (q.2.2 x1 w.1 (by have := q.2.1.2.2; omega)).2.2.1.symm
  · rfl
theorem op_written (hd : 30 ≤ d) : OP_written E d RR := by
  intro k σ hk r x1 h1
  obtain ⟨q1, a, b, ra, rb, rc, rd⟩ := r.PP
  have L := r.Lay
  refine OPI.q (sp_X0_written (by omega) L h1 q1.2) (sp_X9_written (by omega) L h1 ⟨a, ra, ?_⟩ (by rw [← q1.1]; exact q1.2)) ?_ (RR.up k σ r)
  · rcases rc with ⟨rfl, -⟩ | ⟨rfl, -⟩
    · exact s_673 L
    · exact s_674 L
  rw [← q1.1, ra]
  show (if 0 ≤ x1 ∧ x1 < σ.I 0 100 then σ.I a x1 % 256 else -1) = _
  split
  · rename_i w
    rw [rd x1 w.1 w.2]
  · rfl
/-- tokens of the model begin in the order of values -/
theorem VA_582 {σ : Sto} (r : rVA σ) (h : rFL σ) : ∀ v, 0 ≤ v → v ≤ σ.I 0 20 → σ.I 582 v ≤ σ.I 0 29 + σ.I 0 30 := by
  have hc := r.2.1.2.1
  rw [← r.1.1.1, r.1.1.2.2.2] at hc
  refine up_ind (by omega) ?_
  intro v h0 h1 ih
  have z := (r.2.2.1 v h0 h1).2.2
  have f := (h.2 (σ.I 26 v) z.1.2.1 z.1.2.2).2.1
  obtain ⟨-, -, z3, z4, z5, z6, -⟩ := z
  by_cases c0 : σ.I 16 (σ.I 26 v) = 0
  · have := (z4 c0).1; omega
  by_cases c1 : σ.I 16 (σ.I 26 v) = 1
  · have := (z5 c1).1; omega
  have := (z6 (by omega)).1
  omega
theorem GR_p {k : Nat} {σ : Sto} (r : RR k σ) : (bd_0_36499 σ 196 (σ.I 0 79) ∨ σ.I 0 80 = 0) ∧ (bd_0_23999 σ 658 (σ.I 555 135) ∨ σ.I 555 141 = 0) := by
  have q := r.GR
  have t := r.TE
  have va := r.VA
  have y3 := VA_582 va r.FL (σ.I 0 31) va.1.2.1.1 va.1.2.1.2.1
  have y4 := va.1.2.2.2
  have y5 := t.2.1
  have y6 := t.2.2.1
  by_cases g : 0 < σ.I 0 79
  · have e := q.2.1 g
    rcases e.2 with w | w
    · exact ⟨Or.inr w, Or.inr (by rw [← e.1]; exact w)⟩
    · refine ⟨Or.inl (fun i h0 h1 => ?_), Or.inl (fun i h0 h1 => ?_)⟩
      · have y := ((q.2.2 i h0 h1).2.2 w).1
        omega
      · rw [← q.1.1] at h1
        have y := ((q.2.2 i h0 h1).2.2 w).2.1
        omega
  · have := q.1
    refine ⟨Or.inl (fun i h0 h1 => ?_), Or.inl (fun i h0 h1 => ?_)⟩
    · omega
    · omega
theorem tellG {n x1 x2 a b c a' b' c' : Int} (h : 0 ≤ x1 ∧ x1 < n → a = a' ∧ b = b' ∧ c = c') : (if ¬ (0 ≤ x1 ∧ x1 < n) ∨ x2 < 0 ∨ 2 < x2 then (-1 : Int) else if x2 = 0 then a' else if x2 = 1 then b' else if x2 = 2 then c' else -1) = (if ¬ (0 ≤ x1 ∧ x1 < n) then -1 else if x2 = 0 then a else if x2 = 1 then b else if x2 = 2 then c else -1) := by
  by_cases w : 0 ≤ x1 ∧ x1 < n
  · obtain ⟨rfl, rfl, rfl⟩ := h w
    by_cases c0 : x2 < 0 ∨ 2 < x2
    · rw [if_pos (Or.inr c0), if_neg (show ¬ ¬ (0 ≤ x1 ∧ x1 < n) from fun z => z w), if_neg (show ¬ x2 = 0 by omega), if_neg (show ¬ x2 = 1 by omega), if_neg (show ¬ x2 = 2 by omega)]
    · rw [if_neg (show ¬ (¬ (0 ≤ x1 ∧ x1 < n) ∨ x2 < 0 ∨ 2 < x2) from fun z => z.elim (fun y => y w) c0), if_neg (show ¬ ¬ (0 ≤ x1 ∧ x1 < n) from fun z => z w)]
  · rw [if_pos (Or.inl w), if_pos w]
theorem op_group (hd : 30 ≤ d) : OP_group E d RR := by
  intro k σ hk r x1 x2 h1 h2
  have q := r.GR
  have hb := r.BD
  refine OPI.q (sp_X0_group (by omega) r.Lay h1 h2 q.1.2 (GR_p r).1 hb.2.2.2.2.1) (sp_X9_group (by omega) r.Lay h1 h2 (by rw [← q.1.1]; exact q.1.2) (GR_p r).2 hb.2.1) ?_ (RR.up k σ r)
  rw [← q.1.1]
  refine tellG (fun g => ?_)
  have e := q.2.1 (by omega)
  have z := q.2.2 x1 g.1 g.2
  refine ⟨z.1.1, z.1.2, ?_⟩
  rw [← e.1]
  rcases e.2 with w | w
  · have n1 : ¬ σ.I 0 80 = 1 := by omega
    rw [if_neg n1, if_neg n1]
  · rw [if_pos w, if_pos w, (z.2.2 w).2.2.1]
theorem op_groupOf (hd : 30 ≤ d) : OP_groupOf E d RR := by
  intro k σ hk r x1 x2 h1 h2
  have q := r.GR
  have hb := r.BD
  refine OPL.q (sp_X0_groupOf (by omega) r.Lay h1 h2 q.1.2 (GR_p r).1 hb.2.2.2.2.1) (sp_X9_groupOf (by omega) r.Lay h1 h2 (by rw [← q.1.1]; exact q.1.2) (GR_p r).2 hb.2.1) ?_ (RR.up k σ r)
  rw [← q.1.1]
  by_cases g : ¬ (0 ≤ x1 ∧ x1 < σ.I 0 79) ∨ x2 < 0
  · rw [if_pos g, if_pos g]
  rw [if_neg g, if_neg g]
  have g1 : 0 ≤ x1 ∧ x1 < σ.I 0 79 := Classical.byContradiction fun w => g (Or.inl w)
  have g2 : 0 ≤ x2 := by omega
  have e := q.2.1 (by omega)
  have z := q.2.2 x1 g1.1 g1.2
  rw [← e.1]
  rcases e.2 with w | w
  · rw [if_pos w, if_pos w, z.2.1 w]
  · have y := z.2.2 w
    have nz : ¬ σ.I 0 80 = 0 := by omega
    rw [if_neg nz, if_neg nz, ← y.2.2.1]
    by_cases c1 : x2 < σ.I 21 (σ.I 196 x1)
    · rw [if_pos c1, if_pos c1, y.2.2.2 x2 g2 c1]
    · rw [if_neg c1, if_neg c1]
theorem smP_nn {p : Int → Prop} {f : Int → Int} : ∀ m : Nat, (∀ k, 0 ≤ k → k < (m : Int) → 0 ≤ f k) → 0 ≤ smP p f m := by
  intro m
  induction m with
  | zero => intro _; rw [smP_0 p f _ (by omega)]; omega
  | succ m ih =>
    intro h
    have a := ih (fun k h0 h1 => h k h0 (by omega))
    have b := h m (by omega) (by omega)
    rw [smP_e p f (m : Int) ((m + 1 : Nat) : Int) (by omega) (by omega)]
    rcases Classical.em (p m) with q | q
    · rw [zb_t q]; omega
    · rw [zb_f q]; omega
theorem smP_n0 {p : Int → Prop} {f : Int → Int} {n : Int} (h : ∀ k, 0 ≤ k → k < n → 0 ≤ f k) : 0 ≤ smP p f n := by
  by_cases q : 0 ≤ n
  · have := smP_nn (p := p) (f := f) n.toNat (fun k h0 h1 => h k h0 (by omega))
    rwa [show ((n.toNat : Nat) : Int) = n by omega] at this
  · rw [smP_0 p f n (by omega)]; omega
theorem VA_29 {σ : Sto} (r : rVA σ) : 0 ≤ σ.I 0 29 ∧ 0 ≤ σ.I 0 30 := by
  have a := smP_n0 (p := fun _ => True) (f := σ.I 32) (n := σ.I 0 20) (fun v h0 h1 => (r.2.2.1 v h0 h1).2.2.2.2.1.1)
  have b := cn_in (isWv σ) (σ.I 0 20)
  rw [r.2.1.2.2.2.1, r.2.1.2.2.2.2]
  omega
/-- who is there in a version -/
theorem inV_cg {σ : Sto} (r : rOB σ) (v o : Int) (h0 : 0 ≤ o) (h1 : o < σ.I 0 39) : inV (σ.I 594) (σ.I 592) (σ.I 593) v o ↔ inV (σ.I 47) (σ.I 45) (σ.I 46) v o := by
  have z := r.2.1 o h0 h1
  unfold inV
  rw [← z.1]
  constructor
  · rintro ⟨a, b, c⟩
    have w := (z.2.2 a).1
    exact ⟨a, by rw [w.2.1]; exact b, by rw [w.2.2.1]; exact c⟩
  · rintro ⟨a, b, c⟩
    have w := (z.2.2 a).1
    exact ⟨a, by rw [← w.2.1]; exact b, by rw [← w.2.2.1]; exact c⟩
theorem op_told (hd : 30 ≤ d) : OP_told E d RR := by
  intro k σ hk r x1 h1
  have vs := r.VS
  have ob := r.OB
  have va := r.VA
  have c29 := VA_29 va
  have c30 := va.1.2.2.2
  refine OPI.q (sp_X0_told (by omega) r.Lay h1 ob.1.2 (by omega) (by omega) ⟨va.1.2.1.1, va.1.2.1.2.1⟩) (sp_X9_told (by omega) r.Lay h1 (by rw [← ob.1.1]; exact ob.1.2) (by rw [← va.1.1.1, ← va.1.1.2.1]; exact ⟨va.1.2.1.1, va.1.2.1.2.1⟩)) ?_ (RR.up k σ r)
  have e1 : cn (inV (σ.I 594) (σ.I 592) (σ.I 593) (σ.I 555 53)) (σ.I 555 52) = cn (inV (σ.I 47) (σ.I 45) (σ.I 46) (σ.I 0 40)) (σ.I 0 39) := by
    rw [← vs.1.1, ← ob.1.1]
    exact cn_cg (fun o h0 h1 => inV_cg ob (σ.I 0 40) o h0 h1)
  have e3 : cn (fun k => σ.I 594 k = 1) (σ.I 555 52) = cn (fun k => σ.I 47 k = 1) (σ.I 0 39) := by
    rw [← ob.1.1]
    exact cn_cg (fun o h0 h1 => by show σ.I 594 o = 1 ↔ σ.I 47 o = 1; rw [(ob.2.1 o h0 h1).1])
  rw [e1, e3, ← vs.1.1, ← vs.1.2.2, ← va.1.1.2.2.1, va.1.1.2.2.2, ← va.1.1.1, ← va.1.1.2.1, ← r.TP.1.1, ← r.AN.1.1, ← r.FL.1.1, ← ob.1.1]
end OPQ

