/-! contracts: printed by tools/mk.py out of s98zzzzw_opY.py -/
set_option maxRecDepth 100000
set_option maxHeartbeats 3000000
/-! the operation synonym -/
section OPY
variable {E : XE} {d : Nat}

theorem op_synonym (hd : 30 ≤ d) : OP_synonym E d RR := by
  intro k σ hk r x1 h1
  have tp := r.TP
  have tp1 := tp.1
  have rk := r.RK
  have k1 := rk.2.2.1
  have k2 := rk.2.2.2.1
  have an := r.AN
  have an1 := an.1
  have ac := an.2.2.2.2.1
  have n30 : σ.I 0 1 ≤ 29990 := by omega
  have eb : blk (σ.I 557) (σ.I 0 1) = (blk (σ.I 1) (σ.I 0 1)) := by
    unfold blk
    rw [fsF_cg3 (q := fun k => σ.I 1 k = 32) (fun k h0 h1 => by rw [tp.2 k h0 (by omega)])]
  have bi := blk_in (σ.I 1) (σ.I 0 1) tp1.2
  have wok : (0 ≤ x1 ∧ x1 < σ.I 0 4 ∧ zb ((1 ≤ (blk (σ.I 1) (σ.I 0 1)) ∧ (blk (σ.I 1) (σ.I 0 1)) ≤ 20) ∧ letA (σ.I 557) 0 (blk (σ.I 1) (σ.I 0 1))) = 1 ∧ zb ((1 ≤ (σ.I 0 1) - ((blk (σ.I 1) (σ.I 0 1)) + 1) ∧ (σ.I 0 1) - ((blk (σ.I 1) (σ.I 0 1)) + 1) ≤ 20) ∧ letA (σ.I 557) ((blk (σ.I 1) (σ.I 0 1)) + 1) ((σ.I 0 1) - ((blk (σ.I 1) (σ.I 0 1)) + 1))) = 1) ↔ ((0 ≤ x1 ∧ x1 < σ.I 0 4) ∧ ((1 ≤ (blk (σ.I 1) (σ.I 0 1)) ∧ (blk (σ.I 1) (σ.I 0 1)) ≤ 20) ∧ letA (σ.I 1) 0 (blk (σ.I 1) (σ.I 0 1))) ∧ ((1 ≤ (σ.I 0 1) - ((blk (σ.I 1) (σ.I 0 1)) + 1) ∧ (σ.I 0 1) - ((blk (σ.I 1) (σ.I 0 1)) + 1) ≤ 20) ∧ letA (σ.I 1) ((blk (σ.I 1) (σ.I 0 1)) + 1) ((σ.I 0 1) - ((blk (σ.I 1) (σ.I 0 1)) + 1)))) := by
    rw [zb_1, zb_1]
    have key : letA (σ.I 557) 0 (blk (σ.I 1) (σ.I 0 1)) ↔ letA (σ.I 1) 0 (blk (σ.I 1) (σ.I 0 1)) := alN_cg (fun k h0 h1 => by rw [Int.zero_add, tp.2 k h0 (by omega)])
    have key2 : letA (σ.I 557) ((blk (σ.I 1) (σ.I 0 1)) + 1) ((σ.I 0 1) - ((blk (σ.I 1) (σ.I 0 1)) + 1)) ↔ letA (σ.I 1) ((blk (σ.I 1) (σ.I 0 1)) + 1) ((σ.I 0 1) - ((blk (σ.I 1) (σ.I 0 1)) + 1)) := alN_cg (fun k h0 h1 => by rw [tp.2 ((blk (σ.I 1) (σ.I 0 1)) + 1 + k) (by omega) (by omega)])
    rw [key, key2]
    constructor
    · rintro ⟨a, b, c, e⟩; exact ⟨⟨a, b⟩, c, e⟩
    · rintro ⟨⟨a, b⟩, c, e⟩; exact ⟨a, b, c, e⟩
  have e562 : 0 ≤ x1 ∧ x1 < σ.I 0 4 → σ.I 562 x1 = σ.I (anC σ x1 + 4) 2 := fun q => (an.2.2.2.2.2.2.2 x1 q.1 q.2).1.2.2.1.1.symm
  have e7' : 0 ≤ x1 ∧ x1 < σ.I 0 4 → σ.I (anC σ x1 + 7) 2 = σ.I (anC σ x1 + 4) 2 := fun q => (an.2.2.2.2.2.2.2 x1 q.1 q.2).1.2.2.1.2.trans (e562 q)

  by_cases w : ((0 ≤ x1 ∧ x1 < σ.I 0 4) ∧ ((1 ≤ (blk (σ.I 1) (σ.I 0 1)) ∧ (blk (σ.I 1) (σ.I 0 1)) ≤ 20) ∧ letA (σ.I 1) 0 (blk (σ.I 1) (σ.I 0 1))) ∧ ((1 ≤ (σ.I 0 1) - ((blk (σ.I 1) (σ.I 0 1)) + 1) ∧ (σ.I 0 1) - ((blk (σ.I 1) (σ.I 0 1)) + 1) ≤ 20) ∧ letA (σ.I 1) ((blk (σ.I 1) (σ.I 0 1)) + 1) ((σ.I 0 1) - ((blk (σ.I 1) (σ.I 0 1)) + 1)))) ∧ σ.I (anC σ x1 + 4) 2 ≠ 20
  · refine OPI.mk (sp_X0_synonym (by omega) r.Lay h1 ⟨tp1.2, n30⟩ an1.2 an.2.1 an.2.2.1 e7') (fun y σ1 p s1 => by
        have SS : (σ1.R = σ.R ∧ σ1.sh = σ.sh ∧ σ1.n = σ.n) ∧ ∀ (c : Nat) (i : Int), 555 ≤ c → c ≤ 674 → σ1.I c i = σ.I c i := by
          clear wok
          have key : RD σ σ1 (fun c i => if at2 c i 0 1 then 0 else σ.I c i) → (σ1.R = σ.R ∧ σ1.sh = σ.sh ∧ σ1.n = σ.n) ∧ ∀ (c : Nat) (i : Int), 555 ≤ c → c ≤ 674 → σ1.I c i = σ.I c i := fun q => by
            refine ⟨q.1, fun c i h h' => ?_⟩
            rw [q.2]
            show (if at2 c i 0 1 then _ else _) = _
            exact if_neg (fun z => by have := z.1; omega)
          rcases p with ⟨_, _, q⟩ | ⟨_, _, _, q⟩ | ⟨q0, _, _, q⟩
          · exact key q
          · exact key q
          · have a := (an.2.1 x1 q0.1.1 q0.1.2).2.2
            refine ⟨q.1, fun c i h h' => ?_⟩
            rw [q.2]
            show (if at2 c i 0 1 then _ else if rg c i _ _ _ then _ else if at2 c i _ _ then _ else if at2 c i _ _ then _ else if rg c i _ _ _ then _ else if at2 c i _ _ then _ else if at2 c i _ _ then _ else _) = _
            rw [if_neg (fun z => by have := z.1; omega), if_neg (fun z => by have := z.1; omega), if_neg (fun z => by have := z.1; omega), if_neg (fun z => by have := z.1; omega), if_neg (fun z => by have := z.1; omega), if_neg (fun z => by have := z.1; omega), if_neg (fun z => by have := z.1; omega)]
        have S := SS.2
        have S' : ∀ c : Nat, 555 ≤ c → c ≤ 674 → σ1.I c = σ.I c := fun c h h' => funext fun i => S c i h h'
        exact sp_X9_synonym (by omega) (r.Lay.sf s1) h1 (by rw [S 555 2 (by omega) (by omega)]; omega) (by rw [S 555 3 (by omega) (by omega)]; omega) (bd_0_20_eq ac.2.2.2.2.1 (S' 562 (by omega) (by omega)))) ?_
    intro y σ1 z σ2 p s1 g s2
    have SS : (σ1.R = σ.R ∧ σ1.sh = σ.sh ∧ σ1.n = σ.n) ∧ ∀ (c : Nat) (i : Int), 555 ≤ c → c ≤ 674 → σ1.I c i = σ.I c i := by
      clear wok
      have key : RD σ σ1 (fun c i => if at2 c i 0 1 then 0 else σ.I c i) → (σ1.R = σ.R ∧ σ1.sh = σ.sh ∧ σ1.n = σ.n) ∧ ∀ (c : Nat) (i : Int), 555 ≤ c → c ≤ 674 → σ1.I c i = σ.I c i := fun q => by
        refine ⟨q.1, fun c i h h' => ?_⟩
        rw [q.2]
        show (if at2 c i 0 1 then _ else _) = _
        exact if_neg (fun z => by have := z.1; omega)
      rcases p with ⟨_, _, q⟩ | ⟨_, _, _, q⟩ | ⟨q0, _, _, q⟩
      · exact key q
      · exact key q
      · have a := (an.2.1 x1 q0.1.1 q0.1.2).2.2
        refine ⟨q.1, fun c i h h' => ?_⟩
        rw [q.2]
        show (if at2 c i 0 1 then _ else if rg c i _ _ _ then _ else if at2 c i _ _ then _ else if at2 c i _ _ then _ else if rg c i _ _ _ then _ else if at2 c i _ _ then _ else if at2 c i _ _ then _ else _) = _
        rw [if_neg (fun z => by have := z.1; omega), if_neg (fun z => by have := z.1; omega), if_neg (fun z => by have := z.1; omega), if_neg (fun z => by have := z.1; omega), if_neg (fun z => by have := z.1; omega), if_neg (fun z => by have := z.1; omega), if_neg (fun z => by have := z.1; omega)]
    have S := SS.2
    have S' : ∀ c : Nat, 555 ≤ c → c ≤ 674 → σ1.I c = σ.I c := fun c h h' => funext fun i => S c i h h'
    rw [S' 557 (by omega) (by omega), S' 562 (by omega) (by omega), S 555 2 (by omega) (by omega), S 555 3 (by omega) (by omega), ← tp1.1, ← an1.1, eb] at g
    obtain ⟨-, -, py, pq⟩ : _ := (p.resolve_left (fun q => q.1 w.1)).resolve_left (fun q => w.2 q.2.1)
    have e1 := e562 w.1.1
    have e7 := e7' w.1.1
    rw [e7] at pq
    have P2 := fun (c : Nat) (i : Int) (h : ¬ (c = 555 ∧ i = 2)) => ((congrFun (congrFun g.2.2 c) i).trans (if_neg h)).trans (if_pos ⟨wok.mpr w.1, by rw [e1]; exact w.2⟩)
    have hy : z = y := by
      rw [g.1, py, if_neg (fun z => z (wok.mpr w.1)), if_neg (by rw [e1]; exact w.2), e1]
    have p01 : σ1.I 0 1 = 0 := by
      rw [pq.2]
      show (if at2 0 1 0 1 then _ else _) = _
      exact if_pos ⟨rfl, rfl⟩
    have g02 : σ2.I 555 2 = 0 := by
      rw [g.2.2]
      show (if at2 555 2 555 2 then _ else _) = _
      exact if_pos ⟨rfl, rfl⟩
    have wx := w.1.1
    have wb := w.1.2.1.1
    have ws := w.1.2.2.1
    have wm := w.2
    have a675 := (an.2.1 x1 wx.1 wx.2).2.2
    have nb := an.2.2.1 x1 wx.1 wx.2
    have b20 := nb.1.2.2.1
    rw [e1] at P2
    clear p wok w
    have F1 : ∀ (c : Nat) (i : Int), ¬ ((c = 0 ∧ i = 1) ∨ (c = anC σ x1 + 5 ∧ 20 * σ.I (anC σ x1 + 4) 2 ≤ i ∧ i < 20 * σ.I (anC σ x1 + 4) 2 + (blk (σ.I 1) (σ.I 0 1))) ∨ (c = anC σ x1 + 6 ∧ i = σ.I (anC σ x1 + 4) 2) ∨ (c = anC σ x1 + 4 ∧ i = 2) ∨ (c = anC σ x1 + 8 ∧ 20 * σ.I (anC σ x1 + 4) 2 ≤ i ∧ i < 20 * σ.I (anC σ x1 + 4) 2 + ((σ.I 0 1) - ((blk (σ.I 1) (σ.I 0 1)) + 1))) ∨ (c = anC σ x1 + 9 ∧ i = σ.I (anC σ x1 + 4) 2) ∨ (c = anC σ x1 + 7 ∧ i = 2)) → σ1.I c i = σ.I c i := by
      intro c i q
      rw [pq.2]
      show (if at2 c i 0 1 then _ else if rg c i _ _ _ then _ else if at2 c i _ _ then _ else if at2 c i _ _ then _ else if rg c i _ _ _ then _ else if at2 c i _ _ then _ else if at2 c i _ _ then _ else _) = _
      rw [if_neg (fun z => by simp only [at2] at z; omega), if_neg (fun z => by simp only [rg] at z; omega), if_neg (fun z => by simp only [at2] at z; omega), if_neg (fun z => by simp only [at2] at z; omega), if_neg (fun z => by simp only [rg] at z; omega), if_neg (fun z => by simp only [at2] at z; omega), if_neg (fun z => by simp only [at2] at z; omega)]
    have F2 : ∀ (c : Nat) (i : Int), ¬ ((c = 555 ∧ i = 2) ∨ (c = 564 ∧ (i = (60 * x1 + 20 + 2 * σ.I (anC σ x1 + 4) 2) ∨ i = (60 * x1 + 20 + 2 * σ.I (anC σ x1 + 4) 2) + 1)) ∨ (c = 563 ∧ ((20 * (60 * x1 + 20 + 2 * σ.I (anC σ x1 + 4) 2) ≤ i ∧ i < 20 * (60 * x1 + 20 + 2 * σ.I (anC σ x1 + 4) 2) + (blk (σ.I 1) (σ.I 0 1))) ∨ (20 * ((60 * x1 + 20 + 2 * σ.I (anC σ x1 + 4) 2) + 1) ≤ i ∧ i < 20 * ((60 * x1 + 20 + 2 * σ.I (anC σ x1 + 4) 2) + 1) + ((σ.I 0 1) - ((blk (σ.I 1) (σ.I 0 1)) + 1))))) ∨ (c = 562 ∧ i = x1)) → σ2.I c i = σ1.I c i := by
      intro c i q
      rw [P2 c i (by omega)]
      show (if at2 c i _ _ then _ else if rg c i _ _ _ then _ else if at2 c i _ _ then _ else if rg c i _ _ _ then _ else if at2 c i _ _ then _ else _) = _
      rw [if_neg (fun z => by simp only [at2] at z; omega), if_neg (fun z => by simp only [rg] at z; omega), if_neg (fun z => by simp only [at2] at z; omega), if_neg (fun z => by simp only [rg] at z; omega), if_neg (fun z => by simp only [at2] at z; omega)]
    have F : ∀ (c : Nat) (i : Int), ¬ ((c = 0 ∧ i = 1) ∨ (c = anC σ x1 + 5 ∧ 20 * σ.I (anC σ x1 + 4) 2 ≤ i ∧ i < 20 * σ.I (anC σ x1 + 4) 2 + (blk (σ.I 1) (σ.I 0 1))) ∨ (c = anC σ x1 + 6 ∧ i = σ.I (anC σ x1 + 4) 2) ∨ (c = anC σ x1 + 4 ∧ i = 2) ∨ (c = anC σ x1 + 8 ∧ 20 * σ.I (anC σ x1 + 4) 2 ≤ i ∧ i < 20 * σ.I (anC σ x1 + 4) 2 + ((σ.I 0 1) - ((blk (σ.I 1) (σ.I 0 1)) + 1))) ∨ (c = anC σ x1 + 9 ∧ i = σ.I (anC σ x1 + 4) 2) ∨ (c = anC σ x1 + 7 ∧ i = 2)) → ¬ ((c = 555 ∧ i = 2) ∨ (c = 564 ∧ (i = (60 * x1 + 20 + 2 * σ.I (anC σ x1 + 4) 2) ∨ i = (60 * x1 + 20 + 2 * σ.I (anC σ x1 + 4) 2) + 1)) ∨ (c = 563 ∧ ((20 * (60 * x1 + 20 + 2 * σ.I (anC σ x1 + 4) 2) ≤ i ∧ i < 20 * (60 * x1 + 20 + 2 * σ.I (anC σ x1 + 4) 2) + (blk (σ.I 1) (σ.I 0 1))) ∨ (20 * ((60 * x1 + 20 + 2 * σ.I (anC σ x1 + 4) 2) + 1) ≤ i ∧ i < 20 * ((60 * x1 + 20 + 2 * σ.I (anC σ x1 + 4) 2) + 1) + ((σ.I 0 1) - ((blk (σ.I 1) (σ.I 0 1)) + 1))))) ∨ (c = 562 ∧ i = x1)) → σ2.I c i = σ.I c i := fun c i a b => (F2 c i b).trans (F1 c i a)
    have hR : σ2.R = σ.R := g.2.1.1.trans SS.1.1
    have hS : σ2.sh = σ.sh := g.2.1.2.1.trans SS.1.2.1
    have hN : σ2.n = σ.n := g.2.1.2.2.trans SS.1.2.2
    have T1 : σ2.I 0 1 = 0 := (F2 0 1 (by omega)).trans p01
    have A5 : ∀ t, 0 ≤ t → t < (blk (σ.I 1) (σ.I 0 1)) → σ2.I (anC σ x1 + 5) (20 * σ.I (anC σ x1 + 4) 2 + t) = σ.I 1 t := by
      intro t t0 t1
      rw [F2 _ _ (by omega), pq.2]
      show (if at2 _ _ 0 1 then _ else if rg _ _ _ _ _ then σ.I 1 (20 * σ.I (anC σ x1 + 4) 2 + t - 20 * σ.I (anC σ x1 + 4) 2) else _) = _
      rw [if_neg (fun z => by have := z.1; omega), if_pos ⟨rfl, by omega, by omega⟩, show 20 * σ.I (anC σ x1 + 4) 2 + t - 20 * σ.I (anC σ x1 + 4) 2 = t by omega]
    have A6 : σ2.I (anC σ x1 + 6) (σ.I (anC σ x1 + 4) 2) = (blk (σ.I 1) (σ.I 0 1)) := by
      rw [F2 _ _ (by omega), pq.2]
      show (if at2 _ _ 0 1 then _ else if rg _ _ _ _ _ then _ else if at2 _ _ _ _ then _ else _) = _
      rw [if_neg (fun z => by have := z.1; omega), if_neg (fun z => by have := z.1; omega), if_pos ⟨rfl, rfl⟩]
    have A4 : σ2.I (anC σ x1 + 4) 2 = σ.I (anC σ x1 + 4) 2 + 1 := by
      rw [F2 _ _ (by omega), pq.2]
      show (if at2 _ _ 0 1 then _ else if rg _ _ _ _ _ then _ else if at2 _ _ _ _ then _ else if at2 _ _ _ _ then _ else _) = _
      rw [if_neg (fun z => by have := z.1; omega), if_neg (fun z => by have := z.1; omega), if_neg (fun z => by have := z.1; omega), if_pos ⟨rfl, rfl⟩]
    have A8 : ∀ t, 0 ≤ t → t < ((σ.I 0 1) - ((blk (σ.I 1) (σ.I 0 1)) + 1)) → σ2.I (anC σ x1 + 8) (20 * σ.I (anC σ x1 + 4) 2 + t) = σ.I 1 ((blk (σ.I 1) (σ.I 0 1)) + 1 + t) := by
      intro t t0 t1
      rw [F2 _ _ (by omega), pq.2]
      show (if at2 _ _ 0 1 then _ else if rg _ _ _ _ _ then _ else if at2 _ _ _ _ then _ else if at2 _ _ _ _ then _ else if rg _ _ _ _ _ then σ.I 1 ((blk (σ.I 1) (σ.I 0 1)) + 1 + (20 * σ.I (anC σ x1 + 4) 2 + t - 20 * σ.I (anC σ x1 + 4) 2)) else _) = _
      rw [if_neg (fun z => by have := z.1; omega), if_neg (fun z => by have := z.1; omega), if_neg (fun z => by have := z.1; omega), if_neg (fun z => by have := z.1; omega), if_pos ⟨rfl, by omega, by omega⟩, show 20 * σ.I (anC σ x1 + 4) 2 + t - 20 * σ.I (anC σ x1 + 4) 2 = t by omega]
    have A9 : σ2.I (anC σ x1 + 9) (σ.I (anC σ x1 + 4) 2) = ((σ.I 0 1) - ((blk (σ.I 1) (σ.I 0 1)) + 1)) := by
      rw [F2 _ _ (by omega), pq.2]
      show (if at2 _ _ 0 1 then _ else if rg _ _ _ _ _ then _ else if at2 _ _ _ _ then _ else if at2 _ _ _ _ then _ else if rg _ _ _ _ _ then _ else if at2 _ _ _ _ then _ else _) = _
      rw [if_neg (fun z => by have := z.1; omega), if_neg (fun z => by have := z.1; omega), if_neg (fun z => by have := z.1; omega), if_neg (fun z => by have := z.1; omega), if_neg (fun z => by have := z.1; omega), if_pos ⟨rfl, rfl⟩]
    have A7 : σ2.I (anC σ x1 + 7) 2 = σ.I (anC σ x1 + 4) 2 + 1 := by
      rw [F2 _ _ (by omega), pq.2]
      show (if at2 _ _ 0 1 then _ else if rg _ _ _ _ _ then _ else if at2 _ _ _ _ then _ else if at2 _ _ _ _ then _ else if rg _ _ _ _ _ then _ else if at2 _ _ _ _ then _ else if at2 _ _ _ _ then _ else _) = _
      rw [if_neg (fun z => by have := z.1; omega), if_neg (fun z => by have := z.1; omega), if_neg (fun z => by have := z.1; omega), if_neg (fun z => by have := z.1; omega), if_neg (fun z => by have := z.1; omega), if_neg (fun z => by have := z.1; omega), if_pos ⟨rfl, rfl⟩]
    have B4 : σ2.I 564 (60 * x1 + 20 + 2 * σ.I (anC σ x1 + 4) 2) = (blk (σ.I 1) (σ.I 0 1)) := by
      rw [P2 _ _ (by omega)]
      show (if at2 _ _ _ _ then _ else _) = _
      rw [if_pos ⟨rfl, rfl⟩]
    have B3 : ∀ t, 0 ≤ t → t < (blk (σ.I 1) (σ.I 0 1)) → σ2.I 563 (20 * (60 * x1 + 20 + 2 * σ.I (anC σ x1 + 4) 2) + t) = σ.I 1 t := by
      intro t t0 t1
      rw [P2 _ _ (by omega)]
      show (if at2 _ _ _ _ then _ else if rg _ _ _ _ _ then σ.I 557 (20 * (60 * x1 + 20 + 2 * σ.I (anC σ x1 + 4) 2) + t - 20 * (60 * x1 + 20 + 2 * σ.I (anC σ x1 + 4) 2)) else _) = _
      rw [if_neg (fun z => by have := z.1; have := z.2; omega), if_pos ⟨rfl, by omega, by omega⟩, show 20 * (60 * x1 + 20 + 2 * σ.I (anC σ x1 + 4) 2) + t - 20 * (60 * x1 + 20 + 2 * σ.I (anC σ x1 + 4) 2) = t by omega]
      exact (tp.2 t t0 (by omega)).symm
    have C4 : σ2.I 564 ((60 * x1 + 20 + 2 * σ.I (anC σ x1 + 4) 2) + 1) = ((σ.I 0 1) - ((blk (σ.I 1) (σ.I 0 1)) + 1)) := by
      rw [P2 _ _ (by omega)]
      show (if at2 _ _ _ _ then _ else if rg _ _ _ _ _ then _ else if at2 _ _ _ _ then _ else _) = _
      rw [if_neg (fun z => by have := z.1; have := z.2; omega), if_neg (fun z => by have := z.1; have := z.2; omega), if_pos ⟨rfl, rfl⟩]
    have C3 : ∀ t, 0 ≤ t → t < ((σ.I 0 1) - ((blk (σ.I 1) (σ.I 0 1)) + 1)) → σ2.I 563 (20 * ((60 * x1 + 20 + 2 * σ.I (anC σ x1 + 4) 2) + 1) + t) = σ.I 1 ((blk (σ.I 1) (σ.I 0 1)) + 1 + t) := by
      intro t t0 t1
      rw [P2 _ _ (by omega)]
      show (if at2 _ _ _ _ then _ else if rg _ _ _ _ _ then _ else if at2 _ _ _ _ then _ else if rg _ _ _ _ _ then σ.I 557 ((blk (σ.I 1) (σ.I 0 1)) + 1 + (20 * ((60 * x1 + 20 + 2 * σ.I (anC σ x1 + 4) 2) + 1) + t - 20 * ((60 * x1 + 20 + 2 * σ.I (anC σ x1 + 4) 2) + 1))) else _) = _
      rw [if_neg (fun z => by have := z.1; have := z.2; omega), if_neg (fun z => by have := z.1; have := z.2; omega), if_neg (fun z => by have := z.1; have := z.2; omega), if_pos ⟨rfl, by omega, by omega⟩, show 20 * ((60 * x1 + 20 + 2 * σ.I (anC σ x1 + 4) 2) + 1) + t - 20 * ((60 * x1 + 20 + 2 * σ.I (anC σ x1 + 4) 2) + 1) = t by omega]
      exact (tp.2 _ (by omega) (by omega)).symm
    have B2 : σ2.I 562 x1 = σ.I (anC σ x1 + 4) 2 + 1 := by
      rw [P2 _ _ (by omega)]
      show (if at2 _ _ _ _ then _ else if rg _ _ _ _ _ then _ else if at2 _ _ _ _ then _ else if rg _ _ _ _ _ then _ else if at2 _ _ _ _ then _ else _) = _
      rw [if_neg (fun z => by have := z.1; have := z.2; omega), if_neg (fun z => by have := z.1; have := z.2; omega), if_neg (fun z => by have := z.1; have := z.2; omega), if_neg (fun z => by have := z.1; have := z.2; omega), if_pos ⟨rfl, rfl⟩]
    have nb2 : ANBs σ2 (anC σ x1) := by
      obtain ⟨⟨q1, q2, q3, q4⟩, q5, q6⟩ := nb
      refine ⟨⟨by rw [F _ 1 (by omega) (by omega)]; exact q1, by rw [F _ 2 (by omega) (by omega)]; exact q2, by rw [A4]; omega, fun k k0 k1 => ?_⟩, by rw [F _ 2 (by omega) (by omega)]; exact q5, fun i i0 i1 => by rw [F _ i (by omega) (by omega)]; exact q6 i i0 i1⟩
      by_cases e : k = σ.I (anC σ x1 + 4) 2
      · rw [e, A6, A9]; omega
      · rw [F _ k (by omega) (by omega), F _ k (by omega) (by omega)]; exact q4 k k0 k1
    refine ⟨hy, r.Lay.sf (s1.tr s2), RK_c1 hS hN (by rw [T1]; omega) (by rw [F 0 41 (by omega) (by omega)]; omega) (fun i h0 h1 => by rw [F 211 i (by omega) (by omega)]; have := rk.2.2.2.2 i h0 h1; omega) rk, ?_, ?_, ?_, ?_, ?_, ?_, ?_, ?_, ?_, ?_, ?_, ?_, ?_, ?_, ?_, ?_, ?_, ?_, ?_, ?_, ?_, ?_, ?_, ?_, ?_⟩
    · exact ⟨⟨T1.trans g02.symm, by rw [T1]; omega⟩, fun i h0 h1 => by rw [F 1 i (by omega) (by omega), F 557 i (by omega) (by omega)]; exact tp.2 i h0 h1⟩
    · exact rFL_cg (fun c i h => F c i (by unfold fFL at h; omega) (by unfold fFL at h; omega)) r.FL
    · exact rVS_cg (fun c i h => F c i (by unfold fVS at h; omega) (by unfold fVS at h; omega)) r.VS
    · exact rOB_cg (fun c i h => F c i (by unfold fOB at h; omega) (by unfold fOB at h; omega)) r.OB
    · exact rVA_cg (fun c i h => F c i (by unfold fVA at h; omega) (by unfold fVA at h; omega)) r.VA
    · exact rBD_cg (fun c i h => F c i (by unfold fBD at h; omega) (by unfold fBD at h; omega)) r.BD
    · exact rTE_cg (fun c i h => F c i (by unfold fTE at h; omega) (by unfold fTE at h; omega)) r.TE
    · exact rPK_cg (fun c i h => F c i (by unfold fPK at h; omega) (by unfold fPK at h; omega)) r.PK
    · exact rUS_cg (fun c i h => F c i (by unfold fUS at h; omega) (by unfold fUS at h; omega)) r.US
    · exact rFO_cg (fun c i h => F c i (by unfold fFO at h; omega) (by unfold fFO at h; omega)) r.FO
    · exact rSH_cg (fun c i h => F c i (by unfold fSH at h; omega) (by unfold fSH at h; omega)) r.SH
    · exact rSW_cg (fun c i h => F c i (by unfold fSW at h; omega) (by unfold fSW at h; omega)) r.SW
    · exact rHI_cg (fun c i h => F c i (by unfold fHI at h; omega) (by unfold fHI at h; omega)) r.HI
    · exact rLN_cg (fun c i h => F c i (by unfold fLN at h; omega) (by unfold fLN at h; omega)) r.LN
    · exact rMK_cg (fun c i h => F c i (by unfold fMK at h; omega) (by unfold fMK at h; omega)) r.MK
    · exact rGR_cg (fun c i h => F c i (by unfold fGR at h; omega) (by unfold fGR at h; omega)) r.GR
    · exact rTT_cg (fun c i h => F c i (by unfold fTT at h; omega) (by unfold fTT at h; omega)) r.TT
    · exact rMT_cg (fun c i h => F c i (by unfold fMT at h; omega) (by unfold fMT at h; omega)) r.MT
    · exact rSC_cg (fun c i h => F c i (by unfold fSC at h; omega) (by unfold fSC at h; omega)) r.SC
    · exact rQU_cg (fun c i h => F c i (by unfold fQU at h; omega) (by unfold fQU at h; omega)) r.QU
    · exact rKQ_cg (fun c i h => F c i (by unfold fKQ at h; omega) (by unfold fKQ at h; omega)) r.KQ
    · exact rHQ_cg (fun c i h => F c i (by unfold fHQ at h; omega) (by unfold fHQ at h; omega)) r.HQ
    · exact rPP_cg (fun c i h => F c i (by unfold fPP at h; omega) (by unfold fPP at h; omega)) (by rw [hR]) (by rw [hR]) r.PP
    · refine AN_up an wx hR hS hN (F 0 4 (by omega) (by omega)) (F 555 3 (by omega) (by omega)) (fun c i h0 h1 => F c i (by omega) (by omega)) (fun c k h0 h1 h2 => F c k (by omega) (by omega)) (fun i h => F 564 i (by omega) (by omega)) (fun i h => F 563 i (by omega) (by omega)) ?_ nb2 ?_
      · obtain ⟨⟨u1, u2, u3⟩, ⟨v1, v2⟩, ⟨w1, w2⟩, y9⟩ := (an.2.2.2.2.2.2.2 x1 wx.1 wx.2).1
        have b1 := ac.2.2.2.1 x1 wx.1 (by omega)
        refine ⟨⟨?_, ?_, ?_⟩, ⟨?_, fun j j0 j1 => ?_⟩, ⟨A4.trans B2.symm, A7.trans B2.symm⟩, fun j j0 j1 => ?_⟩
        · rw [F _ 0 (by omega) (by omega), F 558 x1 (by omega) (by omega)]; exact u1
        · rw [F _ 1 (by omega) (by omega), F 559 x1 (by omega) (by omega)]; exact u2
        · rw [F _ 2 (by omega) (by omega), F 560 x1 (by omega) (by omega)]; exact u3
        · rw [F _ 2 (by omega) (by omega), F 561 x1 (by omega) (by omega)]; exact v1
        · rw [F 561 x1 (by omega) (by omega)] at j1
          have s := v2 j j0 j1
          have s2 := nb.2.2 j j0 (by omega)
          rw [F _ j (by omega) (by omega), F 564 _ (by omega) (by omega)]
          refine ⟨s.1, fun t t0 t1 => ?_⟩
          rw [F _ _ (by omega) (by omega), F 563 _ (by omega) (by omega)]
          exact s.2 t t0 t1
        · rw [B2] at j1
          by_cases e : j = σ.I (anC σ x1 + 4) 2
          · rw [e, A6, B4, A9, C4]
            exact ⟨⟨rfl, fun t t0 t1 => (A5 t t0 t1).trans (B3 t t0 t1).symm⟩, rfl, fun t t0 t1 => (A8 t t0 t1).trans (C3 t t0 t1).symm⟩
          · have s := y9 j j0 (by omega)
            have s2 := nb.1.2.2.2 j j0 (by omega)
            rw [F (anC σ x1 + 6) j (by omega) (by omega), F (anC σ x1 + 9) j (by omega) (by omega), F 564 _ (by omega) (by omega), F 564 _ (by omega) (by omega)]
            refine ⟨⟨s.1.1, fun t t0 t1 => ?_⟩, s.2.1, fun t t0 t1 => ?_⟩
            · rw [F _ _ (by omega) (by omega), F 563 _ (by omega) (by omega)]
              exact s.1.2 t t0 t1
            · rw [F _ _ (by omega) (by omega), F 563 _ (by omega) (by omega)]
              exact s.2.2 t t0 t1
      · refine ⟨bd_0_1_eq ac.1 (funext fun i => F 558 i (by omega) (by omega)), bd_0_2_eq ac.2.1 (funext fun i => F 559 i (by omega) (by omega)), bd_0_5_eq ac.2.2.1 (funext fun i => F 560 i (by omega) (by omega)), bd_0_20_eq ac.2.2.2.1 (funext fun i => F 561 i (by omega) (by omega)), fun i i0 i1 => ?_, fun i i0 i1 => ?_⟩
        · by_cases e : i = x1
          · rw [e, B2]; omega
          · rw [F 562 i (by omega) (by omega)]; exact ac.2.2.2.2.1 i i0 i1
        · by_cases e : i = (60 * x1 + 20 + 2 * σ.I (anC σ x1 + 4) 2)
          · rw [e, B4]; omega
          · by_cases e2 : i = (60 * x1 + 20 + 2 * σ.I (anC σ x1 + 4) 2) + 1
            · rw [e2, C4]; omega
            · rw [F 564 i (by omega) (by omega)]; exact ac.2.2.2.2.2 i i0 i1
    · exact rSE_cg r.SE
  · refine OPI.mk (sp_X0_synonym (by omega) r.Lay h1 ⟨tp1.2, n30⟩ an1.2 an.2.1 an.2.2.1 e7') (fun y σ1 p s1 => by
        have SS : (σ1.R = σ.R ∧ σ1.sh = σ.sh ∧ σ1.n = σ.n) ∧ ∀ (c : Nat) (i : Int), 555 ≤ c → c ≤ 674 → σ1.I c i = σ.I c i := by
          clear wok
          have key : RD σ σ1 (fun c i => if at2 c i 0 1 then 0 else σ.I c i) → (σ1.R = σ.R ∧ σ1.sh = σ.sh ∧ σ1.n = σ.n) ∧ ∀ (c : Nat) (i : Int), 555 ≤ c → c ≤ 674 → σ1.I c i = σ.I c i := fun q => by
            refine ⟨q.1, fun c i h h' => ?_⟩
            rw [q.2]
            show (if at2 c i 0 1 then _ else _) = _
            exact if_neg (fun z => by have := z.1; omega)
          rcases p with ⟨_, _, q⟩ | ⟨_, _, _, q⟩ | ⟨q0, _, _, q⟩
          · exact key q
          · exact key q
          · have a := (an.2.1 x1 q0.1.1 q0.1.2).2.2
            refine ⟨q.1, fun c i h h' => ?_⟩
            rw [q.2]
            show (if at2 c i 0 1 then _ else if rg c i _ _ _ then _ else if at2 c i _ _ then _ else if at2 c i _ _ then _ else if rg c i _ _ _ then _ else if at2 c i _ _ then _ else if at2 c i _ _ then _ else _) = _
            rw [if_neg (fun z => by have := z.1; omega), if_neg (fun z => by have := z.1; omega), if_neg (fun z => by have := z.1; omega), if_neg (fun z => by have := z.1; omega), if_neg (fun z => by have := z.1; omega), if_neg (fun z => by have := z.1; omega), if_neg (fun z => by have := z.1; omega)]
        have S := SS.2
        have S' : ∀ c : Nat, 555 ≤ c → c ≤ 674 → σ1.I c = σ.I c := fun c h h' => funext fun i => S c i h h'
        exact sp_X9_synonym (by omega) (r.Lay.sf s1) h1 (by rw [S 555 2 (by omega) (by omega)]; omega) (by rw [S 555 3 (by omega) (by omega)]; omega) (bd_0_20_eq ac.2.2.2.2.1 (S' 562 (by omega) (by omega)))) ?_
    intro y σ1 z σ2 p s1 g s2
    have SS : (σ1.R = σ.R ∧ σ1.sh = σ.sh ∧ σ1.n = σ.n) ∧ ∀ (c : Nat) (i : Int), 555 ≤ c → c ≤ 674 → σ1.I c i = σ.I c i := by
      clear wok
      have key : RD σ σ1 (fun c i => if at2 c i 0 1 then 0 else σ.I c i) → (σ1.R = σ.R ∧ σ1.sh = σ.sh ∧ σ1.n = σ.n) ∧ ∀ (c : Nat) (i : Int), 555 ≤ c → c ≤ 674 → σ1.I c i = σ.I c i := fun q => by
        refine ⟨q.1, fun c i h h' => ?_⟩
        rw [q.2]
        show (if at2 c i 0 1 then _ else _) = _
        exact if_neg (fun z => by have := z.1; omega)
      rcases p with ⟨_, _, q⟩ | ⟨_, _, _, q⟩ | ⟨q0, _, _, q⟩
      · exact key q
      · exact key q
      · have a := (an.2.1 x1 q0.1.1 q0.1.2).2.2
        refine ⟨q.1, fun c i h h' => ?_⟩
        rw [q.2]
        show (if at2 c i 0 1 then _ else if rg c i _ _ _ then _ else if at2 c i _ _ then _ else if at2 c i _ _ then _ else if rg c i _ _ _ then _ else if at2 c i _ _ then _ else if at2 c i _ _ then _ else _) = _
        rw [if_neg (fun z => by have := z.1; omega), if_neg (fun z => by have := z.1; omega), if_neg (fun z => by have := z.1; omega), if_neg (fun z => by have := z.1; omega), if_neg (fun z => by have := z.1; omega), if_neg (fun z => by have := z.1; omega), if_neg (fun z => by have := z.1; omega)]
    have S := SS.2
    have S' : ∀ c : Nat, 555 ≤ c → c ≤ 674 → σ1.I c = σ.I c := fun c h h' => funext fun i => S c i h h'
    rw [S' 557 (by omega) (by omega), S' 562 (by omega) (by omega), S 555 2 (by omega) (by omega), S 555 3 (by omega) (by omega), ← tp1.1, ← an1.1, eb] at g
    have pq : RD σ σ1 (fun c i => if at2 c i 0 1 then 0 else σ.I c i) := by
      rcases p with ⟨_, _, q⟩ | ⟨_, _, _, q⟩ | ⟨q0, q1, _⟩
      · exact q
      · exact q
      · exact absurd ⟨q0, q1⟩ w
    have nW : ¬ ((0 ≤ x1 ∧ x1 < σ.I 0 4 ∧ zb ((1 ≤ (blk (σ.I 1) (σ.I 0 1)) ∧ (blk (σ.I 1) (σ.I 0 1)) ≤ 20) ∧ letA (σ.I 557) 0 (blk (σ.I 1) (σ.I 0 1))) = 1 ∧ zb ((1 ≤ (σ.I 0 1) - ((blk (σ.I 1) (σ.I 0 1)) + 1) ∧ (σ.I 0 1) - ((blk (σ.I 1) (σ.I 0 1)) + 1) ≤ 20) ∧ letA (σ.I 557) ((blk (σ.I 1) (σ.I 0 1)) + 1) ((σ.I 0 1) - ((blk (σ.I 1) (σ.I 0 1)) + 1))) = 1) ∧ ¬ σ.I 562 x1 = 20) := fun z => w ⟨wok.mp z.1, by rw [← e562 (wok.mp z.1).1]; exact z.2⟩
    have hy : z = y := by
      rcases p with ⟨q, e, _⟩ | ⟨q, q2, e, _⟩ | ⟨q, q2, _⟩
      · rw [g.1, e, if_pos (fun z => q (wok.mp z))]
      · rw [g.1, e, if_neg (fun z => z (wok.mpr q)), if_pos (by rw [e562 q.1]; exact q2)]
      · exact absurd ⟨q, q2⟩ w
    have p01 : σ1.I 0 1 = 0 := by
      rw [pq.2]
      show (if at2 0 1 0 1 then _ else _) = _
      exact if_pos ⟨rfl, rfl⟩
    have g02 : σ2.I 555 2 = 0 := by
      rw [g.2.2]
      show (if at2 555 2 555 2 then _ else _) = _
      exact if_pos ⟨rfl, rfl⟩
    have nWh : Hd _ := nW
    clear p wok nW w
    have F1 : ∀ (c : Nat) (i : Int), ¬ (c = 0 ∧ i = 1) → σ1.I c i = σ.I c i := by
      intro c i q
      rw [pq.2]
      show (if at2 c i 0 1 then _ else _) = _
      exact if_neg q
    have F2 : ∀ (c : Nat) (i : Int), ¬ (c = 555 ∧ i = 2) → σ2.I c i = σ1.I c i := by
      intro c i q
      rw [g.2.2]
      show (if at2 c i 555 2 then _ else _) = _
      exact (if_neg q).trans (if_neg nWh)
    have F : ∀ (c : Nat) (i : Int), ¬ (c = 0 ∧ i = 1) → ¬ (c = 555 ∧ i = 2) → σ2.I c i = σ.I c i := fun c i a b => (F2 c i b).trans (F1 c i a)
    have hR : σ2.R = σ.R := g.2.1.1.trans SS.1.1
    have hS : σ2.sh = σ.sh := g.2.1.2.1.trans SS.1.2.1
    have hN : σ2.n = σ.n := g.2.1.2.2.trans SS.1.2.2
    have T1 : σ2.I 0 1 = 0 := (F2 0 1 (by omega)).trans p01
    refine ⟨hy, r.Lay.sf (s1.tr s2), RK_c1 hS hN (by rw [T1]; omega) (by rw [F 0 41 (by omega) (by omega)]; omega) (fun i h0 h1 => by rw [F 211 i (by omega) (by omega)]; have := rk.2.2.2.2 i h0 h1; omega) rk, ?_, ?_, ?_, ?_, ?_, ?_, ?_, ?_, ?_, ?_, ?_, ?_, ?_, ?_, ?_, ?_, ?_, ?_, ?_, ?_, ?_, ?_, ?_, ?_, ?_⟩
    · exact ⟨⟨T1.trans g02.symm, by rw [T1]; omega⟩, fun i h0 h1 => by rw [F 1 i (by omega) (by omega), F 557 i (by omega) (by omega)]; exact tp.2 i h0 h1⟩
    · exact rFL_cg (fun c i h => F c i (by unfold fFL at h; omega) (by unfold fFL at h; omega)) r.FL
    · exact rVS_cg (fun c i h => F c i (by unfold fVS at h; omega) (by unfold fVS at h; omega)) r.VS
    · exact rOB_cg (fun c i h => F c i (by unfold fOB at h; omega) (by unfold fOB at h; omega)) r.OB
    · exact rVA_cg (fun c i h => F c i (by unfold fVA at h; omega) (by unfold fVA at h; omega)) r.VA
    · exact rBD_cg (fun c i h => F c i (by unfold fBD at h; omega) (by unfold fBD at h; omega)) r.BD
    · exact rTE_cg (fun c i h => F c i (by unfold fTE at h; omega) (by unfold fTE at h; omega)) r.TE
    · exact rPK_cg (fun c i h => F c i (by unfold fPK at h; omega) (by unfold fPK at h; omega)) r.PK
    · exact rUS_cg (fun c i h => F c i (by unfold fUS at h; omega) (by unfold fUS at h; omega)) r.US
    · exact rFO_cg (fun c i h => F c i (by unfold fFO at h; omega) (by unfold fFO at h; omega)) r.FO
    · exact rSH_cg (fun c i h => F c i (by unfold fSH at h; omega) (by unfold fSH at h; omega)) r.SH
    · exact rSW_cg (fun c i h => F c i (by unfold fSW at h; omega) (by unfold fSW at h; omega)) r.SW
    · exact rHI_cg (fun c i h => F c i (by unfold fHI at h; omega) (by unfold fHI at h; omega)) r.HI
    · exact rLN_cg (fun c i h => F c i (by unfold fLN at h; omega) (by unfold fLN at h; omega)) r.LN
    · exact rMK_cg (fun c i h => F c i (by unfold fMK at h; omega) (by unfold fMK at h; omega)) r.MK
    · exact rGR_cg (fun c i h => F c i (by unfold fGR at h; omega) (by unfold fGR at h; omega)) r.GR
    · exact rTT_cg (fun c i h => F c i (by unfold fTT at h; omega) (by unfold fTT at h; omega)) r.TT
    · exact rMT_cg (fun c i h => F c i (by unfold fMT at h; omega) (by unfold fMT at h; omega)) r.MT
    · exact rSC_cg (fun c i h => F c i (by unfold fSC at h; omega) (by unfold fSC at h; omega)) r.SC
    · exact rQU_cg (fun c i h => F c i (by unfold fQU at h; omega) (by unfold fQU at h; omega)) r.QU
    · exact rKQ_cg (fun c i h => F c i (by unfold fKQ at h; omega) (by unfold fKQ at h; omega)) r.KQ
    · exact rHQ_cg (fun c i h => F c i (by unfold fHQ at h; omega) (by unfold fHQ at h; omega)) r.HQ
    · exact rPP_cg (fun c i h => F c i (by unfold fPP at h; omega) (by unfold fPP at h; omega)) (by rw [hR]) (by rw [hR]) r.PP
    · exact rAN_cg (fun c i h => F c i (by unfold fAN at h; omega) (by unfold fAN at h; omega)) hR hS hN r.AN
    · exact rSE_cg r.SE
end OPY

