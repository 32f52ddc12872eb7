/-! contracts: printed by tools/mk.py out of s98zzzzzo_tks.py -/
set_option maxRecDepth 100000
set_option maxHeartbeats 2000000
/-! tokens of a text that lies elsewhere -/
theorem fsF_sh {q : Int → Prop} {b n : Int} (b0 : 0 ≤ b) : ∀ (m : Nat) (i : Int), 0 ≤ i → (n - i).toNat = m → fsF q (b + i) (b + n) = if fsF (fun k => q (b + k)) i n = -1 then -1 else b + fsF (fun k => q (b + k)) i n := by
  intro m
  induction m with
  | zero =>
    intro i i0 h
    rw [fsF_e _ _ _ (show b + n ≤ b + i by omega), fsF_e _ _ _ (show n ≤ i by omega), if_pos rfl]
  | succ m ih =>
    intro i i0 h
    by_cases c : q (b + i)
    · rw [fsF_t q (b + i) (b + n) (by omega) c, fsF_t (fun k => q (b + k)) i n (by omega) c, if_neg (by omega)]
    · rw [fsF_f q (b + i) (b + (i + 1)) (b + n) (by omega) (by omega) c, fsF_f (fun k => q (b + k)) i (i + 1) n (by omega) rfl c]
      exact ih (i + 1) (by omega) (by omega)
theorem we_sh {A : Int → Int} {b i to : Int} (b0 : 0 ≤ b) (i0 : 0 ≤ i) : we A (b + i) (b + to) = b + we (fun k => A (b + k)) i to := by
  unfold we
  rw [fsF_sh (q := fun k => ¬ isLet (A k % 256)) b0 _ i i0 rfl]
  by_cases c : fsF (fun k => ¬ isLet (A (b + k) % 256)) i to = -1
  · rw [if_pos c, if_pos rfl, if_pos c]
  · have := fsF_in (fun k => ¬ isLet (A (b + k) % 256)) i to
    rw [if_neg c, if_neg (by omega), if_neg c]
theorem wF_sh {σ : Sto} {a : Int} {A : Int → Int} {b i n : Int} : wF σ a A (b + i) n = wF σ a (fun k => A (b + k)) i n := by
  funext k
  unfold wF
  rw [Int.add_assoc]
theorem tk_sh {σ : Sto} {a : Int} {A : Int → Int} {b f to : Int} (b0 : 0 ≤ b) (f0 : 0 ≤ f) : tk σ a A (b + f) (b + to) (b + f) 0 tl0 = tk σ a (fun k => A (b + k)) f to f 0 tl0 := by
  unfold tk
  refine rs_rel (st := tkS σ a (fun k => A (b + k)) f to) (st' := tkS σ a A (b + f) (b + to)) (I := fun s s' => 0 ≤ s.1 ∧ s' = (b + s.1, s.2)) ?_ ⟨f0, rfl⟩
  rintro ⟨i, p, l⟩ s' ⟨i0, rfl⟩
  have i0 : 0 ≤ i := i0
  have ew := we_sh (A := A) (to := to) b0 i0
  have en : we A (b + i) (b + to) - (b + i) = we (fun k => A (b + k)) i to - i := by omega
  have en2 : we A (b + i) (b + to) - (b + f) = we (fun k => A (b + k)) i to - f := by omega
  have en3 : b + i - (b + f) = i - f := by omega
  have ef := wF_sh (σ := σ) (a := a) (A := A) (b := b) (i := i) (n := we (fun k => A (b + k)) i to - i)
  by_cases c1 : i < to
  · have d1 : b + i < b + to := by omega
    by_cases c2 : isLet (A (b + i) % 256)
    · have wb := we_b (A := fun k => A (b + k)) (to := to) i0 c1 c2
      by_cases c3 : isSt σ a (wF σ a (fun k => A (b + k)) i (we (fun k => A (b + k)) i to - i)) (we (fun k => A (b + k)) i to - i)
      · right
        refine ⟨(we (fun k => A (b + k)) i to, p + 1, l), (b + we (fun k => A (b + k)) i to, p + 1, l), ?_, ?_, by show 0 ≤ we (fun k => A (b + k)) i to; omega, rfl⟩
        · show (if i < to then (if zb (isLet (A (b + i) % 256)) = 1 then (if zb (isSt σ a (wF σ a (fun k => A (b + k)) i (we (fun k => A (b + k)) i to - i)) (we (fun k => A (b + k)) i to - i)) = 1 then _ else _) else _) else _) = _
          rw [if_pos c1, if_pos (zb_t c2), if_pos (zb_t c3)]
        · show (if b + i < b + to then (if zb (isLet (A (b + i) % 256)) = 1 then (if zb (isSt σ a (wF σ a A (b + i) (we A (b + i) (b + to) - (b + i))) (we A (b + i) (b + to) - (b + i))) = 1 then Sum.inl (we A (b + i) (b + to), p + 1, l) else _) else _) else _) = _
          rw [en, ef, ew, if_pos d1, if_pos (zb_t c2), if_pos (zb_t c3)]
      · by_cases c4 : l.1 + (wT σ a (wF σ a (fun k => A (b + k)) i (we (fun k => A (b + k)) i to - i)) (we (fun k => A (b + k)) i to - i)).1 ≤ 250
        · right
          refine ⟨(we (fun k => A (b + k)) i to, p + 1, apT l (wT σ a (wF σ a (fun k => A (b + k)) i (we (fun k => A (b + k)) i to - i)) (we (fun k => A (b + k)) i to - i)) (wT σ a (wF σ a (fun k => A (b + k)) i (we (fun k => A (b + k)) i to - i)) (we (fun k => A (b + k)) i to - i)).1 (i - f) (we (fun k => A (b + k)) i to - f) p), (b + we (fun k => A (b + k)) i to, p + 1, apT l (wT σ a (wF σ a (fun k => A (b + k)) i (we (fun k => A (b + k)) i to - i)) (we (fun k => A (b + k)) i to - i)) (wT σ a (wF σ a (fun k => A (b + k)) i (we (fun k => A (b + k)) i to - i)) (we (fun k => A (b + k)) i to - i)).1 (i - f) (we (fun k => A (b + k)) i to - f) p), ?_, ?_, by show 0 ≤ we (fun k => A (b + k)) i to; omega, rfl⟩
          · show (if i < to then (if zb (isLet (A (b + i) % 256)) = 1 then (if zb (isSt σ a (wF σ a (fun k => A (b + k)) i (we (fun k => A (b + k)) i to - i)) (we (fun k => A (b + k)) i to - i)) = 1 then _ else if l.1 + (wT σ a (wF σ a (fun k => A (b + k)) i (we (fun k => A (b + k)) i to - i)) (we (fun k => A (b + k)) i to - i)).1 ≤ 250 then _ else _) else _) else _) = _
            rw [if_pos c1, if_pos (zb_t c2), if_neg (by rw [zb_f c3]; decide), if_pos c4]
          · show (if b + i < b + to then (if zb (isLet (A (b + i) % 256)) = 1 then (if zb (isSt σ a (wF σ a A (b + i) (we A (b + i) (b + to) - (b + i))) (we A (b + i) (b + to) - (b + i))) = 1 then Sum.inl (we A (b + i) (b + to), p + 1, l) else if l.1 + (wT σ a (wF σ a A (b + i) (we A (b + i) (b + to) - (b + i))) (we A (b + i) (b + to) - (b + i))).1 ≤ 250 then Sum.inl (we A (b + i) (b + to), p + 1, apT l (wT σ a (wF σ a A (b + i) (we A (b + i) (b + to) - (b + i))) (we A (b + i) (b + to) - (b + i))) (wT σ a (wF σ a A (b + i) (we A (b + i) (b + to) - (b + i))) (we A (b + i) (b + to) - (b + i))).1 (b + i - (b + f)) (we A (b + i) (b + to) - (b + f)) p) else _) else _) else _) = _
            rw [en, ef, en2, en3, ew, if_pos d1, if_pos (zb_t c2), if_neg (by rw [zb_f c3]; decide), if_pos c4]
        · left
          refine ⟨l, ?_, ?_⟩
          · show (if i < to then (if zb (isLet (A (b + i) % 256)) = 1 then (if zb (isSt σ a (wF σ a (fun k => A (b + k)) i (we (fun k => A (b + k)) i to - i)) (we (fun k => A (b + k)) i to - i)) = 1 then _ else if l.1 + (wT σ a (wF σ a (fun k => A (b + k)) i (we (fun k => A (b + k)) i to - i)) (we (fun k => A (b + k)) i to - i)).1 ≤ 250 then _ else _) else _) else _) = _
            rw [if_pos c1, if_pos (zb_t c2), if_neg (by rw [zb_f c3]; decide), if_neg c4]
          · show (if b + i < b + to then (if zb (isLet (A (b + i) % 256)) = 1 then (if zb (isSt σ a (wF σ a A (b + i) (we A (b + i) (b + to) - (b + i))) (we A (b + i) (b + to) - (b + i))) = 1 then Sum.inl (we A (b + i) (b + to), p + 1, l) else if l.1 + (wT σ a (wF σ a A (b + i) (we A (b + i) (b + to) - (b + i))) (we A (b + i) (b + to) - (b + i))).1 ≤ 250 then _ else Sum.inr l) else _) else _) = _
            rw [en, ef, if_pos d1, if_pos (zb_t c2), if_neg (by rw [zb_f c3]; decide), if_neg c4]
    · right
      refine ⟨(i + 1, p, l), (b + (i + 1), p, l), ?_, ?_, by show 0 ≤ i + 1; omega, rfl⟩
      · show (if i < to then (if zb (isLet (A (b + i) % 256)) = 1 then _ else _) else _) = _
        rw [if_pos c1, if_neg (by rw [zb_f c2]; decide)]
      · show (if b + i < b + to then (if zb (isLet (A (b + i) % 256)) = 1 then _ else Sum.inl (b + i + 1, p, l)) else _) = _
        rw [if_pos d1, if_neg (by rw [zb_f c2]; decide), Int.add_assoc]
  · left
    refine ⟨l, ?_, ?_⟩
    · show (if i < to then _ else _) = _
      rw [if_neg c1]
    · show (if b + i < b + to then _ else _) = _
      rw [if_neg (by omega)]
/-- the tokens of a question's text are the same for both -/
theorem ls_l {σ : Sto} {o : Nat} {x n : Int} (an : rAN σ) (fl : rFL σ) (nd : NODL σ n) (k7 : σ.I 609 n = 7) (r : ROWL σ o x n) (b75 : 0 ≤ σ.I 555 75) (hb : ∀ i, 0 ≤ i → i < σ.I 555 77 → σ.I (o + 2) i = qb σ i) : lsX σ o x = lsM σ n := by
  obtain ⟨⟨e3, e8, e11⟩, r1, -, -⟩ := r
  have lk : lfk (σ.I 609 n) := Or.inl k7
  obtain ⟨e9, e10⟩ := r1 lk
  have tx := nd.2.2.1 lk
  have ff := fl.2 _ nd.2.1.1 nd.2.1.2
  have g := ff.2.2.1 (nd.2.2.2.1 k7)
  have ae := (an.2.2.2.2.2.2.2 _ g.1 g.2).1
  unfold lsX lsM
  rw [e8, e9, e10, tk_AN ⟨g.1, by have := an.1.2.2; omega⟩ an.2.2.2.2.1 ae, ff.1.2, tk_sh b75 tx.1]
  exact tk_A tx.1 (fun i i0 i1 => hb i (by omega) (by omega))

