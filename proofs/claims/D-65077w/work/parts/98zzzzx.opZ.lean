/-! contracts: printed by tools/mk.py out of s98zzzzx_opZ.py -/
set_option maxRecDepth 100000
set_option maxHeartbeats 3000000
/-! the operation analyser -/
theorem anN_0 {σ : Sto} {a b w : Nat} {k : Int} (h0 : σ.n ≤ a) (h1 : a < σ.n + 10) : (anN (σ.al 110 7) b w).I a k = 0 := by
  show (if a = σ.n + 9 then 0 else if a = σ.n + 8 then 0 else if a = σ.n + 7 then 0 else if a = σ.n + 6 then 0 else if a = σ.n + 5 then 0 else if a = σ.n + 4 then 0 else if a = σ.n + 3 then 0 else if a = σ.n + 2 then 0 else if a = σ.n + 1 then 0 else if a = σ.n then 0 else σ.I a k) = 0
  repeat' split
  all_goals first | rfl | omega
theorem ANG_f {σ ρ : Sto} {b : Nat} (r : rAN σ) (hn : 675 ≤ σ.n) (h4 : 0 ≤ σ.I 0 4 ∧ σ.I 0 4 < 6) (hg : ANG σ ρ b) : (∀ (c : Nat) (i : Int), c < σ.n → ρ.I c i = σ.I c i) ∧ (σ.n ≤ ρ.n ∧ ρ.n ≤ σ.n + 10 ∧ b + 10 ≤ ρ.n) ∧ ssum ρ ≤ ssum σ + 1276 ∧ stB ρ b ∧ (∀ (a : Nat) (k : Int), ¬ (a = 3 ∧ k = σ.I 0 4) → a < σ.n → ρ.R a k = σ.R a k) ∧ ρ.R 3 (σ.I 0 4) = some b ∧ ∀ k a, 0 ≤ k → k < 6 → k ≠ σ.I 0 4 → σ.R 3 k = some a → a + 10 ≤ b ∨ b + 10 ≤ a := by
  obtain ⟨r1, r2, r3, r4, r5, r6, r7, r8⟩ := r
  rcases hg with ⟨g1, rfl⟩ | ⟨g1, g2, g3⟩
  · have z := r6 _ h4.1 h4.2 b g1
    refine ⟨fun _ _ _ => rfl, ⟨Nat.le_refl _, by omega, z.1⟩, by omega, z.2, fun _ _ _ _ => rfl, g1, fun k a p q e ha => ?_⟩
    rcases (show k < ρ.I 0 4 ∨ ρ.I 0 4 < k by omega) with w | w
    · exact r7 k _ _ _ p w h4.2 ha g1
    · have := r7 _ k _ _ h4.1 w q g1 ha
      omega
  · have e1 : ρ.I = (anN (σ.al 110 7) b 2).I := by rw [g3]; rfl
    have e2 : ρ.n = σ.n + 10 := by rw [g3]; rfl
    have e3 : ssum ρ = ssum σ + 1276 := by rw [g3]; exact (anN_sum (σ := σ) (b := b) (w := 2))
    refine ⟨fun c i h => by rw [e1]; exact anN_I h, by omega, by omega, fun j j0 j1 => ?_, fun a k e h => ?_, by rw [g3]; exact R_ws, fun k a p q e ha => Or.inl (by rw [g2]; exact (r6 k p q a ha).1)⟩
    · rw [e1, anN_0 (by omega) (by omega), anN_0 (by omega) (by omega), anN_0 (by omega) (by omega)]
      omega
    · rw [g3, R_wR e]
      show ((anB (anB (anB (σ.al 110 7) b 3) b 4) b 5).wR b 6 (some 2)).R a k = _
      rw [R_wR (by omega), anB_R (show a < σ.n + 1 + 3 + 3 by omega) (by omega), anB_R (show a < σ.n + 1 + 3 by omega) (by omega), anB_R (show a < σ.n + 1 by omega) (by omega)]
      exact R_al (by omega)
theorem AN_new {σ τ : Sto} {b : Nat} {x y z : Int} (r : rAN σ) (h6 : σ.I 0 4 < 6) (ok : okG x y z) (hn : σ.n ≤ τ.n) (hb : b + 10 ≤ τ.n) (b675 : 675 ≤ b) (hA : ∀ c, At10 σ c → At10 τ c) (hAb : At10 τ b)
    (hR : ∀ k, 0 ≤ k → k < 6 → k ≠ σ.I 0 4 → τ.R 3 k = σ.R 3 k) (hRb : τ.R 3 (σ.I 0 4) = some b) (hap : ∀ k a, 0 ≤ k → k < 6 → k ≠ σ.I 0 4 → σ.R 3 k = some a → a + 10 ≤ b ∨ b + 10 ≤ a) (h4 : τ.I 0 4 = σ.I 0 4 + 1) (h3 : τ.I 555 3 = σ.I 0 4 + 1)
    (ho : ∀ (c : Nat) (i : Int), 675 ≤ c → c < σ.n → ¬ (b ≤ c ∧ c ≤ b + 9) → τ.I c i = σ.I c i) (hm : ∀ (c : Nat) (k : Int), 558 ≤ c → c ≤ 562 → k ≠ σ.I 0 4 → τ.I c k = σ.I c k) (h63 : τ.I 563 = σ.I 563) (h64 : τ.I 564 = σ.I 564)
    (nx : (τ.I b 0 = x ∧ τ.I b 1 = y ∧ τ.I b 2 = z) ∧ τ.I (b + 1) 2 = 0 ∧ τ.I (b + 4) 2 = 0 ∧ τ.I (b + 7) 2 = 0) (nm : (τ.I 558 (σ.I 0 4) = x ∧ τ.I 559 (σ.I 0 4) = y ∧ τ.I 560 (σ.I 0 4) = z) ∧ τ.I 561 (σ.I 0 4) = 0 ∧ τ.I 562 (σ.I 0 4) = 0) (nst : stB τ b) : rAN τ := by
  obtain ⟨r1, r2, r3, r4, r5, r6, r7, r8⟩ := r
  have eb : anC τ (σ.I 0 4) = b := by unfold anC; rw [hRb]; rfl
  have ek : ∀ k, 0 ≤ k → k < σ.I 0 4 → anC τ k = anC σ k := fun k p q => by unfold anC; rw [hR k p (by omega) (by omega)]
  have apart : ∀ k a, 0 ≤ k → k < 6 → k ≠ σ.I 0 4 → σ.R 3 k = some a → ∀ (c : Nat) (i : Int), a ≤ c → c ≤ a + 9 → τ.I c i = σ.I c i := fun k a p q e ha c i c0 c1 => by
    have u := hap k a p q e ha
    have v := r6 k p q a ha
    have w := (r4 k p q a ha).2
    exact ho c i (by omega) (by omega) (by omega)
  unfold okG at ok
  refine ⟨by omega, ?_, ?_, ?_, ?_, ?_, ?_, ?_⟩
  · intro k p q
    by_cases e : k = σ.I 0 4
    · rw [e, eb]; exact ⟨hRb, hAb, b675⟩
    · have u := r2 k p (by omega)
      rw [ek k p (by omega), hR k p (by omega) e]
      exact ⟨u.1, hA _ u.2.1, u.2.2⟩
  · intro k p q
    by_cases e : k = σ.I 0 4
    · rw [e, eb]
      refine ⟨⟨by rw [nx.1.2.1]; omega, by rw [nx.1.2.2]; omega, by rw [nx.2.2.1]; omega, fun j j0 j1 => (nst j j0 j1).2⟩, by rw [nx.2.1]; omega, fun j j0 j1 => (nst j j0 j1).1⟩
    · have u := r2 k p (by omega)
      rw [ek k p (by omega)]
      exact ANBs_e (fun c c0 c1 => funext fun i => apart k _ p (by omega) e u.1 c i c0 c1) (r3 k p (by omega))
  · intro k p q a ha
    by_cases e : k = σ.I 0 4
    · rw [e, hRb] at ha
      rw [← Option.some.inj ha]
      exact ⟨hAb, b675⟩
    · rw [hR k p q e] at ha
      have u := r4 k p q a ha
      exact ⟨hA _ u.1, u.2⟩
  · refine ⟨fun i i0 i1 => ?_, fun i i0 i1 => ?_, fun i i0 i1 => ?_, fun i i0 i1 => ?_, fun i i0 i1 => ?_, fun i i0 i1 => by rw [h64]; exact r5.2.2.2.2.2 i i0 i1⟩
    · by_cases e : i = σ.I 0 4
      · rw [e, nm.1.1]; omega
      · rw [hm 558 i (by omega) (by omega) e]; exact r5.1 i i0 i1
    · by_cases e : i = σ.I 0 4
      · rw [e, nm.1.2.1]; omega
      · rw [hm 559 i (by omega) (by omega) e]; exact r5.2.1 i i0 i1
    · by_cases e : i = σ.I 0 4
      · rw [e, nm.1.2.2]; omega
      · rw [hm 560 i (by omega) (by omega) e]; exact r5.2.2.1 i i0 i1
    · by_cases e : i = σ.I 0 4
      · rw [e, nm.2.1]; omega
      · rw [hm 561 i (by omega) (by omega) e]; exact r5.2.2.2.1 i i0 i1
    · by_cases e : i = σ.I 0 4
      · rw [e, nm.2.2]; omega
      · rw [hm 562 i (by omega) (by omega) e]; exact r5.2.2.2.2.1 i i0 i1
  · intro k p q a ha
    by_cases e : k = σ.I 0 4
    · rw [e, hRb] at ha
      rw [← Option.some.inj ha]
      exact ⟨hb, nst⟩
    · rw [hR k p q e] at ha
      have u := r6 k p q a ha
      have g := apart k a p q e ha
      refine ⟨by omega, fun j j0 j1 => ?_⟩
      rw [g (a + 3) j (by omega) (by omega), g (a + 6) j (by omega) (by omega), g (a + 9) j (by omega) (by omega)]
      exact u.2 j j0 j1
  · intro j k a c p q u ha hc
    by_cases e : j = σ.I 0 4
    · rw [e, hRb] at ha
      rw [hR k (by omega) u (by omega)] at hc
      have v := hap k c (by omega) u (by omega) hc
      rw [← Option.some.inj ha]
      omega
    · rw [hR j p (by omega) e] at ha
      by_cases e2 : k = σ.I 0 4
      · rw [e2, hRb] at hc
        have v := hap j a p (by omega) e ha
        rw [← Option.some.inj hc]
        omega
      · rw [hR k (by omega) u e2] at hc
        exact r7 j k a c p q u ha hc
  · intro k p q
    by_cases e : k = σ.I 0 4
    · rw [e, eb]
      refine ⟨⟨⟨nx.1.1.trans nm.1.1.symm, nx.1.2.1.trans nm.1.2.1.symm, nx.1.2.2.trans nm.1.2.2.symm⟩, ⟨nx.2.1.trans nm.2.1.symm, fun j j0 j1 => by omega⟩, ⟨nx.2.2.1.trans nm.2.2.symm, nx.2.2.2.trans nm.2.2.symm⟩, fun j j0 j1 => by omega⟩, fun j j0 j1 => (nst j j0 j1).1⟩
    · have u := r2 k p (by omega)
      have g := apart k _ p (by omega) e u.1
      have z := r8 k p (by omega)
      rw [ek k p (by omega)]
      unfold anE at z ⊢
      have f : ∀ c : Nat, anC σ k ≤ c → c ≤ anC σ k + 9 → τ.I c = σ.I c := fun c c0 c1 => funext fun i => g c i c0 c1
      rw [f (anC σ k) (by omega) (by omega), f (anC σ k + 1) (by omega) (by omega), f (anC σ k + 2) (by omega) (by omega), f (anC σ k + 3) (by omega) (by omega), f (anC σ k + 4) (by omega) (by omega), f (anC σ k + 5) (by omega) (by omega), f (anC σ k + 6) (by omega) (by omega), f (anC σ k + 7) (by omega) (by omega), f (anC σ k + 8) (by omega) (by omega), f (anC σ k + 9) (by omega) (by omega), h63, h64, hm 558 k (by omega) (by omega) e, hm 559 k (by omega) (by omega) e, hm 560 k (by omega) (by omega) e, hm 561 k (by omega) (by omega) e, hm 562 k (by omega) (by omega) e]
      exact z
section OPZ
variable {E : XE} {d : Nat}

theorem op_analyser (hd : 30 ≤ d) : OP_analyser E d RR := by
  intro k σ hk r x1 x2 x3 h1 h2 h3
  have rk := r.RK
  have rk1 := rk.1
  have rk2 := rk.2.1
  have an := r.AN
  have an1 := an.1
  have fl := r.FL
  have wq : (0 ≤ x1 ∧ x1 ≤ 1 ∧ 0 ≤ x2 ∧ x2 ≤ 2 ∧ 0 ≤ x3 ∧ x3 ≠ 1 ∧ x3 ≤ 5) ↔ okG x1 x2 x3 := by unfold okG; omega

  by_cases w : okG x1 x2 x3 ∧ σ.I 0 4 < 6
  · refine OPI.mk (sp_X0_analyser (by omega) r.Lay h1 h2 h3 an1.2 an.2.2.2.1 (show σ.n + 10 ≤ 727997 by omega) (show ssum σ + 1276 ≤ 6917491 by omega) rk1.1) (fun y σ1 p s1 => by
        have WW : ∀ (ρ : Sto) (b c : Nat) (i : Int), (anW ρ b x1 x2 x3).I c i = if c = 0 ∧ i = 4 then ρ.I 0 4 + 1 else if c = b ∧ i = 2 then x3 else if c = b ∧ i = 1 then x2 else if c = b ∧ i = 0 then x1 else if c = b + 7 ∧ i = 2 then 0 else if c = b + 4 ∧ i = 2 then 0 else if c = b + 1 ∧ i = 2 then 0 else ρ.I c i := by
          intro ρ b c i
          unfold anW
          rw [I_wI, I_wI, I_wI, I_wI, I_wI, I_wI, I_wI]
        have S : ∀ (c : Nat) (i : Int), 1 ≤ c → c < 675 → σ1.I c i = σ.I c i := by
          rcases p with ⟨_, _, rfl⟩ | ⟨_, _, _, rfl⟩ | ⟨_, q, _, ρ, b, hg, hb, _, e⟩
          · exact fun _ _ _ _ => rfl
          · exact fun _ _ _ _ => rfl
          · intro c i h h'
            rw [e, WW, if_neg (fun z => by have := z.1; omega), if_neg (fun z => by have := z.1; omega), if_neg (fun z => by have := z.1; omega), if_neg (fun z => by have := z.1; omega), if_neg (fun z => by have := z.1; omega), if_neg (fun z => by have := z.1; omega), if_neg (fun z => by have := z.1; omega)]
            exact (ANG_f an rk1.1 ⟨an1.2.1, q⟩ hg).1 c i (by omega)
        exact sp_X9_analyser (by omega) (r.Lay.sf s1) h1 h2 h3 (by rw [S 555 3 (by omega) (by omega)]; omega)) ?_
    intro y σ1 z σ2 p s1 g s2
    have WW : ∀ (ρ : Sto) (b c : Nat) (i : Int), (anW ρ b x1 x2 x3).I c i = if c = 0 ∧ i = 4 then ρ.I 0 4 + 1 else if c = b ∧ i = 2 then x3 else if c = b ∧ i = 1 then x2 else if c = b ∧ i = 0 then x1 else if c = b + 7 ∧ i = 2 then 0 else if c = b + 4 ∧ i = 2 then 0 else if c = b + 1 ∧ i = 2 then 0 else ρ.I c i := by
      intro ρ b c i
      unfold anW
      rw [I_wI, I_wI, I_wI, I_wI, I_wI, I_wI, I_wI]
    have S : ∀ (c : Nat) (i : Int), 1 ≤ c → c < 675 → σ1.I c i = σ.I c i := by
      rcases p with ⟨_, _, rfl⟩ | ⟨_, _, _, rfl⟩ | ⟨_, q, _, ρ, b, hg, hb, _, e⟩
      · exact fun _ _ _ _ => rfl
      · exact fun _ _ _ _ => rfl
      · intro c i h h'
        rw [e, WW, if_neg (fun z => by have := z.1; omega), if_neg (fun z => by have := z.1; omega), if_neg (fun z => by have := z.1; omega), if_neg (fun z => by have := z.1; omega), if_neg (fun z => by have := z.1; omega), if_neg (fun z => by have := z.1; omega), if_neg (fun z => by have := z.1; omega)]
        exact (ANG_f an rk1.1 ⟨an1.2.1, q⟩ hg).1 c i (by omega)
    rw [S 555 3 (by omega) (by omega), ← an1.1] at g
    obtain ⟨-, -, py, ρ, b, hg, hb, hAb, e⟩ := (p.resolve_left (fun q => q.1 w.1)).resolve_left (fun q => by have := q.2.1; have := w.2; omega)
    obtain ⟨f1, f2, f3, f4, f5, f6, f7⟩ := ANG_f an rk1.1 ⟨an1.2.1, w.2⟩ hg
    have P1 := fun (c : Nat) (i : Int) => (congrFun (congrFun (congrArg Sto.I e) c) i).trans (WW ρ b c i)
    have P2 := fun (c : Nat) (i : Int) => (congrFun (congrFun g.2.2 c) i).trans (if_pos ⟨wq.mpr w.1, by have := w.2; omega⟩)
    have hy : z = y := by
      rw [g.1, py, if_neg (fun z => z (wq.mpr w.1)), if_neg (by have := w.2; omega)]
    have w2 := w.2
    have wk : Hd _ := w.1
    have ρ4 := f1 0 4 (by omega)
    clear p wq w hg
    have F1 : ∀ (c : Nat) (i : Int), ¬ ((c = 0 ∧ i = 4) ∨ 675 ≤ c) → σ1.I c i = σ.I c i := by
      intro c i q
      rw [P1 c i, if_neg (fun z => by omega), if_neg (fun z => by omega), if_neg (fun z => by omega), if_neg (fun z => by omega), if_neg (fun z => by omega), if_neg (fun z => by omega), if_neg (fun z => by omega)]
      exact f1 c i (by omega)
    have F2 : ∀ (c : Nat) (i : Int), ¬ ((c = 555 ∧ i = 3) ∨ (558 ≤ c ∧ c ≤ 562 ∧ i = σ.I 0 4)) → σ2.I c i = σ1.I c i := by
      intro c i q
      rw [P2 c i]
      show (if at2 c i _ _ then _ else if at2 c i _ _ then _ else if at2 c i _ _ then _ else if at2 c i _ _ then _ else if at2 c i _ _ then _ else if at2 c i _ _ then _ else _) = _
      rw [if_neg (fun z => by simp only [at2] at z; omega), if_neg (fun z => by simp only [at2] at z; omega), if_neg (fun z => by simp only [at2] at z; omega), if_neg (fun z => by simp only [at2] at z; omega), if_neg (fun z => by simp only [at2] at z; omega), if_neg (fun z => by simp only [at2] at z; omega)]
    have F : ∀ (c : Nat) (i : Int), ¬ ((c = 0 ∧ i = 4) ∨ 675 ≤ c) → ¬ ((c = 555 ∧ i = 3) ∨ (558 ≤ c ∧ c ≤ 562 ∧ i = σ.I 0 4)) → σ2.I c i = σ.I c i := fun c i a b => (F2 c i b).trans (F1 c i a)
    have hTr : True := trivial
    have A0 : σ2.I 0 4 = σ.I 0 4 + 1 := by
      rw [F2 _ _ (by omega), P1 _ _, if_pos ⟨rfl, rfl⟩, ρ4]
    have A3 : σ2.I b 2 = x3 := by
      rw [F2 _ _ (by omega), P1 _ _, if_neg (by omega), if_pos ⟨rfl, rfl⟩]
    have A2 : σ2.I b 1 = x2 := by
      rw [F2 _ _ (by omega), P1 _ _, if_neg (by omega), if_neg (by omega), if_pos ⟨rfl, rfl⟩]
    have A1 : σ2.I b 0 = x1 := by
      rw [F2 _ _ (by omega), P1 _ _, if_neg (by omega), if_neg (by omega), if_neg (by omega), if_pos ⟨rfl, rfl⟩]
    have A7 : σ2.I (b + 7) 2 = 0 := by
      rw [F2 _ _ (by omega), P1 _ _, if_neg (by omega), if_neg (by omega), if_neg (by omega), if_neg (by omega), if_pos ⟨rfl, rfl⟩]
    have A4 : σ2.I (b + 4) 2 = 0 := by
      rw [F2 _ _ (by omega), P1 _ _, if_neg (by omega), if_neg (by omega), if_neg (by omega), if_neg (by omega), if_neg (by omega), if_pos ⟨rfl, rfl⟩]
    have A5 : σ2.I (b + 1) 2 = 0 := by
      rw [F2 _ _ (by omega), P1 _ _, if_neg (by omega), if_neg (by omega), if_neg (by omega), if_neg (by omega), if_neg (by omega), if_neg (by omega), if_pos ⟨rfl, rfl⟩]
    have B1 : σ2.I 558 (σ.I 0 4) = x1 := by
      rw [P2 558 (σ.I 0 4)]
      show (if at2 _ _ _ _ then _ else _) = _
      rw [if_pos ⟨rfl, rfl⟩]
    have B2 : σ2.I 559 (σ.I 0 4) = x2 := by
      rw [P2 559 (σ.I 0 4)]
      show (if at2 _ _ _ _ then _ else if at2 _ _ _ _ then _ else _) = _
      rw [if_neg (fun z => by have := z.1; omega), if_pos ⟨rfl, rfl⟩]
    have B3 : σ2.I 560 (σ.I 0 4) = x3 := by
      rw [P2 560 (σ.I 0 4)]
      show (if at2 _ _ _ _ then _ else if at2 _ _ _ _ then _ else if at2 _ _ _ _ then _ else _) = _
      rw [if_neg (fun z => by have := z.1; omega), if_neg (fun z => by have := z.1; omega), if_pos ⟨rfl, rfl⟩]
    have B4 : σ2.I 561 (σ.I 0 4) = 0 := by
      rw [P2 561 (σ.I 0 4)]
      show (if at2 _ _ _ _ then _ else if at2 _ _ _ _ then _ else if at2 _ _ _ _ then _ else if at2 _ _ _ _ then _ else _) = _
      rw [if_neg (fun z => by have := z.1; omega), if_neg (fun z => by have := z.1; omega), if_neg (fun z => by have := z.1; omega), if_pos ⟨rfl, rfl⟩]
    have B5 : σ2.I 562 (σ.I 0 4) = 0 := by
      rw [P2 562 (σ.I 0 4)]
      show (if at2 _ _ _ _ then _ else if at2 _ _ _ _ then _ else if at2 _ _ _ _ then _ else if at2 _ _ _ _ then _ else if at2 _ _ _ _ then _ else _) = _
      rw [if_neg (fun z => by have := z.1; omega), if_neg (fun z => by have := z.1; omega), if_neg (fun z => by have := z.1; omega), if_neg (fun z => by have := z.1; omega), if_pos ⟨rfl, rfl⟩]
    have B0 : σ2.I 555 3 = σ.I 0 4 + 1 := by
      rw [P2 555 3]
      show (if at2 _ _ _ _ then _ else if at2 _ _ _ _ then _ else if at2 _ _ _ _ then _ else if at2 _ _ _ _ then _ else if at2 _ _ _ _ then _ else if at2 _ _ _ _ then _ else _) = _
      rw [if_neg (fun z => by have := z.1; omega), if_neg (fun z => by have := z.1; omega), if_neg (fun z => by have := z.1; omega), if_neg (fun z => by have := z.1; omega), if_neg (fun z => by have := z.1; omega), if_pos ⟨rfl, rfl⟩]
    have eN : σ2.n = ρ.n := by rw [g.2.1.2.2, e]; rfl
    have eR : σ2.R = ρ.R := by rw [g.2.1.1, e]; rfl
    have eS : σ2.sh = ρ.sh := by rw [g.2.1.2.1, e]; rfl
    have st : stB σ2 b := by
      intro j j0 j1
      rw [F2 (b + 3) j (by omega), P1 (b + 3) j, F2 (b + 6) j (by omega), P1 (b + 6) j, F2 (b + 9) j (by omega), P1 (b + 9) j, if_neg (by omega), if_neg (by omega), if_neg (by omega), if_neg (by omega), if_neg (by omega), if_neg (by omega), if_neg (by omega), if_neg (by omega), if_neg (by omega), if_neg (by omega), if_neg (by omega), if_neg (by omega), if_neg (by omega), if_neg (by omega), if_neg (by omega), if_neg (by omega), if_neg (by omega), if_neg (by omega), if_neg (by omega), if_neg (by omega), if_neg (by omega)]
      exact f4 j j0 j1
    have big : ∀ (c : Nat) (i : Int), 675 ≤ c → c < σ.n → ¬ (b ≤ c ∧ c ≤ b + 9) → σ2.I c i = σ.I c i := by
      intro c i q0 q1 q2
      rw [F2 c i (by omega), P1 c i, if_neg (by omega), if_neg (by omega), if_neg (by omega), if_neg (by omega), if_neg (by omega), if_neg (by omega), if_neg (by omega)]
      exact f1 c i q1
    refine ⟨hy, r.Lay.sf (s1.tr s2), (by
      obtain ⟨b1, b2, b3, b4, b5⟩ := rk
      exact ⟨⟨by rw [eN]; omega, by rw [eN]; omega⟩, by rw [ssum_k eS eN]; omega, by rw [F 0 1 (by omega) (by omega)]; omega, by rw [F 0 41 (by omega) (by omega)]; omega, fun i i0 i1 => by rw [F 211 i (by omega) (by omega)]; have := b5 i i0 i1; omega⟩), ?_, ?_, ?_, ?_, ?_, ?_, ?_, ?_, ?_, ?_, ?_, ?_, ?_, ?_, ?_, ?_, ?_, ?_, ?_, ?_, ?_, ?_, ?_, ?_, ?_⟩
    · exact rTP_cg (fun c i h => F c i (by unfold fTP at h; omega) (by unfold fTP at h; omega)) r.TP
    · refine ⟨by rw [F 0 9 (by omega) (by omega), F 555 27 (by omega) (by omega)]; exact fl.1, fun f p q => ?_⟩
      rw [F 0 9 (by omega) (by omega)] at q
      have u := fl.2 f p q
      rw [F 16 f (by omega) (by omega), F 577 f (by omega) (by omega), F 17 f (by omega) (by omega), F 578 f (by omega) (by omega), A0]
      exact ⟨u.1, u.2.1, fun v => ⟨(u.2.2.1 v).1, by have := (u.2.2.1 v).2; omega⟩, u.2.2.2⟩
    · exact rVS_cg (fun c i h => F c i (by unfold fVS at h; omega) (by unfold fVS at h; omega)) r.VS
    · exact rOB_cg (fun c i h => F c i (by unfold fOB at h; omega) (by unfold fOB at h; omega)) r.OB
    · exact rVA_cg (fun c i h => F c i (by unfold fVA at h; omega) (by unfold fVA at h; omega)) r.VA
    · exact rBD_cg (fun c i h => F c i (by unfold fBD at h; omega) (by unfold fBD at h; omega)) r.BD
    · exact rTE_cg (fun c i h => F c i (by unfold fTE at h; omega) (by unfold fTE at h; omega)) r.TE
    · exact rPK_cg (fun c i h => F c i (by unfold fPK at h; omega) (by unfold fPK at h; omega)) r.PK
    · exact rUS_cg (fun c i h => F c i (by unfold fUS at h; omega) (by unfold fUS at h; omega)) r.US
    · exact rFO_cg (fun c i h => F c i (by unfold fFO at h; omega) (by unfold fFO at h; omega)) r.FO
    · exact rSH_cg (fun c i h => F c i (by unfold fSH at h; omega) (by unfold fSH at h; omega)) r.SH
    · exact rSW_cg (fun c i h => F c i (by unfold fSW at h; omega) (by unfold fSW at h; omega)) r.SW
    · exact rHI_cg (fun c i h => F c i (by unfold fHI at h; omega) (by unfold fHI at h; omega)) r.HI
    · exact rLN_cg (fun c i h => F c i (by unfold fLN at h; omega) (by unfold fLN at h; omega)) r.LN
    · exact rMK_cg (fun c i h => F c i (by unfold fMK at h; omega) (by unfold fMK at h; omega)) r.MK
    · exact rGR_cg (fun c i h => F c i (by unfold fGR at h; omega) (by unfold fGR at h; omega)) r.GR
    · exact rTT_cg (fun c i h => F c i (by unfold fTT at h; omega) (by unfold fTT at h; omega)) r.TT
    · exact rMT_cg (fun c i h => F c i (by unfold fMT at h; omega) (by unfold fMT at h; omega)) r.MT
    · exact rSC_cg (fun c i h => F c i (by unfold fSC at h; omega) (by unfold fSC at h; omega)) r.SC
    · exact rQU_cg (fun c i h => F c i (by unfold fQU at h; omega) (by unfold fQU at h; omega)) r.QU
    · exact rKQ_cg (fun c i h => F c i (by unfold fKQ at h; omega) (by unfold fKQ at h; omega)) r.KQ
    · exact rHQ_cg (fun c i h => F c i (by unfold fHQ at h; omega) (by unfold fHQ at h; omega)) r.HQ
    · exact rPP_cg (fun c i h => F c i (by unfold fPP at h; omega) (by unfold fPP at h; omega)) (by rw [eR]; exact f5 555 162 (by omega) (by omega)) (by rw [eR]; exact f5 555 163 (by omega) (by omega)) r.PP
    · exact AN_new an w2 wk (by rw [eN]; exact f2.1) (by rw [eN]; exact f2.2.2) hb (fun c q => q.sf (s1.tr s2)) (by unfold At10 At11 at hAb ⊢; rw [eR, eS]; exact hAb) (fun k p q u => by rw [eR]; exact f5 3 k (by omega) (by omega)) (by rw [eR]; exact f6) f7 A0 B0 big (fun c k q0 q1 q2 => F c k (by omega) (by omega)) (funext fun i => F 563 i (by omega) (by omega)) (funext fun i => F 564 i (by omega) (by omega)) ⟨⟨A1, A2, A3⟩, A5, A4, A7⟩ ⟨⟨B1, B2, B3⟩, B4, B5⟩ st
    · exact rSE_cg r.SE
  · refine OPI.mk (sp_X0_analyser (by omega) r.Lay h1 h2 h3 an1.2 an.2.2.2.1 (show σ.n + 10 ≤ 727997 by omega) (show ssum σ + 1276 ≤ 6917491 by omega) rk1.1) (fun y σ1 p s1 => by
        have WW : ∀ (ρ : Sto) (b c : Nat) (i : Int), (anW ρ b x1 x2 x3).I c i = if c = 0 ∧ i = 4 then ρ.I 0 4 + 1 else if c = b ∧ i = 2 then x3 else if c = b ∧ i = 1 then x2 else if c = b ∧ i = 0 then x1 else if c = b + 7 ∧ i = 2 then 0 else if c = b + 4 ∧ i = 2 then 0 else if c = b + 1 ∧ i = 2 then 0 else ρ.I c i := by
          intro ρ b c i
          unfold anW
          rw [I_wI, I_wI, I_wI, I_wI, I_wI, I_wI, I_wI]
        have S : ∀ (c : Nat) (i : Int), 1 ≤ c → c < 675 → σ1.I c i = σ.I c i := by
          rcases p with ⟨_, _, rfl⟩ | ⟨_, _, _, rfl⟩ | ⟨_, q, _, ρ, b, hg, hb, _, e⟩
          · exact fun _ _ _ _ => rfl
          · exact fun _ _ _ _ => rfl
          · intro c i h h'
            rw [e, WW, if_neg (fun z => by have := z.1; omega), if_neg (fun z => by have := z.1; omega), if_neg (fun z => by have := z.1; omega), if_neg (fun z => by have := z.1; omega), if_neg (fun z => by have := z.1; omega), if_neg (fun z => by have := z.1; omega), if_neg (fun z => by have := z.1; omega)]
            exact (ANG_f an rk1.1 ⟨an1.2.1, q⟩ hg).1 c i (by omega)
        exact sp_X9_analyser (by omega) (r.Lay.sf s1) h1 h2 h3 (by rw [S 555 3 (by omega) (by omega)]; omega)) ?_
    intro y σ1 z σ2 p s1 g s2
    have WW : ∀ (ρ : Sto) (b c : Nat) (i : Int), (anW ρ b x1 x2 x3).I c i = if c = 0 ∧ i = 4 then ρ.I 0 4 + 1 else if c = b ∧ i = 2 then x3 else if c = b ∧ i = 1 then x2 else if c = b ∧ i = 0 then x1 else if c = b + 7 ∧ i = 2 then 0 else if c = b + 4 ∧ i = 2 then 0 else if c = b + 1 ∧ i = 2 then 0 else ρ.I c i := by
      intro ρ b c i
      unfold anW
      rw [I_wI, I_wI, I_wI, I_wI, I_wI, I_wI, I_wI]
    have S : ∀ (c : Nat) (i : Int), 1 ≤ c → c < 675 → σ1.I c i = σ.I c i := by
      rcases p with ⟨_, _, rfl⟩ | ⟨_, _, _, rfl⟩ | ⟨_, q, _, ρ, b, hg, hb, _, e⟩
      · exact fun _ _ _ _ => rfl
      · exact fun _ _ _ _ => rfl
      · intro c i h h'
        rw [e, WW, if_neg (fun z => by have := z.1; omega), if_neg (fun z => by have := z.1; omega), if_neg (fun z => by have := z.1; omega), if_neg (fun z => by have := z.1; omega), if_neg (fun z => by have := z.1; omega), if_neg (fun z => by have := z.1; omega), if_neg (fun z => by have := z.1; omega)]
        exact (ANG_f an rk1.1 ⟨an1.2.1, q⟩ hg).1 c i (by omega)
    rw [S 555 3 (by omega) (by omega), ← an1.1] at g
    have hz : σ1 = σ := by
      rcases p with ⟨_, _, q⟩ | ⟨_, _, _, q⟩ | ⟨q, q2, _⟩
      · exact q
      · exact q
      · exact absurd ⟨q, q2⟩ w
    have hy : z = y := by
      rcases p with ⟨q, e, _⟩ | ⟨q, q2, e, _⟩ | ⟨q, q2, _⟩
      · rw [g.1, e, if_pos (fun z => q (wq.mp z))]
      · rw [g.1, e, if_neg (fun z => z (wq.mpr q)), if_pos q2]
      · exact absurd ⟨q, q2⟩ w
    have e2 : σ2.I = σ1.I := by
      rw [g.2.2]
      funext c i
      exact if_neg (fun z => w ⟨wq.mp z.1, by have := z.2; omega⟩)
    clear p w wq
    have F1 : ∀ (c : Nat) (i : Int), ¬ (c = 0 ∧ c = 1) → σ1.I c i = σ.I c i := by
      intro c i q
      rw [hz]
    have F2 : ∀ (c : Nat) (i : Int), ¬ (c = 0 ∧ c = 1) → σ2.I c i = σ1.I c i := by
      intro c i q
      rw [e2]
    have F : ∀ (c : Nat) (i : Int), ¬ (c = 0 ∧ c = 1) → ¬ (c = 0 ∧ c = 1) → σ2.I c i = σ.I c i := fun c i a b => (F2 c i b).trans (F1 c i a)
    have hR : σ2.R = σ.R := g.2.1.1.trans (by rw [hz])
    have hS : σ2.sh = σ.sh := g.2.1.2.1.trans (by rw [hz])
    have hN : σ2.n = σ.n := g.2.1.2.2.trans (by rw [hz])
    refine ⟨hy, r.Lay.sf (s1.tr s2), RK_cg hS hN (F 0 1 (by omega) (by omega)) (F 0 41 (by omega) (by omega)) (fun i => F 211 i (by omega) (by omega)) r.RK, ?_, ?_, ?_, ?_, ?_, ?_, ?_, ?_, ?_, ?_, ?_, ?_, ?_, ?_, ?_, ?_, ?_, ?_, ?_, ?_, ?_, ?_, ?_, ?_, ?_⟩
    · exact rTP_cg (fun c i h => F c i (by unfold fTP at h; omega) (by unfold fTP at h; omega)) r.TP
    · exact rFL_cg (fun c i h => F c i (by unfold fFL at h; omega) (by unfold fFL at h; omega)) r.FL
    · exact rVS_cg (fun c i h => F c i (by unfold fVS at h; omega) (by unfold fVS at h; omega)) r.VS
    · exact rOB_cg (fun c i h => F c i (by unfold fOB at h; omega) (by unfold fOB at h; omega)) r.OB
    · exact rVA_cg (fun c i h => F c i (by unfold fVA at h; omega) (by unfold fVA at h; omega)) r.VA
    · exact rBD_cg (fun c i h => F c i (by unfold fBD at h; omega) (by unfold fBD at h; omega)) r.BD
    · exact rTE_cg (fun c i h => F c i (by unfold fTE at h; omega) (by unfold fTE at h; omega)) r.TE
    · exact rPK_cg (fun c i h => F c i (by unfold fPK at h; omega) (by unfold fPK at h; omega)) r.PK
    · exact rUS_cg (fun c i h => F c i (by unfold fUS at h; omega) (by unfold fUS at h; omega)) r.US
    · exact rFO_cg (fun c i h => F c i (by unfold fFO at h; omega) (by unfold fFO at h; omega)) r.FO
    · exact rSH_cg (fun c i h => F c i (by unfold fSH at h; omega) (by unfold fSH at h; omega)) r.SH
    · exact rSW_cg (fun c i h => F c i (by unfold fSW at h; omega) (by unfold fSW at h; omega)) r.SW
    · exact rHI_cg (fun c i h => F c i (by unfold fHI at h; omega) (by unfold fHI at h; omega)) r.HI
    · exact rLN_cg (fun c i h => F c i (by unfold fLN at h; omega) (by unfold fLN at h; omega)) r.LN
    · exact rMK_cg (fun c i h => F c i (by unfold fMK at h; omega) (by unfold fMK at h; omega)) r.MK
    · exact rGR_cg (fun c i h => F c i (by unfold fGR at h; omega) (by unfold fGR at h; omega)) r.GR
    · exact rTT_cg (fun c i h => F c i (by unfold fTT at h; omega) (by unfold fTT at h; omega)) r.TT
    · exact rMT_cg (fun c i h => F c i (by unfold fMT at h; omega) (by unfold fMT at h; omega)) r.MT
    · exact rSC_cg (fun c i h => F c i (by unfold fSC at h; omega) (by unfold fSC at h; omega)) r.SC
    · exact rQU_cg (fun c i h => F c i (by unfold fQU at h; omega) (by unfold fQU at h; omega)) r.QU
    · exact rKQ_cg (fun c i h => F c i (by unfold fKQ at h; omega) (by unfold fKQ at h; omega)) r.KQ
    · exact rHQ_cg (fun c i h => F c i (by unfold fHQ at h; omega) (by unfold fHQ at h; omega)) r.HQ
    · exact rPP_cg (fun c i h => F c i (by unfold fPP at h; omega) (by unfold fPP at h; omega)) (by rw [hR]) (by rw [hR]) r.PP
    · exact rAN_cg (fun c i h => F c i (by unfold fAN at h; omega) (by unfold fAN at h; omega)) hR hS hN r.AN
    · exact rSE_cg r.SE
end OPZ

