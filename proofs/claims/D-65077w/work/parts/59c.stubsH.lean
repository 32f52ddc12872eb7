section
/-! contracts: printed by tools/mk.py out of s98za_prl.py -/
set_option maxRecDepth 100000
set_option maxHeartbeats 1200000
/-! what is prepared is what scores stand on -/
def HOWA (σ : Sto) (K V : Int) : Prop := ∀ (τ : Sto) (o : Nat), 86 ≤ o → (∀ c, 16 ≤ c ∧ c < 80 → τ.I c = σ.I c) → (∀ i, i = 4 ∨ i = 9 ∨ i = 20 ∨ i = 31 ∨ i = 39 → τ.I 0 i = σ.I 0 i) → τ.I (o + 15) 8 = 0 → τ.I (o + 15) 6 = 0 → τ.I (o + 15) 7 = σ.I 0 39 → (∀ t, 0 ≤ t → t < σ.I 18 7 → 0 ≤ owX τ (o + 15) t K V ∧ owX τ (o + 15) t K V ≤ hvX τ (o + 15) (σ.I 20 t) (σ.I 0 39)) ∧ owX τ (o + 15) (-1) K V = 0 ∧ ∀ f l sl k, snW τ o k → foX τ o f l sl V k ≠ 0 → 1 ≤ tkX τ (o + 15) f (σ.I 0 39)
/-- what is stored well, in the program -/
def BSX (σ : Sto) (K V : Int) : Prop := ((0 ≤ σ.I 0 9 ∧ σ.I 0 9 ≤ 12) ∧ OB σ 42 43 ∧ bd_0_250 σ 32 6000 ∧ TC σ ∧ (0 ≤ σ.I 18 7 ∧ σ.I 18 7 < 36500) ∧ (∀ s, 0 ≤ s → s < σ.I 18 7 → 0 ≤ σ.I 20 s ∧ σ.I 20 s < σ.I 0 9) ∧ PT σ K ∧ PW σ V ∧ OBV σ K V ∧ TVL σ K V ∧ DRV σ) ∧ ((0 ≤ σ.I 0 39 ∧ σ.I 0 39 ≤ 600) ∧ bd_0_20 σ 21 36500 ∧ AN σ ∧ ANX σ ∧ σ.I 0 4 ≤ 6 ∧ bd_0_499 σ 39 24000 ∧ (∀ v, 0 ≤ v → v < V → 0 ≤ σ.I 31 v ∧ 0 ≤ σ.I 32 v ∧ σ.I 31 v + σ.I 32 v ≤ 24000) ∧ VOC σ V ∧ (∀ k, 0 ≤ k → k < σ.I 0 39 → σ.I 42 k + σ.I 43 k ≤ σ.I 0 20 ∧ ∀ j, 0 ≤ j → j < σ.I 43 k → 0 ≤ σ.I 26 (σ.I 42 k + j) ∧ σ.I 26 (σ.I 42 k + j) < σ.I 0 9) ∧ (∀ v, 0 ≤ v → v < V → σ.I 27 v < σ.I 0 39) ∧ tre σ 44 (σ.I 0 39) ∧ HOWA σ K V)
theorem tre_e {σ τ : Sto} {a : Nat} {n : Int} (h : tre σ a n) (e : τ.I a = σ.I a) : tre τ a n := by unfold tre at *; rw [e]; exact h
/-- it is kept where cells 0 and 16 to 79, and the analysers, are -/
theorem BSX_e {σ τ : Sto} {K V : Int} (h : BSX σ K V) (e : ∀ c, 16 ≤ c ∧ c < 80 → τ.I c = σ.I c) (e0 : ∀ i, i = 4 ∨ i = 9 ∨ i = 20 ∨ i = 31 ∨ i = 39 → τ.I 0 i = σ.I 0 i) (er : τ.R = σ.R) (es : τ.sh = σ.sh) (en : τ.n = σ.n) (ea : ∀ c, 675 ≤ c → τ.I c = σ.I c) (hw : HOWA τ K V) : BSX τ K V := by
  obtain ⟨⟨a1, a2, a3, a4, a5, a6, a7, a8, a9, a10, a11⟩, b1, b2, b3, b4, b5, b6, b7, b8, b9, b10, b11, _⟩ := h
  have c4 := e0 4 (by omega)
  have c9 := e0 9 (by omega)
  have c20 := e0 20 (by omega)
  have c31 := e0 31 (by omega)
  have c39 := e0 39 (by omega)
  have eT : TC τ := TC_e a4 (fun c i x y => congrFun (e c (by omega)) i)
  refine ⟨⟨by rw [c9]; exact a1, ?_, bd_0_250_eq a3 (e _ (by decide)), eT, by rw [e 18 (by decide)]; exact a5, by rw [e 18 (by decide), e 20 (by decide), c9]; exact a6, ?_, ?_, ?_, ?_, ?_⟩, by rw [c39]; exact b1, bd_0_20_eq b2 (e _ (by decide)), AN_k b3 er es en c4, ?_, by rw [c4]; exact b5, bd_0_499_eq b6 (e _ (by decide)), by rw [e 31 (by decide), e 32 (by decide)]; exact b7, ?_, by rw [e 43 (by decide), e 42 (by decide), e 26 (by decide), c9, c39, c20]; exact b9, by rw [e 27 (by decide), c39]; exact b10, by rw [c39]; exact tre_e b11 (e _ (by decide)), hw⟩
  · unfold OB; rw [e 42 (by decide), e 43 (by decide)]; exact a2
  · unfold PT tkQ isWt at *; rw [e 36 (by decide), e 22 (by decide), e 23 (by decide), e 37 (by decide), e 16 (by decide), e 20 (by decide), e 18 (by decide)]; exact a7
  · unfold PW wkQ isWt at *; rw [e 26 (by decide), e 33 (by decide), e 34 (by decide), e 22 (by decide), e 23 (by decide), e 16 (by decide), e 20 (by decide), e 18 (by decide)]; exact a8
  · unfold OBV at *; rw [e 38 (by decide), e 27 (by decide)]; exact a9
  · unfold TVL at *; rw [e 38 (by decide), e 31 (by decide), e 32 (by decide)]; exact a10
  · unfold DRV at *; rw [e 26 (by decide), e 31 (by decide), e 32 (by decide), c20, c31]; exact a11
  · intro k k0 k1
    rw [c4] at k1
    have q := AN_g b3 k0 k1
    have ac : anC τ = anC σ := by funext k; unfold anC; rw [er]
    rw [ac]
    exact ANBs_e (fun c x y => ea c (by omega)) (b4 k k0 k1)
  · unfold VOC at *; rw [e 27 (by decide), c20, c31]; exact b8
theorem tkX_i2 {σ : Sto} {o : Nat} {f E : Int} (h0 : 0 ≤ E) (h1 : E ≤ 601) (hO : OB σ 42 43) (hb : bd_0_250 σ 32 6000) : (0 ≤ tkX σ o f E ∧ tkX σ o f E ≤ 3700000) ∧ ∀ k, 0 ≤ k → k < 601 → 0 ≤ xTO σ f k ∧ xTO σ f k ≤ 6000 := by
  have hx : ∀ k, 0 ≤ k → k < 601 → 0 ≤ xTO σ f k ∧ xTO σ f k ≤ 6000 := fun k a b => by
    have q := hO k a b
    have key : ∀ n : Nat, (n : Int) ≤ σ.I 43 k → 0 ≤ smP (fun j => σ.I 26 (σ.I 42 k + j) = f) (fun j => σ.I 32 (σ.I 42 k + j)) (n : Int) ∧ smP (fun j => σ.I 26 (σ.I 42 k + j) = f) (fun j => σ.I 32 (σ.I 42 k + j)) (n : Int) ≤ 250 * n := by
      intro n
      induction n with
      | zero => intro _; rw [smP_0 _ _ _ (show ((0 : Nat) : Int) ≤ 0 by omega)]; omega
      | succ n ih =>
        intro hn
        have i2 := ih (by omega)
        have w := hb (σ.I 42 k + (n : Int)) (by omega) (by omega)
        rcases Classical.em (σ.I 26 (σ.I 42 k + (n : Int)) = f) with z | z
        · rw [smP_t (fun j => σ.I 26 (σ.I 42 k + j) = f) (fun j => σ.I 32 (σ.I 42 k + j)) (n : Int) ((n + 1 : Nat) : Int) (by omega) (by omega) z]; omega
        · rw [smP_f (fun j => σ.I 26 (σ.I 42 k + j) = f) (fun j => σ.I 32 (σ.I 42 k + j)) (n : Int) ((n + 1 : Nat) : Int) (by omega) (by omega) z]; omega
    have w := key (σ.I 43 k).toNat (by omega)
    rw [show (((σ.I 43 k).toNat : Nat) : Int) = σ.I 43 k by omega] at w
    have e : xTO σ f k = smP (fun j => σ.I 26 (σ.I 42 k + j) = f) (fun j => σ.I 32 (σ.I 42 k + j)) (σ.I 43 k) := rfl
    rw [e]; omega
  refine ⟨?_, hx⟩
  have key : ∀ n : Nat, (n : Int) ≤ 601 → 0 ≤ smP (swX σ o) (fun k => xTO σ f k) (n : Int) ∧ smP (swX σ o) (fun k => xTO σ f k) (n : Int) ≤ 6000 * n := by
    intro n
    induction n with
    | zero => intro _; rw [smP_0 _ _ _ (show ((0 : Nat) : Int) ≤ 0 by omega)]; omega
    | succ n ih =>
      intro hn
      have i2 := ih (by omega)
      have w := hx (n : Int) (by omega) (by omega)
      rcases Classical.em (swX σ o (n : Int)) with z | z
      · rw [smP_t (swX σ o) (fun k => xTO σ f k) (n : Int) ((n + 1 : Nat) : Int) (by omega) (by omega) z]; omega
      · rw [smP_f (swX σ o) (fun k => xTO σ f k) (n : Int) ((n + 1 : Nat) : Int) (by omega) (by omega) z]; omega
  have w := key E.toNat (by omega)
  rw [show ((E.toNat : Nat) : Int) = E by omega] at w
  have e : tkX σ o f E = smP (swX σ o) (fun k => xTO σ f k) E := rfl
  rw [e]; omega
theorem svX_in (β : Sto) (o : Nat) (lx : Int → TL) (K V y : Int) (hl : β.I (o + 3) y = 7 → 0 ≤ (lx y).1) : 0 ≤ svX β o lx K V y ∧ svX β o lx K V y ≤ 100000 := by
  unfold svX
  split
  · split
    · rename_i z
      have n := nL_in (hl z)
      have := smX_in (σ := β) (o := o) (f := β.I (o + 8) y) (K := K) (V := V) (l := lx y) (q := nL (lx y)) n.1
      omega
    · split
      · have := lgR_in (2 * β.I (o + 17) (β.I (o + 8) y) + 2) (2 * owX β (o + 15) (vtX β o y) K V + 1); omega
      · omega
  · omega
theorem fvX_in (β : Sto) (o : Nat) (lx : Int → TL) (K V y k : Int) (hV : 0 ≤ V) (hc : VOC β V) (hD : 0 ≤ β.I 0 20 - β.I 0 31) : 0 ≤ fvX β o lx K V y k ∧ fvX β o lx K V y k ≤ 12000 := by
  unfold fvX
  split
  · split
    · exact foX_in hV hc hD
    · have := zb_in (otQ β o y K V k); omega
  · omega
/-- prepared: scores may be asked for -/
theorem PRI_LQ {σ τ : Sto} {o : Nat} {lx : Int → TL} {K V N r : Int} (h : PRI σ τ o lx K V N r) (hq : KPq o σ τ) (ho : 86 ≤ o ∧ o ≤ 160) (hN : N = σ.I (o + 1) 2) (hE : 0 ≤ σ.I (o + 15) 7 ∧ σ.I (o + 15) 7 ≤ 601) (hO : OB σ 42 43) (hb : bd_0_250 σ 32 6000) (hV : 0 ≤ V) (hc : VOC σ V) (hD : 0 ≤ σ.I 0 20 - σ.I 0 31) (hF : ∀ x, 0 ≤ x → x < N → 7 ≤ σ.I (o + 3) x → (0 ≤ σ.I (o + 8) x ∧ σ.I (o + 8) x < σ.I 0 9) ∧ (σ.I (o + 3) x = 7 → 0 ≤ (lx x).1)) (hfc : σ.I 0 9 ≤ 12) (hT : ∀ f l sl k, snW σ o k → foX σ o f l sl V k ≠ 0 → 1 ≤ tkX σ (o + 15) f (σ.I (o + 15) 7)) : ∀ x, 0 ≤ x → x < τ.I (o + 1) 2 → 7 ≤ τ.I (o + 3) x → LQX τ o x := by
  intro x x0 x1 x7
  obtain ⟨β, hβ, hc2, _, _, hP, _, _⟩ := h
  have ks : ∀ d, d ≠ o + 17 → d ≠ o + 18 → β.I d = σ.I d := fun d p q => funext fun i => hβ.1.2 _ i (by unfold wsCn; omega)
  have kq : KPq o σ β := Ch.mono hβ.1 (fun c i q => by unfold wsCn at q; unfold wsPq wsPr; omega)
  have u1 := unp hq (c := o + 1) (by omega)
  have u3 := unp hq (c := o + 3) (by omega)
  have u8 := unp hq (c := o + 8) (by omega)
  have u15 := unp hq (c := o + 15) (by omega)
  have u16 := unp hq (c := o + 16) (by omega)
  rw [u1] at x1
  rw [u3] at x7
  obtain ⟨f1, f2⟩ := hF x x0 (by omega) x7
  obtain ⟨p1, p2, p3, p4⟩ := hP x x0 (by omega) x7
  have hv := svX_in β o lx K V x (fun z => f2 (by rw [← ks (o + 3) (by omega) (by omega)]; exact z))
  have ct := hβ.2 _ f1.1 f1.2
  have t17 : τ.I (o + 17) (σ.I (o + 8) x) = hvX σ (o + 15) (σ.I (o + 8) x) (σ.I (o + 15) 7) := (hc2.2 _ _ (by unfold wsPr; omega)).trans ct.1
  have t18 : τ.I (o + 18) (σ.I (o + 8) x) = tkX σ (o + 15) (σ.I (o + 8) x) (σ.I (o + 15) 7) := (hc2.2 _ _ (by unfold wsPr; omega)).trans ct.2
  have tk := tkX_i2 (σ := σ) (o := o + 15) (f := σ.I (o + 8) x) hE.1 hE.2 hO hb
  have hvb := cn_in (fun k => swX σ (o + 15) k ∧ hxV σ (σ.I (o + 8) x) k) (σ.I (o + 15) 7)
  have xt : xTO τ = xTO σ := by funext f k; unfold xTO; rw [unp hq (c := 26) (by omega), unp hq (c := 42) (by omega), unp hq (c := 32) (by omega), unp hq (c := 43) (by omega)]
  unfold LQX
  rw [u8, u3, xt, p1, t17, t18, p3]
  refine ⟨⟨f1.1, by omega⟩, hv, tk.1.2, by unfold hvX; omega, fun k k0 k1 hs => ?_⟩
  have hs' : snW σ o k := by unfold snW at hs ⊢; rw [← u15, ← u16]; exact hs
  have ek := p2 k k0 (by rw [ks (o + 15) (by omega) (by omega)]; exact hs'.1)
  have fb := fvX_in β o lx K V x k hV (VOC_p kq ho.1 hc) (by rw [ks 0 (by omega) (by omega)]; exact hD)
  rw [ek]
  refine ⟨fb, fun z7 zn => ?_, tk.2 k k0 k1⟩
  unfold fvX at zn
  rw [ks (o + 3) (by omega) (by omega)] at zn
  by_cases s : shF β o (β.I (o + 8) x) = 1
  · rw [if_pos s, if_pos z7, ks (o + 8) (by omega) (by omega), foX_p kq ho.1] at zn
    exact hT _ _ _ k hs' zn
  · rw [if_neg s] at zn; exact absurd rfl zn
end
section
/-! contracts: printed by tools/mk.py out of s98zb_cpy.py -/
set_option maxRecDepth 100000
set_option maxHeartbeats 1200000
/-! a question that is copied is the same question -/
theorem fsF_ag {q q' : Int → Prop} {n : Int} : ∀ (m : Nat) (i : Int), (n - i).toNat = m → (∀ k, i ≤ k → k < n → (q' k ↔ q k)) → fsF q' i n = fsF q i n := by
  intro m
  induction m with
  | zero => intro i a _; rw [fsF_e _ _ _ (by omega), fsF_e _ _ _ (by omega)]
  | succ m ih =>
    intro i a h
    by_cases z : q i
    · rw [fsF_t q i n (by omega) z, fsF_t q' i n (by omega) ((h i (Int.le_refl _) (by omega)).mpr z)]
    · rw [fsF_f q i (i + 1) n (by omega) rfl z, fsF_f q' i (i + 1) n (by omega) rfl (fun y => z ((h i (Int.le_refl _) (by omega)).mp y))]
      exact ih (i + 1) (by omega) (fun k x y => h k (by omega) y)
theorem we_ag {A A' : Int → Int} {b to : Int} (h : ∀ i, b ≤ i → i < to → A' i = A i) : we A' b to = we A b to := by
  unfold we
  rw [fsF_ag (q := fun k => ¬ isLet (A k % 256)) (q' := fun k => ¬ isLet (A' k % 256)) _ b rfl (fun k x y => by rw [h k x y])]
theorem tk_A {σ : Sto} {a : Int} {A A' : Int → Int} {f to : Int} (h0 : 0 ≤ f) (h : ∀ i, f ≤ i → i < to → A' i = A i) : tk σ a A' f to f 0 tl0 = tk σ a A f to f 0 tl0 := by
  unfold tk
  refine rs_cg (I := fun s : Int × Int × TL => f ≤ s.1) (fun s s' hi e => ?_) (fun s hi => ?_) (Int.le_refl _)
  · have hi : f ≤ s.1 := hi
    unfold tkS at e
    split at e
    · rename_i c1
      split at e
      · rename_i c2
        have w1 := we_b (A := A) (to := to) (show 0 ≤ s.1 by omega) c1 (zb_1.mp c2)
        split at e
        · cases e; show f ≤ we A s.1 to; omega
        · split at e
          · cases e; show f ≤ we A s.1 to; omega
          · cases e
      · cases e; show f ≤ s.1 + 1; omega
    · cases e
  · have hi : f ≤ s.1 := hi
    unfold tkS
    by_cases c1 : s.1 < to
    · have ew := we_ag (A := A) (A' := A') (b := s.1) (to := to) (fun i x y => h i (by omega) y)
      rw [if_pos c1, if_pos c1, h s.1 hi c1, ew]
      by_cases c2 : zb (isLet (A s.1 % 256)) = 1
      · have w1 := we_b (A := A) (to := to) (show 0 ≤ s.1 by omega) c1 (zb_1.mp c2)
        have ef : wF σ a A' s.1 (we A s.1 to - s.1) = wF σ a A s.1 (we A s.1 to - s.1) := by
          funext k
          unfold wF
          by_cases z : 0 ≤ k ∧ k < we A s.1 to - s.1
          · rw [if_pos z, if_pos z, h (s.1 + k) (by omega) (by omega)]
          · rw [if_neg z, if_neg z]
        rw [ef]
      · rw [if_neg c2, if_neg c2]
    · rw [if_neg c1, if_neg c1]
noncomputable def lsX (σ : Sto) (o : Nat) (x : Int) : TL := tk (anS σ (anC σ (σ.I 17 (σ.I (o + 8) x)))) 0 (σ.I (o + 2)) (σ.I (o + 9) x) (σ.I (o + 10) x) (σ.I (o + 9) x) 0 tl0
/-- a question of the program that may be asked: at q = o + 1 -/
def QLX (σ : Sto) (o : Nat) : Prop := QWX σ o ∧ rwN σ o (σ.I (o + 1) 2) ≤ 60 ∧ txN σ o (lsX σ o) (σ.I (o + 1) 2) ≤ 5000 ∧ (∀ x, 0 ≤ x → x < σ.I (o + 1) 2 → lfN σ o x → NDq σ o (lsX σ o) x) ∧ (0 ≤ σ.I (o + 1) 1 ∧ σ.I (o + 1) 1 ≤ 400) ∧ ∀ x, 0 ≤ x → x < σ.I (o + 1) 2 → σ.I (o + 3) x = 7 → σ.I (o + 10) x ≤ σ.I (o + 1) 1
section CPQ
variable {σ τ : Sto} {o o' : Nat}
/-- rows of the one are rows of the other -/
def CPR (σ τ : Sto) (o o' : Nat) : Prop := (τ.I (o + 1) 2 = σ.I (o' + 1) 2 ∧ τ.I (o + 1) 4 = σ.I (o' + 1) 4 ∧ τ.I (o + 1) 1 = σ.I (o' + 1) 1) ∧ (∀ m x, 3 ≤ m → m ≤ 14 → 0 ≤ x → x < σ.I (o' + 1) 2 → τ.I (o + m) x = σ.I (o' + m) x) ∧ ∀ i, 0 ≤ i → i < σ.I (o' + 1) 1 → τ.I (o + 2) i = σ.I (o' + 2) i
theorem CPR_wf (h : CPR σ τ o o') : ∀ (f : Nat) (x : Int), WFX (GX σ o') (RwX σ o') f x → WFX (GX τ o) (RwX τ o) f x := by
  intro f
  induction f with
  | zero => intro x a; exact a.elim
  | succ f ih =>
    intro x a
    rcases a with a | ⟨a1, a2, a3, a4⟩
    · exact Or.inl a
    · obtain ⟨r1, r2, r3, r4, r5, r6⟩ := a2
      have e := fun m (p : 3 ≤ m) (q : m ≤ 14) => h.2.1 m x p q a1.1 r1
      have g1 : GX τ o 1 x = GX σ o' 1 x := e 4 (by omega) (by omega)
      have g2 : GX τ o 2 x = GX σ o' 2 x := e 5 (by omega) (by omega)
      refine Or.inr ⟨a1, ⟨by rw [h.1.1]; exact r1, by rw [e 3 (by omega) (by omega)]; exact r2, by rw [e 6 (by omega) (by omega)]; exact r3, by rw [e 7 (by omega) (by omega)]; exact r4, by rw [e 3 (by omega) (by omega), e 4 (by omega) (by omega)]; exact r5, by rw [e 3 (by omega) (by omega), e 11 (by omega) (by omega)]; exact r6⟩, ?_, ?_⟩
      · rw [g1]; exact ih _ a3
      · rw [g2]; exact ih _ a4
theorem cn_ag {p q : Int → Prop} : ∀ (n : Nat), (∀ k, 0 ≤ k → k < (n : Int) → (p k ↔ q k)) → cn p (n : Int) = cn q (n : Int) := by
  intro n
  induction n with
  | zero => intro _; rw [cn_0 _ _ (show ((0 : Nat) : Int) ≤ 0 by omega), cn_0 _ _ (show ((0 : Nat) : Int) ≤ 0 by omega)]
  | succ n ih =>
    intro h
    rw [cn_s p (n : Int) ((n + 1 : Nat) : Int) (by omega) (by omega), cn_s q (n : Int) ((n + 1 : Nat) : Int) (by omega) (by omega), ih (fun k a b => h k a (by omega)), zb_iff (h (n : Int) (by omega) (by omega))]
theorem smP_ag {p q : Int → Prop} {g g' : Int → Int} : ∀ (n : Nat), (∀ k, 0 ≤ k → k < (n : Int) → (p k ↔ q k) ∧ (p k → g k = g' k)) → smP p g (n : Int) = smP q g' (n : Int) := by
  intro n
  induction n with
  | zero => intro _; rw [smP_0 _ _ _ (show ((0 : Nat) : Int) ≤ 0 by omega), smP_0 _ _ _ (show ((0 : Nat) : Int) ≤ 0 by omega)]
  | succ n ih =>
    intro h
    have i2 := ih (fun k a b => h k a (by omega))
    have w := h (n : Int) (by omega) (by omega)
    rcases Classical.em (p (n : Int)) with z | z
    · rw [smP_t p g (n : Int) ((n + 1 : Nat) : Int) (by omega) (by omega) z, smP_t q g' (n : Int) ((n + 1 : Nat) : Int) (by omega) (by omega) (w.1.mp z), i2, w.2 z]
    · rw [smP_f p g (n : Int) ((n + 1 : Nat) : Int) (by omega) (by omega) z, smP_f q g' (n : Int) ((n + 1 : Nat) : Int) (by omega) (by omega) (fun y => z (w.1.mpr y)), i2]
/-- what is asked of a question goes over to its copy -/
theorem CPR_q2 (h : CPR σ τ o o') (g : QLX σ o') (eA : ∀ c, 16 ≤ c ∧ c < 42 → τ.I c = σ.I c) (e0 : τ.I 0 9 = σ.I 0 9 ∧ τ.I 0 4 = σ.I 0 4 ∧ τ.I 0 20 = σ.I 0 20) (er : τ.2 = σ.2) (ea : ∀ c, 675 ≤ c → τ.I c = σ.I c) (hAN : AN σ) : QLX τ o ∧ ∀ x, 0 ≤ x → x < σ.I (o' + 1) 2 → σ.I (o' + 3) x = 7 → lsX τ o x = lsX σ o' x := by
  obtain ⟨⟨⟨w0, w1⟩, w2⟩, g2, g3, g4, g5, g6⟩ := g
  have ac : anC τ = anC σ := by funext k; unfold anC; show (τ.2.1 3 k).getD 0 = (σ.2.1 3 k).getD 0; rw [er]
  have e := fun m x (p : 3 ≤ m) (q : m ≤ 14) (a : 0 ≤ x) (b : x < σ.I (o' + 1) 2) => h.2.1 m x p q a b
  have hls : ∀ x, 0 ≤ x → x < σ.I (o' + 1) 2 → σ.I (o' + 3) x = 7 → lsX τ o x = lsX σ o' x := fun x a b c => by
    have q := (g4 x a b (by unfold lfN; rw [c]; decide)).2.2.2.1 c
    have z := AN_g hAN q.1.1 q.1.2
    have z6 := g6 x a b c
    unfold lsX
    rw [e 8 x (by omega) (by omega) a b, e 9 x (by omega) (by omega) a b, e 10 x (by omega) (by omega) a b, eA 17 (by decide), ac, anS_e (fun c x y => ea c (by omega)) er]
    exact tk_A q.2.1.1 (fun i x y => h.2.2 i (by omega) (by omega))
  have hn : 0 ≤ σ.I (o' + 1) 2 := w2.1
  have en : (((σ.I (o' + 1) 2).toNat : Nat) : Int) = σ.I (o' + 1) 2 := by omega
  have h3 := fun x a b => e 3 x (by omega) (by omega) a b
  refine ⟨⟨⟨⟨by rw [h.1.2.1]; exact w0, by rw [h.1.2.1]; exact CPR_wf h 130 _ w1⟩, by rw [h.1.1]; exact w2⟩, ?_, ?_, ?_, by rw [h.1.2.2]; exact g5, fun x a b c => ?_⟩, hls⟩
  · rw [h.1.1]
    have q := cn_ag (p := lfN τ o) (q := lfN σ o') (σ.I (o' + 1) 2).toNat (fun k a b => by unfold lfN; rw [h3 k a (by omega)])
    rw [en] at q
    unfold rwN at g2 ⊢
    rw [q]; exact g2
  · rw [h.1.1]
    have q := smP_ag (p := fun x => τ.I (o + 3) x = 7) (q := fun x => σ.I (o' + 3) x = 7) (g := fun x => (lsX τ o x).1) (g' := fun x => (lsX σ o' x).1) (σ.I (o' + 1) 2).toNat (fun k a b => ⟨by rw [h3 k a (by omega)], fun z => by rw [h3 k a (by omega)] at z; rw [hls k a (by omega) z]⟩)
    rw [en] at q
    unfold txN at g3 ⊢
    rw [q]; exact g3
  · intro x a b c
    rw [h.1.1] at b
    have c' : lfN σ o' x := by unfold lfN at c ⊢; rw [← h3 x a b]; exact c
    obtain ⟨q1, q2, q3, q4, q5, q6, q7⟩ := g4 x a b c'
    unfold NDq
    rw [h3 x a b, e 8 x (by omega) (by omega) a b, e 9 x (by omega) (by omega) a b, e 10 x (by omega) (by omega) a b, e 11 x (by omega) (by omega) a b, e 12 x (by omega) (by omega) a b, e 13 x (by omega) (by omega) a b, e 14 x (by omega) (by omega) a b, e0.1, e0.2.1, eA 17 (by decide), eA 16 (by decide)]
    refine ⟨q1, q2, q3, fun z => ⟨(q4 z).1, (q4 z).2.1, (q4 z).2.2.1, ?_⟩, q5, fun z => ?_, fun z => ⟨(q7 z).1, ?_⟩⟩
    · have w := hls x a b z
      have w2 : lsX τ o x = lsX τ o x := rfl
      unfold lsX at w2 ⊢
      rw [e 8 x (by omega) (by omega) a b, e 9 x (by omega) (by omega) a b, e 10 x (by omega) (by omega) a b, eA 17 (by decide)]
    · have w := q6 z
      unfold TNX at w ⊢
      rw [e 8 x (by omega) (by omega) a b, e 9 x (by omega) (by omega) a b, e 10 x (by omega) (by omega) a b, e 11 x (by omega) (by omega) a b, e0.1, eA 16 (by decide), eA 17 (by decide)]
      rw [e0.2.1]
      exact w
    · have w := (q7 z).2
      unfold PTX at w ⊢
      rw [eA 26 (by decide), eA 30 (by decide), e0.2.2]
      exact w
  · rw [h.1.1] at b
    rw [h3 x a b] at c
    rw [e 10 x (by omega) (by omega) a b, h.1.2.2]
    exact g6 x a b c
theorem CPR_q (h : CPR σ τ o o') (g : QLX σ o') (eA : ∀ c, 16 ≤ c ∧ c < 80 → τ.I c = σ.I c) (e0 : τ.I 0 9 = σ.I 0 9 ∧ τ.I 0 4 = σ.I 0 4 ∧ τ.I 0 20 = σ.I 0 20) (er : τ.2 = σ.2) (ea : ∀ c, 675 ≤ c → τ.I c = σ.I c) (hAN : AN σ) : QLX τ o ∧ ∀ x, 0 ≤ x → x < σ.I (o' + 1) 2 → σ.I (o' + 3) x = 7 → lsX τ o x = lsX σ o' x := CPR_q2 h g (fun c q => eA c (by omega)) e0 er ea hAN
end CPQ
end
section
/-! contracts: printed by tools/mk.py out of s98zc_mkw.py -/
set_option maxRecDepth 100000
set_option maxHeartbeats 1200000
/-! the world of a question, as a user sees it -/
def SAG (σ τ : Sto) (o : Nat) : Prop := ∀ c i, ((o ≤ c ∧ c ≤ o + 33 ∧ c ≠ o + 29) ∨ (16 ≤ c ∧ c < 80)) → τ.I c i = σ.I c i
section SAGS
variable {σ τ υ : Sto} {o : Nat} {V : Int → Int → Int}
theorem SAG.tr (h : SAG σ τ o) (g : SAG τ υ o) : SAG σ υ o := fun c i q => (g c i q).trans (h c i q)
theorem sag (h : SAG σ τ o) {c : Nat} (q : (o ≤ c ∧ c ≤ o + 33 ∧ c ≠ o + 29) ∨ (16 ≤ c ∧ c < 80)) : τ.I c = σ.I c := funext fun i => h c i q
theorem GX_a (h : SAG σ τ o) : GX τ o = GX σ o := by
  unfold GX
  rw [sag h (c := o + 3) (by omega), sag h (c := o + 4) (by omega), sag h (c := o + 5) (by omega), sag h (c := o + 6) (by omega), sag h (c := o + 7) (by omega), sag h (c := o + 11) (by omega)]
theorem xTO_a (h : SAG σ τ o) : xTO τ = xTO σ := by
  funext f k
  unfold xTO
  rw [sag h (c := 26) (by omega), sag h (c := 42) (by omega), sag h (c := 32) (by omega), sag h (c := 43) (by omega)]
theorem lfX_a (h : SAG σ τ o) : lfX τ o = lfX σ o := by
  funext x k
  unfold lfX
  rw [sag h (c := o + 23) (by omega), sag h (c := o + 21) (by omega), sag h (c := o + 3) (by omega), sag h (c := o) (by omega), sag h (c := o + 22) (by omega), sag h (c := o + 18) (by omega), sag h (c := o + 8) (by omega), sag h (c := o + 17) (by omega), xTO_a h]
theorem snW_a (h : SAG σ τ o) : snW τ o = snW σ o := by
  funext k; unfold snW; rw [sag h (c := o + 15) (by omega), sag h (c := o + 16) (by omega)]
theorem LQX_a (h : SAG σ τ o) : LQX τ o = LQX σ o := by
  funext x
  unfold LQX
  rw [sag h (c := o + 23) (by omega), sag h (c := o + 21) (by omega), sag h (c := o + 3) (by omega), sag h (c := o + 22) (by omega), sag h (c := o + 18) (by omega), sag h (c := o + 8) (by omega), sag h (c := o + 17) (by omega), snW_a h, xTO_a h]
theorem WX_a (h : SAG σ τ o) : WX τ o V = WX σ o V := by
  have e : RXq τ o V = RXq σ o V := by
    funext x
    unfold RXq
    rw [GX_a h, lfX_a h, LQX_a h, snW_a h, sag h (c := 44) (by omega), sag h (c := o + 3) (by omega), sag h (c := o + 1) (by omega)]
  funext f x
  unfold WX
  rw [GX_a h, e]
theorem vXX_a (h : SAG σ τ o) : vXX τ o = vXX σ o := by
  unfold vXX
  rw [GX_a h, snW_a h, lfX_a h, sag h (c := 44) (by omega)]
theorem CHW_a (h : SAG σ τ o) (g : CHW σ o) : CHW τ o := by
  have e : chQ τ (o + 15) = chQ σ (o + 15) := by
    funext p k; unfold chQ; rw [sag h (c := o + 15 + 1) (by omega), sag h (c := 44) (by omega)]
  unfold CHW CHN tre OB bd_0_250 bd_0_59 at *
  rw [e, sag h (c := o + 15) (by omega), sag h (c := o + 15 + 4) (by omega), sag h (c := o + 15 + 5) (by omega), sag h (c := o + 15 + 1) (by omega), sag h (c := 44) (by omega), sag h (c := 42) (by omega), sag h (c := 43) (by omega), sag h (c := 32) (by omega), sag h (c := o + 21) (by omega)]
  exact g
theorem SNX_a (h : SAG σ τ o) (h29 : ∀ i, τ.I (o + 29) i = σ.I (o + 29) i) (g : SNX σ o V) : SNX τ o V := by
  intro x k a b c d
  rw [sag h (c := o + 1) (by omega)] at b
  rw [GX_a h, h29]
  exact g x k a b c d
/-- scores may be asked for -/
def SCR (τ : Sto) (o : Nat) : Prop := CHW τ o ∧ SNX τ o (vXX τ o) ∧ 0 ≤ τ.I (o + 1) 4 ∧ WX τ o (vXX τ o) 130 (τ.I (o + 1) 4)
theorem SCR_a (h : SAG σ τ o) (h29 : SNX τ o (vXX σ o)) (g : SCR σ o) : SCR τ o := by
  obtain ⟨a, b, c, d⟩ := g
  refine ⟨CHW_a h a, by rw [vXX_a h]; exact h29, by rw [sag h (c := o + 1) (by omega)]; exact c, ?_⟩
  rw [vXX_a h, WX_a h, sag h (c := o + 1) (by omega)]; exact d
theorem SCR_s (h : SCR τ o) (k : Int) : (scW (tabS (GX τ o)) (vXX τ o) (τ.I (o + 1) 4) k < 0 ↔ ¬ 0 ≤ vXX τ o (τ.I (o + 1) 4) k) ∧ (0 ≤ vXX τ o (τ.I (o + 1) 4) k → 0 ≤ scW (tabS (GX τ o)) (vXX τ o) (τ.I (o + 1) 4) k) := by
  obtain ⟨_, _, r0, w⟩ := h
  have r := (WFX_at w r0).2.2.1.1.2.2.2.1
  unfold scW
  by_cases z : vXX τ o (τ.I (o + 1) 4) k < 0
  · rw [if_pos z]; exact ⟨⟨fun _ => by omega, fun _ => by decide⟩, fun y => by omega⟩
  · rw [if_neg z, tb4]
    have q := prd_in (t := GX τ o 4 (τ.I (o + 1) 4)) (s := vXX τ o (τ.I (o + 1) 4) k) r.1 (by omega)
    exact ⟨⟨fun y => by omega, fun y => by omega⟩, fun _ => q.1⟩
end SAGS
theorem QWX_p {o : Nat} {β τ : Sto} (h : KPq o β τ) (ho : 86 ≤ o) (g : QWX β o) : QWX τ o := by
  have e : GX τ o = GX β o := by unfold GX; rw [unp h (c := o + 3) (by omega), unp h (c := o + 4) (by omega), unp h (c := o + 5) (by omega), unp h (c := o + 6) (by omega), unp h (c := o + 7) (by omega), unp h (c := o + 11) (by omega)]
  have e2 : RwX τ o = RwX β o := by funext x; unfold RwX; rw [unp h (c := o + 1) (by omega), unp h (c := o + 3) (by omega), unp h (c := o + 6) (by omega), unp h (c := o + 7) (by omega), unp h (c := o + 4) (by omega), unp h (c := o + 11) (by omega)]
  unfold QWX at *
  rw [e, e2, unp h (c := o + 1) (by omega)]
  exact g
/-- a world of a version: nobody is hidden, nothing is blind -/
def WV0 (σ τ : Sto) (w : Nat) (v : Int) : Prop := (τ.I w 6 = 0 ∧ τ.I w 7 = σ.I 0 39 ∧ τ.I w 8 = 0) ∧ ∀ k, 0 ≤ k → k < σ.I 0 39 → τ.I (w + 1) k = zb (inV (σ.I 47) (σ.I 45) (σ.I 46) v k)
/-- prepared: it may be scored -/
theorem PRI_SCR {σ τ : Sto} {o : Nat} {K V : Int} (h : PRI σ τ o (lsX σ o) K V (σ.I (o + 1) 2) (rwN σ o (σ.I (o + 1) 2))) (hq : KPq o σ τ) (ho : 86 ≤ o ∧ o ≤ 160) (hQ : QLX σ o) (hB : BSX σ K V) (hw : σ.I (o + 15) 6 = 0 ∧ σ.I (o + 15) 7 = σ.I 0 39 ∧ σ.I (o + 15) 8 = 0) (hC : CHN σ (o + 15)) : SCR τ o := by
  obtain ⟨⟨a1, a2, a3, a4, a5, a6, a7, a8, a9, a10, a11⟩, b1, b2, b3, b4, b5, b6, b7, b8, b9, b10, b11, b12⟩ := hB
  have hwA := b12 σ o ho.1 (fun _ _ => rfl) (fun _ _ => rfl) hw.2.2 hw.1 hw.2.1
  have pb := PRI_b h
  have u15 := unp hq (c := o + 15) (by omega)
  have lq := PRI_LQ h hq ho rfl (by rw [hw.2.1]; omega) a2 a3 a9.2.1.1 b8 (by have := a11.1; omega) (fun x x0 x1 x7 => by
    have n := hQ.2.2.2.1 x x0 x1 x7
    refine ⟨n.2.1, fun z => ?_⟩
    have q := n.2.2.2.1 z
    have t := tk_TKI (A := σ.I (o + 2)) (f := σ.I (o + 9) x) (to := σ.I (o + 10) x) (ARW_X (b4 _ q.1.1 q.1.2).1) q.2.1.1 q.2.1.2.1
    rw [← q.2.2.2] at t
    exact t.1.1) a1.2 (fun f l sl k s z => by rw [hw.2.1]; exact hwA.2.2 f l sl k s z)
  have qw := QWX_p hq ho.1 hQ.1
  refine ⟨?_, ?_, qw.1.1, WX_mk qw lq⟩
  · have e : chQ τ (o + 15) = chQ σ (o + 15) := by
      funext p k; unfold chQ; rw [unp hq (c := o + 15 + 1) (by omega), unp hq (c := 44) (by omega)]
    refine ⟨by rw [u15, hw.2.1]; omega, fun z => by rw [u15, hw.2.1] at z; omega, ?_, ?_, OBX_p hq ho.1 a2, bd_0_250_eq a3 (unp hq (by omega)), pb.2.1⟩
    · unfold CHN
      rw [e, u15, unp hq (c := o + 15 + 4) (by omega), unp hq (c := o + 15 + 5) (by omega), unp hq (c := o + 15 + 1) (by omega), unp hq (c := 44) (by omega)]
      exact hC
    · rw [u15, hw.2.1]; exact tre_e b11 (unp hq (by omega))
  · obtain ⟨β, _, _, _, _, _, hk, _⟩ := h
    intro x k x0 x1 k0 k1
    rw [unp hq (c := o + 1) (by omega)] at x1
    exact Or.inl (hk _ (by omega) (by omega))
theorem HOWA_e {σ τ : Sto} {K V : Int} (h : HOWA σ K V) (e : ∀ c, 16 ≤ c ∧ c < 80 → τ.I c = σ.I c) (e0 : ∀ i, i = 4 ∨ i = 9 ∨ i = 20 ∨ i = 31 ∨ i = 39 → τ.I 0 i = σ.I 0 i) : HOWA τ K V := by
  intro υ o ho g g0 w8 w6 w7
  have en := e0 39 (by omega)
  rw [en] at w7
  rw [en, e 18 (by decide), e 20 (by decide)]
  exact h υ o ho (fun c q => (g c q).trans (e c q)) (fun i q => (g0 i q).trans (e0 i q)) w8 w6 w7
end
section
/-! contracts: printed by tools/mk.py out of s98zd_mkwC.py -/
set_option maxRecDepth 100000
set_option maxHeartbeats 1200000
def ubX (σ : Sto) : Nat := 215 + 15 * (σ.I 0 46).toNat
theorem usr_c {σ τ : Sto} {b : Nat} (hL : Lay σ) (hR : τ.R = σ.R) (hu : τ.I 0 46 = σ.I 0 46) (h0 : 0 ≤ σ.I 0 46) (h1 : σ.I 0 46 < 4) (r : τ.R 50 (τ.I 0 46) = some b) : b = ubX σ := by
  rw [hR, hu, (user_at hL h0 h1).1] at r
  exact (Option.some.inj r).symm
/-- what the making of a world writes -/
def wsMw (o c : Nat) (i : Int) : Prop := c = 2 ∨ (10 ≤ c ∧ c ≤ 15) ∨ c = 81 ∨ (155 ≤ c ∧ c ≤ 188) ∨ (o + 15 ≤ c ∧ c ≤ o + 20 ∧ i = i)
abbrev KMw (o : Nat) (σ τ : Sto) : Prop := Ch (wsMw o) σ τ
section KMWS
variable {o : Nat} {σ τ : Sto}
theorem KMw_rf : KMw o σ σ := Ch.rf
theorem KMw_w {a : Nat} {i v : Int} (e : τ = σ.wI a i v) (h : wsMw o a i) : KMw o σ τ := by subst e; exact Ch.wI Ch.rf h
theorem KMw_of_KPq (h : KPq 155 σ τ) : KMw o σ τ := Ch.mono h (fun c i q => by unfold wsPq wsPr at q; unfold wsMw; omega)
theorem KMw_of_KNf (h : KNf 155 σ τ) : KMw o σ τ := Ch.mono h (fun c i q => by unfold wsNf at q; unfold wsMw; omega)
end KMWS
/-- the hidden ones are looked for: α the store in which their question is asked, ρ when it is prepared -/
def HDP (σ α ρ : Sto) (K V v : Int) : Prop := CPR σ α 155 (ubX σ) ∧ (∀ c i, ¬ (c = 2 ∨ (10 ≤ c ∧ c ≤ 15) ∨ c = 81 ∨ (155 ≤ c ∧ c ≤ 188)) → ¬ (c = 102 ∨ (103 ≤ c ∧ c ≤ 107) ∨ (136 ≤ c ∧ c ≤ 141)) → α.I c i = σ.I c i) ∧ α.2 = σ.2 ∧ (WV0 σ α 170 v ∧ α.I 170 1 = 0 ∧ α.I 155 2 = 0) ∧ PRI α ρ 155 (lsX α 155) K V (α.I (155 + 1) 2) (rwN α 155 (α.I (155 + 1) 2)) ∧ KPq 155 α ρ ∧ SCR ρ 155
def hdX (ρ : Sto) (k : Int) : Prop := 0 ≤ vXX ρ 155 (ρ.I (155 + 1) 4) k
/-- who is seen -/
def SEX (σ τ : Sto) (o : Nat) (K V v : Int) : Prop := (σ.I 0 46 ≤ 0 ∨ σ.I (ubX σ) 1 = 0 → ∀ k, 0 ≤ k → k < σ.I 0 39 → τ.I (o + 16) k = zb (inV (σ.I 47) (σ.I 45) (σ.I 46) v k)) ∧ (0 < σ.I 0 46 → σ.I (ubX σ) 1 ≠ 0 → ∃ α ρ, HDP σ α ρ K V v ∧ ∀ k, 0 ≤ k → k < σ.I 0 39 → τ.I (o + 16) k = zb (inV (σ.I 47) (σ.I 45) (σ.I 46) v k ∧ ¬ hdX ρ k))
def HD8 (σ τ : Sto) (o : Nat) (K V v x : Int) : Prop := ∃ α ρ, HDP σ α ρ K V v ∧ SAG ρ τ 155 ∧ (∀ k, 0 ≤ k → k < σ.I 0 39 → τ.I 171 k = zb (inV (σ.I 47) (σ.I 45) (σ.I 46) v k)) ∧ ∀ k, 0 ≤ k → k < σ.I 0 39 → τ.I (o + 16) k = if k < x then zb (inV (σ.I 47) (σ.I 45) (σ.I 46) v k ∧ ¬ hdX ρ k) else zb (inV (σ.I 47) (σ.I 45) (σ.I 46) v k)
theorem HD8_s {σ τ υ : Sto} {o : Nat} {K V v x : Int} (h : HD8 σ τ o K V v x) (h0 : 0 ≤ x) (h1 : x < σ.I 0 39) (a : SAG τ υ 155) (h171 : ∀ k, υ.I 171 k = τ.I 171 k) (hk : ∀ k, k ≠ x → υ.I (o + 16) k = τ.I (o + 16) k) (hb : (τ.I 171 x = 0 ∧ υ.I (o + 16) x = τ.I (o + 16) x) ∨ (τ.I 171 x ≠ 0 ∧ ¬ 0 ≤ vXX τ 155 (τ.I (155 + 1) 4) x ∧ υ.I (o + 16) x = τ.I (o + 16) x) ∨ (0 ≤ vXX τ 155 (τ.I (155 + 1) 4) x ∧ υ.I (o + 16) x = 0)) : HD8 σ υ o K V v (x + 1) := by
  obtain ⟨α, ρ, p, s, e1, e2⟩ := h
  have ev : vXX τ 155 (τ.I (155 + 1) 4) x = vXX ρ 155 (ρ.I (155 + 1) 4) x := by rw [vXX_a s, sag s (c := 155 + 1) (by omega)]
  refine ⟨α, ρ, p, s.tr a, fun k k0 k1 => by rw [h171]; exact e1 k k0 k1, fun k k0 k1 => ?_⟩
  rcases (show k = x ∨ k ≠ x by omega) with z | z
  · subst z
    have w := e2 k k0 k1
    have w1 := e1 k k0 k1
    rw [if_neg (by omega)] at w
    rw [if_pos (by omega)]
    rw [ev] at hb
    rcases hb with ⟨b1, b2⟩ | ⟨b1, b2, b3⟩ | ⟨b1, b2⟩
    · rw [b2, w]
      rw [b1] at w1
      rw [← w1]
      exact (zb_f (fun y => by rw [zb_t y.1] at w1; omega)).symm
    · rw [b3, w]
      rcases zb_cs (inV (σ.I 47) (σ.I 45) (σ.I 46) v k) with y | y
      · rw [y.2]; exact (zb_t ⟨y.1, b2⟩).symm
      · rw [y.2] at w1; omega
    · rw [b2]; exact (zb_f (fun y => y.2 b1)).symm
  · rw [hk k z, e2 k k0 k1]
    by_cases y : k < x
    · rw [if_pos y, if_pos (by omega)]
    · rw [if_neg y, if_neg (by omega)]
theorem HD8_e {σ τ υ : Sto} {o : Nat} {K V v x : Int} (h : HD8 σ τ o K V v x) (hx : σ.I 0 39 ≤ x) (h1 : 0 < σ.I 0 46) (h2 : σ.I (ubX σ) 1 ≠ 0) (hk : ∀ k, υ.I (o + 16) k = τ.I (o + 16) k) : SEX σ υ o K V v := by
  obtain ⟨α, ρ, p, s, e1, e2⟩ := h
  refine ⟨fun z => by omega, fun _ _ => ⟨α, ρ, p, fun k k0 k1 => ?_⟩⟩
  rw [hk, e2 k k0 k1, if_pos (by omega)]

theorem chQ_e {σ τ : Sto} {w : Nat} (e1 : τ.I (w + 1) = σ.I (w + 1)) (e2 : τ.I 44 = σ.I 44) : chQ τ w = chQ σ w := by funext p k; unfold chQ; rw [e1, e2]
theorem CHN_b {σ τ : Sto} {w : Nat} {v : Int} (h : CHN σ w) (hw : 100 ≤ w) (e : τ = σ.wI w 1 v) : CHN τ w := by
  have k : ∀ c, c ≠ w → τ.I c = σ.I c := fun c q => funext fun i => by rw [e]; exact I_ne _ _ _ _ q
  have k7 : τ.I w 7 = σ.I w 7 := by rw [e]; exact I_nj _ _ _ _ (by decide)
  unfold CHN
  rw [chQ_e (k (w + 1) (by omega)) (k _ (by omega)), k7, k (w + 4) (by omega), k (w + 1) (by omega), k (w + 5) (by omega), k 44 (by omega)]
  exact h
theorem CHN_c {τ υ : Sto} {w : Nat} (hw : 100 ≤ w) (e : υ.I = fun c i => if rg c i (w + 4) 0 (τ.I w 7) then fsF (chQ τ w i) 0 (τ.I w 7) else if rg c i (w + 5) 0 (τ.I w 7) ∧ τ.I (w + 1) i = 1 ∧ 0 ≤ τ.I 44 i then fsF (chQ τ w (τ.I 44 i)) (i + 1) (τ.I w 7) else τ.I c i) : CHN υ w ∧ ∀ c i, ¬ (c = w + 4 ∨ c = w + 5) → υ.I c i = τ.I c i := by
  have k : ∀ c i, ¬ (c = w + 4 ∨ c = w + 5) → υ.I c i = τ.I c i := fun c i q => by
    rw [e]; show (if rg c i _ _ _ then _ else if rg c i _ _ _ ∧ _ then _ else _) = _
    rw [if_neg (fun z => q (Or.inl z.1)), if_neg (fun z => q (Or.inr z.1.1))]
  refine ⟨fun x x0 x1 => ?_, k⟩
  rw [k w 7 (by omega)] at x1
  rw [chQ_e (σ := τ) (funext fun i => k _ i (by omega)) (funext fun i => k _ i (by omega)), k w 7 (by omega), k (w + 1) x (by omega), k 44 x (by omega)]
  refine ⟨?_, fun a b => ?_⟩
  · rw [e]; show (if rg (w + 4) x _ _ _ then _ else _) = _
    rw [if_pos ⟨rfl, x0, x1⟩]
  · rw [e]; show (if rg (w + 5) x _ _ _ then _ else if rg (w + 5) x _ _ _ ∧ _ then _ else _) = _
    rw [if_neg (fun z => by have := z.1; omega), if_pos ⟨⟨rfl, x0, x1⟩, a, b⟩]
theorem SEX_e {σ τ υ : Sto} {o : Nat} {K V v : Int} (h : SEX σ τ o K V v) (e : ∀ k, υ.I (o + 16) k = τ.I (o + 16) k) : SEX σ υ o K V v := by
  refine ⟨fun z k a b => by rw [e]; exact h.1 z k a b, fun a b => ?_⟩
  obtain ⟨α, ρ, p, q⟩ := h.2 a b
  exact ⟨α, ρ, p, fun k x y => by rw [e]; exact q k x y⟩

theorem sp_X0_makeWorld {E : XE} {d : Nat} {σ : Sto} {K : Int} {V : Int} {o1 : Nat} {x2 : Int} (hd : 527 ≤ d) (hL : Lay σ) (ho1 : At5 σ o1) (p0 : o1 = 87 ∨ o1 = 121) (p1 : inR x2) (p2 : 0 ≤ σ.I 0 46 ∧ σ.I 0 46 < 4) (p3 : BSX σ K V) (p4 : 0 < σ.I 0 46 → σ.I (ubX σ) 1 ≠ 0 → QLX σ (ubX σ)) (p5 : PBD σ 155) : CC E mX0_makeWorld d [aO 0, aO o1, aI (x2)] σ (RV (fun τ => ((τ.I (o1 + 15) 6 = 0 ∧ τ.I (o1 + 15) 7 = (σ.I 0 39) ∧ τ.I (o1 + 15) 8 = 0) ∧ τ.I (o1 + 15) 1 = (if 0 < σ.I 0 46 then σ.I (ubX σ) 2 else 0)) ∧ (CHN τ (o1 + 15)) ∧ (SEX σ τ o1 K V x2) ∧ (PBD τ 155) ∧ (KMw o1 σ τ))) := by sorry
end
section
/-! contracts: printed by tools/mk.py out of s98ze_srchX.py -/
set_option maxRecDepth 100000
set_option maxHeartbeats 1200000
/-! the program's search -/
def SX0 (σ ς : Sto) : Prop := (ς.R = σ.R ∧ ς.sh = σ.sh ∧ ς.n = σ.n) ∧ ς.I = fun c i => if c = 211 then σ.I c i + cn (fun s => nOf (σ.I 210) (σ.I 0 96) s = i) (σ.I 0 95) else if fgX c i then 0 else σ.I c i
def selX (ρ : Sto) (k : Int) : Prop := ρ.I 103 k = 1 ∧ 0 ≤ vXX ρ 87 (ρ.I (87 + 1) 4) k
noncomputable def scX (ρ : Sto) (k : Int) : Int := scW (tabS (GX ρ 87)) (vXX ρ 87) (ρ.I (87 + 1) 4) k
/-- the hits among the first x objects, in their order -/
def HLX (ρ τ : Sto) (x : Int) : Prop := τ.I 0 70 = cn (selX ρ) x ∧ ∀ k, 0 ≤ k → k < x → selX ρ k → τ.I 189 (cn (selX ρ) k) = k ∧ τ.I 190 (cn (selX ρ) k) = scX ρ k
theorem HLX_n {ρ τ υ : Sto} {x : Int} (h : HLX ρ τ x) (h0 : 0 ≤ x) (hn : ¬ selX ρ x) (e : ∀ c i, c = 0 ∨ c = 189 ∨ c = 190 → υ.I c i = τ.I c i) : HLX ρ υ (x + 1) := by
  obtain ⟨a, b⟩ := h
  refine ⟨by rw [e _ _ (by decide), cn_s _ x (x + 1) h0 rfl, zb_f hn, Int.add_zero]; exact a, fun k k0 k1 hs => ?_⟩
  rcases (show k < x ∨ k = x by omega) with z | z
  · rw [e _ _ (by decide), e _ _ (by decide)]; exact b k k0 z hs
  · rw [z] at hs; contradiction
theorem cn_mo {p : Int → Prop} {a b : Int} (h0 : 0 ≤ a) (h : a ≤ b) : cn p a ≤ cn p b := by
  obtain ⟨n, hn⟩ := Int.eq_ofNat_of_zero_le (show 0 ≤ b - a by omega)
  have e : b = a + n := by omega
  subst e
  clear hn h
  induction n with
  | zero => exact Int.le_of_eq (by congr 1; omega)
  | succ n ih =>
    have s := cn_s p (a + n) (a + ((n + 1 : Nat) : Int)) (by omega) (by omega)
    rw [s]
    rcases zb_cs (p (a + n)) with z | z <;> omega
theorem HLX_y {ρ τ υ : Sto} {x : Int} (h : HLX ρ τ x) (h0 : 0 ≤ x) (hs : selX ρ x) (e : υ.I = fun c i => if at2 c i 189 (τ.I 0 70) then x else if at2 c i 190 (τ.I 0 70) then scX ρ x else if at2 c i 0 70 then τ.I 0 70 + 1 else τ.I c i) : HLX ρ υ (x + 1) := by
  obtain ⟨a, b⟩ := h
  have c70 : υ.I 0 70 = τ.I 0 70 + 1 := by rw [e]; grind
  have h189 : ∀ i, υ.I 189 i = if i = τ.I 0 70 then x else τ.I 189 i := fun i => by rw [e]; grind
  have h190 : ∀ i, υ.I 190 i = if i = τ.I 0 70 then scX ρ x else τ.I 190 i := fun i => by rw [e]; grind
  refine ⟨by rw [c70, a, cn_s _ x (x + 1) h0 rfl, zb_t hs], fun k k0 k1 hk => ?_⟩
  rw [h189, h190]
  rcases (show k < x ∨ k = x by omega) with z | z
  · have s := cn_s (selX ρ) k (k + 1) k0 rfl
    rw [zb_t hk] at s
    have m := cn_mo (p := selX ρ) (a := k + 1) (b := x) (by omega) (by omega)
    rw [if_neg (by omega), if_neg (by omega)]; exact b k k0 z hk
  · rw [z, if_pos a.symm, if_pos a.symm]; exact ⟨rfl, rfl⟩
theorem HLX_b {ρ τ : Sto} {x : Int} (h : HLX ρ τ x) (h0 : 0 ≤ x) : (0 ≤ τ.I 0 70 ∧ τ.I 0 70 ≤ x) ∧ ∀ i, 0 ≤ i → i < τ.I 0 70 → 0 ≤ τ.I 189 i ∧ τ.I 189 i < x := by
  obtain ⟨a, b⟩ := h
  have c := cn_in (selX ρ) x
  refine ⟨by omega, fun i i0 i1 => ?_⟩
  rw [a] at i1
  have key : ∀ n : Nat, (n : Int) ≤ x → i < cn (selX ρ) (n : Int) → ∃ k, 0 ≤ k ∧ k < (n : Int) ∧ selX ρ k ∧ cn (selX ρ) k = i := by
    intro n
    induction n with
    | zero => intro _ z; rw [cn_0 _ _ (show ((0 : Nat) : Int) ≤ 0 by omega)] at z; omega
    | succ n ih =>
      intro hn z
      rw [cn_s (selX ρ) (n : Int) ((n + 1 : Nat) : Int) (by omega) (by omega)] at z
      rcases Int.lt_or_le i (cn (selX ρ) (n : Int)) with y | y
      · obtain ⟨k, k0, k1, k2, k3⟩ := ih (by omega) y
        exact ⟨k, k0, by omega, k2, k3⟩
      · rcases zb_cs (selX ρ (n : Int)) with w | w
        · exact ⟨(n : Int), by omega, by omega, w.1, by omega⟩
        · omega
  obtain ⟨k, k0, k1, k2, k3⟩ := key x.toNat (by omega) (by rw [show ((x.toNat : Nat) : Int) = x by omega]; exact i1)
  have q := (b k k0 (by omega) k2).1
  rw [k3] at q
  rw [q]; omega
def wsXs (c : Nat) (i : Int) : Prop := c = 2 ∨ (10 ≤ c ∧ c ≤ 15) ∨ c = 81 ∨ (87 ≤ c ∧ c ≤ 120) ∨ (155 ≤ c ∧ c ≤ 188) ∨ c = 189 ∨ c = 190 ∨ c = 211 ∨ wsSo c i ∨ fgX c i
abbrev KXs (σ τ : Sto) : Prop := Ch wsXs σ τ
theorem KXs_rf {σ : Sto} : KXs σ σ := Ch.rf
theorem KXs_w {σ τ : Sto} {a : Nat} {i v : Int} (e : τ = σ.wI a i v) (h : wsXs a i) : KXs σ τ := by subst e; exact Ch.wI Ch.rf h
theorem KXs_of_KPq {σ τ : Sto} (h : KPq 87 σ τ) : KXs σ τ := Ch.mono h (fun c i q => by unfold wsPq wsPr at q; unfold wsXs; omega)
theorem KXs_of_KMw {σ τ : Sto} (h : KMw 87 σ τ) : KXs σ τ := Ch.mono h (fun c i q => by unfold wsMw at q; unfold wsXs; omega)
theorem KXs_of_KNf {σ τ : Sto} (h : KNf 87 σ τ) : KXs σ τ := Ch.mono h (fun c i q => by unfold wsNf at q; unfold wsXs; omega)
theorem KXs_of_KSo {σ τ : Sto} (h : KSo σ τ) : KXs σ τ := Ch.mono h (fun c i q => Or.inr (Or.inr (Or.inr (Or.inr (Or.inr (Or.inr (Or.inr (Or.inr (Or.inl q)))))))))
/-- the question is asked: α where it is copied, β its world, ρ prepared -/
def SXP (ς α β ρ : Sto) (K V v : Int) : Prop := (CPR ς α 87 50 ∧ α.I 87 2 = ς.I 0 63 ∧ α.2 = ς.2 ∧ ∀ c i, ¬ (87 ≤ c ∧ c ≤ 101) → α.I c i = ς.I c i) ∧ ((β.I (87 + 15) 6 = 0 ∧ β.I (87 + 15) 7 = α.I 0 39 ∧ β.I (87 + 15) 8 = 0) ∧ β.I (87 + 15) 1 = (if 0 < α.I 0 46 then α.I (ubX α) 2 else 0)) ∧ SEX α β 87 K V v ∧ KMw 87 α β ∧ PRI β ρ 87 (lsX β 87) K V (β.I (87 + 1) 2) (rwN β 87 (β.I (87 + 1) 2)) ∧ KPq 87 β ρ ∧ SCR ρ 87
def SX7 (σ τ : Sto) (K V v x : Int) : Prop := ∃ ς α β ρ, SX0 σ ς ∧ SXP ς α β ρ K V v ∧ SAG ρ τ 87 ∧ HLX ρ τ x
/-- what a search leaves -/
def SXR (σ τ : Sto) (K V v : Int) : Prop := ∃ ψ, SX7 σ ψ K V v (σ.I 0 39) ∧ (ψ.I 0 64 = σ.I 0 64 ∧ ψ.I 0 65 = σ.I 0 65) ∧ (∃ p, PRM (ψ.I 0 70) p ∧ RWH ψ τ (ψ.I 0 64) (ψ.I 0 65) (ψ.I 0 70) p ∧ ∀ a b, 0 ≤ a → a < b → b < ψ.I 0 70 → ¬ LX2 ψ (ψ.I 0 64) (ψ.I 0 65) 1 (p b) (p a)) ∧ KSo ψ τ ∧ ψ.I 0 71 = 1

theorem CPR_id {σ τ : Sto} {o : Nat} (e : ∀ c i, o + 1 ≤ c → c ≤ o + 14 → τ.I c i = σ.I c i) : CPR σ τ o o := ⟨⟨e _ _ (by omega) (by omega), e _ _ (by omega) (by omega), e _ _ (by omega) (by omega)⟩, fun m x a b _ _ => e _ _ (by omega) (by omega), fun i _ _ => e _ _ (by omega) (by omega)⟩

theorem SX7_s {σ τ : Sto} {K V v x k : Int} (h : SX7 σ τ K V v x) (h0 : 0 ≤ k) (h1 : k < σ.I 0 39) : (τ.I 103 k = 0 ∨ τ.I 103 k = 1) ∧ τ.I (87 + 15) 7 = σ.I 0 39 := by
  obtain ⟨ς, α, β, ρ, a, ⟨⟨c1, c2, c3, c4⟩, ⟨w1, _⟩, s, km, _, kp, _⟩, sa, _⟩ := h
  have en : α.I 0 39 = σ.I 0 39 := (c4 _ _ (by omega)).trans (by rw [a.2]; show (if _ then _ else if fgX _ _ then _ else _) = _; rw [if_neg (by decide), if_neg (by unfold fgX; omega)])
  have e1 : τ.I 103 k = β.I 103 k := (sa _ _ (by omega)).trans (kp.2 _ _ (by unfold wsPq wsPr; omega))
  have e2 : τ.I (87 + 15) 7 = σ.I 0 39 := (sa _ _ (by omega)).trans ((kp.2 _ _ (by unfold wsPq wsPr; omega)).trans (w1.2.1.trans en))
  refine ⟨?_, e2⟩
  rw [e1]
  by_cases u : α.I 0 46 ≤ 0 ∨ α.I (ubX α) 1 = 0
  · have q := s.1 u k h0 (by rw [en]; exact h1)
    have z := zb_cs (inV (α.I 47) (α.I 45) (α.I 46) v k)
    have q' : β.I 103 k = _ := q
    rw [q']; omega
  · obtain ⟨α', ρ', _, q⟩ := s.2 (by omega) (fun w => u (Or.inr w))
    have q := q k h0 (by rw [en]; exact h1)
    have z := zb_cs (inV (α.I 47) (α.I 45) (α.I 46) v k ∧ ¬ hdX ρ' k)
    have q' : β.I 103 k = _ := q
    rw [q']; omega
theorem SX7_n {σ τ υ : Sto} {K V v x : Int} (h : SX7 σ τ K V v x) (h0 : 0 ≤ x) (a : SAG τ υ 87) (hn : ¬ (τ.I 103 x = 1 ∧ 0 ≤ vXX τ 87 (τ.I (87 + 1) 4) x)) (e : ∀ c i, c = 0 ∨ c = 189 ∨ c = 190 → υ.I c i = τ.I c i) : SX7 σ υ K V v (x + 1) := by
  obtain ⟨ς, α, β, ρ, p, q, s, l⟩ := h
  refine ⟨ς, α, β, ρ, p, q, s.tr a, HLX_n l h0 (fun z => hn ?_) e⟩
  rw [vXX_a s, sag s (c := 87 + 1) (by omega), s 103 x (by omega)]; exact z
theorem SX7_y {σ τ υ w : Sto} {K V v x y : Int} (h : SX7 σ τ K V v x) (h0 : 0 ≤ x) (a : SAG τ υ 87) (b : SAG υ w 87) (hs : τ.I 103 x = 1 ∧ 0 ≤ vXX τ 87 (τ.I (87 + 1) 4) x) (hy : y = scW (tabS (GX τ 87)) (vXX τ 87) (τ.I (87 + 1) 4) x) (e : ∀ c i, c = 0 ∨ c = 189 ∨ c = 190 → υ.I c i = τ.I c i) (e2 : w.I = fun c i => if at2 c i 189 (υ.I 0 70) then x else if at2 c i 190 (υ.I 0 70) then y else if at2 c i 0 70 then υ.I 0 70 + 1 else υ.I c i) : SX7 σ w K V v (x + 1) := by
  obtain ⟨ς, α, β, ρ, p, q, s, l⟩ := h
  have l2 : HLX ρ υ x := ⟨by rw [e _ _ (by decide)]; exact l.1, fun k k0 k1 hk => by rw [e _ _ (by decide), e _ _ (by decide)]; exact l.2 k k0 k1 hk⟩
  have hs' : selX ρ x := by
    rw [vXX_a s, sag s (c := 87 + 1) (by omega), s 103 x (by omega)] at hs; exact hs
  have hy' : y = scX ρ x := by rw [hy, GX_a s, vXX_a s, sag s (c := 87 + 1) (by omega)]; rfl
  rw [hy'] at e2
  exact ⟨ς, α, β, ρ, p, q, (s.tr a).tr b, HLX_y l2 h0 hs' e2⟩
theorem SX7_e {σ τ υ : Sto} {K V v x : Int} (h : SX7 σ τ K V v x) (a : SAG τ υ 87) (e : ∀ c i, (c = 0 ∧ i = 70) ∨ c = 189 ∨ c = 190 → υ.I c i = τ.I c i) : SX7 σ υ K V v x := by
  obtain ⟨ς, α, β, ρ, p, q, s, l⟩ := h
  exact ⟨ς, α, β, ρ, p, q, s.tr a, ⟨by rw [e _ _ (by omega)]; exact l.1, fun k k0 k1 hk => by rw [e _ _ (by omega), e _ _ (by omega)]; exact l.2 k k0 k1 hk⟩⟩

theorem SCR_b {τ : Sto} {o : Nat} (h : SCR τ o) (k : Int) : -1 ≤ scW (tabS (GX τ o)) (vXX τ o) (τ.I (o + 1) 4) k ∧ scW (tabS (GX τ o)) (vXX τ o) (τ.I (o + 1) 4) k ≤ 1000000000000000 := by
  obtain ⟨_, _, r0, w⟩ := h
  have r := (WFX_at w r0).2.2.1.1.2.2.2.1
  unfold scW
  by_cases z : vXX τ o (τ.I (o + 1) 4) k < 0
  · rw [if_pos z]; decide
  · rw [if_neg z, tb4]
    have q := prd_in (t := GX τ o 4 (τ.I (o + 1) 4)) (s := vXX τ o (τ.I (o + 1) 4) k) r.1 (by omega)
    exact ⟨by omega, q.2.1⟩

theorem sp_X0_search {E : XE} {d : Nat} {σ : Sto} {K : Int} {V : Int} {x1 : Int} (hd : 528 ≤ d) (hL : Lay σ)  (p0 : inR x1) (p1 : 0 ≤ σ.I 0 46 ∧ σ.I 0 46 < 4) (p2 : BSX σ K V) (p3 : 0 < σ.I 0 46 → σ.I (ubX σ) 1 ≠ 0 → QLX σ (ubX σ)) (p4 : PBD σ 155) (p5 : PBD σ 87) (p6 : σ.I 0 48 ≠ 0 → QLX σ 50) (p7 : (1 ≤ σ.I 0 96 ∧ σ.I 0 96 ≤ 8) ∧ (1 ≤ σ.I 0 95 ∧ σ.I 0 95 ≤ 8)) (p8 : bd_0_1000000 σ 211 8) (p9 : inR (if x1 = -1 then σ.I 0 40 else if 0 ≤ x1 ∧ x1 ≤ 3 then σ.I 48 x1 else -1)) (p10 : -1 ≤ σ.I 0 64 ∧ σ.I 0 64 < 12) (p11 : 0 ≤ σ.I 0 65 ∧ σ.I 0 65 ≤ 1) : CC E mX0_search d [aO 0, aI (x1)] σ (RVI (fun y τ => (((if x1 = -1 then σ.I 0 40 else if 0 ≤ x1 ∧ x1 ≤ 3 then σ.I 48 x1 else -1) < 0 ∧ y = -1 ∧ RD σ τ (fun c i => if fgX c i then 0 else σ.I c i)) ∨ (0 ≤ (if x1 = -1 then σ.I 0 40 else if 0 ≤ x1 ∧ x1 ≤ 3 then σ.I 48 x1 else -1) ∧ σ.I 0 48 = 0 ∧ y = -2 ∧ RD σ τ (fun c i => if fgX c i then 0 else σ.I c i)) ∨ (0 ≤ (if x1 = -1 then σ.I 0 40 else if 0 ≤ x1 ∧ x1 ≤ 3 then σ.I 48 x1 else -1) ∧ σ.I 0 48 ≠ 0 ∧ ¬ alN (fun s => 0 ≤ nOf (σ.I 210) (σ.I 0 96) s) (σ.I 0 95) ∧ y = -4 ∧ RD σ τ (fun c i => if fgX c i then 0 else σ.I c i)) ∨ (0 ≤ (if x1 = -1 then σ.I 0 40 else if 0 ≤ x1 ∧ x1 ≤ 3 then σ.I 48 x1 else -1) ∧ σ.I 0 48 ≠ 0 ∧ alN (fun s => 0 ≤ nOf (σ.I 210) (σ.I 0 96) s) (σ.I 0 95) ∧ y = τ.I 0 70 ∧ SXR σ τ K V (if x1 = -1 then σ.I 0 40 else if 0 ≤ x1 ∧ x1 ≤ 3 then σ.I 48 x1 else -1))) ∧ (PBD τ 155 ∧ PBD τ 87) ∧ (KXs σ τ))) := by sorry
end
section
/-! contracts: printed by tools/mk.py out of s98zf_percM.py -/
set_option maxRecDepth 100000
set_option maxHeartbeats 1200000
/-! the kept questions that match the draft -/
def FLI (a : Int → Int) (P : Int → Prop) (x n : Int) : Prop := n = cn P x ∧ ∀ k, 0 ≤ k → k < x → P k → a (cn P k) = k
theorem FLI_0 {a : Int → Int} {P : Int → Prop} {n : Int} (h : n = 0) : FLI a P 0 n := ⟨by rw [h, cn_0 _ _ (Int.le_refl _)], fun k a b => by omega⟩
theorem FLI_n {a b : Int → Int} {P : Int → Prop} {x n m : Int} (h : FLI a P x n) (h0 : 0 ≤ x) (hp : ¬ P x) (hm : m = n) (e : ∀ i, b i = a i) : FLI b P (x + 1) m := by
  obtain ⟨c, d⟩ := h
  refine ⟨by rw [hm, cn_s _ x (x + 1) h0 rfl, zb_f hp, Int.add_zero]; exact c, fun k k0 k1 hk => ?_⟩
  rcases (show k < x ∨ k = x by omega) with z | z
  · rw [e]; exact d k k0 z hk
  · rw [z] at hk; contradiction
theorem FLI_y {a b : Int → Int} {P : Int → Prop} {x n m : Int} (h : FLI a P x n) (h0 : 0 ≤ x) (hp : P x) (hm : m = n + 1) (e1 : b n = x) (e2 : ∀ i, i ≠ n → b i = a i) : FLI b P (x + 1) m := by
  obtain ⟨c, d⟩ := h
  refine ⟨by rw [hm, cn_s _ x (x + 1) h0 rfl, zb_t hp, c], fun k k0 k1 hk => ?_⟩
  rcases (show k < x ∨ k = x by omega) with z | z
  · have s := cn_s P k (k + 1) k0 rfl
    rw [zb_t hk] at s
    have m := cn_mo (p := P) (a := k + 1) (b := x) (by omega) (by omega)
    rw [e2 _ (by omega)]; exact d k k0 z hk
  · rw [z, ← c, e1]
theorem FLI_cg {a : Int → Int} {P Q : Int → Prop} {x n : Int} (h : FLI a P x n) (hq : ∀ k, 0 ≤ k → k < x → (P k ↔ Q k)) : FLI a Q x n := by
  obtain ⟨c, d⟩ := h
  refine ⟨by rw [c]; exact cn_cg hq, fun k k0 k1 hk => ?_⟩
  rw [← cn_cg (p := P) (q := Q) (n := k) (fun j a b => hq j a (by omega))]
  exact d k k0 k1 ((hq k k0 k1).mpr hk)
theorem FLI_b {a : Int → Int} {P : Int → Prop} {x n : Int} (h : FLI a P x n) (h0 : 0 ≤ x) : 0 ≤ n ∧ n ≤ x := by
  have := cn_in P x
  have := h.1
  omega
theorem I_ot (σ : Sto) (a : Nat) (i v : Int) (b : Nat) (j : Int) (h : ¬ (b = a ∧ j = i)) : (σ.wI a i v).I b j = σ.I b j := by
  by_cases q : b = a
  · exact I_nj _ _ _ _ (fun z => h ⟨q, z⟩)
  · exact I_ne _ _ _ _ q
def AWM (σ ω : Sto) : Prop := (∀ o, 0 ≤ o → o < 601 → ω.I 601 o = if o = 600 then 1 else 0) ∧ (∀ f, 0 ≤ f → f < 12 → ω.I 602 f = 1) ∧ ω.I 591 600 = -1 ∧ ω.I 595 600 = σ.I 555 45 ∧ ω.I 596 600 = σ.I 555 30 - σ.I 555 45
def wsPc (c : Nat) (i : Int) : Prop := wsM c i ∨ wsQu c i ∨ c = 601 ∨ c = 602 ∨ (i = 600 ∧ (c = 591 ∨ c = 595 ∨ c = 596)) ∨ c = 672 ∨ (c = 555 ∧ i = 160)
def hi6 (ρ : Sto) : Prop := 0 ≤ wV ρ (lsM ρ) (ρ.I 555 80 - 1) 600
def PCM (σ τ : Sto) (x : Int) : Prop := ∃ W R : Int → Sto, (∀ k, 0 ≤ k → k < x → AWM σ (W k) ∧ ChS wsPc σ (W k) ∧ LDQ (W k) (R k) 604 (400 * k) (σ.I 605 k)) ∧ FLI (τ.I 672) (fun k => hi6 (R k)) x (τ.I 555 160)
theorem PCM_0 {σ τ : Sto} (h : τ.I 555 160 = 0) : PCM σ τ 0 := ⟨fun _ => σ, fun _ => σ, fun k a b => by omega, FLI_0 h⟩
theorem PCM_s {σ τ υ ω ρ : Sto} {x : Int} (h : PCM σ τ x) (h0 : 0 ≤ x) (hA : AWM σ ω) (hC : ChS wsPc σ ω) (hL : LDQ ω ρ 604 (400 * x) (σ.I 605 x))
   (hy : hi6 ρ → υ.I 555 160 = τ.I 555 160 + 1 ∧ υ.I 672 (τ.I 555 160) = x ∧ ∀ i, i ≠ τ.I 555 160 → υ.I 672 i = τ.I 672 i) (hn : ¬ hi6 ρ → υ.I 555 160 = τ.I 555 160 ∧ ∀ i, υ.I 672 i = τ.I 672 i) : PCM σ υ (x + 1) := by
  obtain ⟨W, R, a, b⟩ := h
  refine ⟨fun k => if k = x then ω else W k, fun k => if k = x then ρ else R k, fun k k0 k1 => ?_, ?_⟩
  · by_cases z : k = x
    · simp only [if_pos z]; subst z; exact ⟨hA, hC, hL⟩
    · simp only [if_neg z]; exact a k k0 (by omega)
  · have b2 : FLI (τ.I 672) (fun k => hi6 (if k = x then ρ else R k)) x (τ.I 555 160) := FLI_cg b (fun k k0 k1 => by rw [if_neg (show k ≠ x by omega)])
    by_cases z : hi6 ρ
    · obtain ⟨y1, y2, y3⟩ := hy z
      exact FLI_y b2 h0 (by show hi6 (if x = x then ρ else R x); rw [if_pos rfl]; exact z) y1 y2 y3
    · obtain ⟨y1, y2⟩ := hn z
      exact FLI_n b2 h0 (by show ¬ hi6 (if x = x then ρ else R x); rw [if_pos rfl]; exact z) y1 y2
theorem BAS_a {σ τ : Sto} (h : BAS σ) (e : ∀ c i, (558 ≤ c ∧ c ≤ 564) ∨ (577 ≤ c ∧ c ≤ 597) ∨ (c = 555 ∧ (i = 30 ∨ i = 27)) → ¬ (i = 600 ∧ (c = 591 ∨ c = 595 ∨ c = 596)) → τ.I c i = σ.I c i) (a1 : τ.I 591 600 = -1) (a2 : 0 ≤ τ.I 595 600 ∧ 0 ≤ τ.I 596 600 ∧ τ.I 596 600 ≤ 24 ∧ τ.I 595 600 + τ.I 596 600 ≤ 6000) : BAS τ := by
  have k : ∀ c, (558 ≤ c ∧ c ≤ 564) ∨ (577 ≤ c ∧ c ≤ 590) ∨ c = 597 → τ.I c = σ.I c := fun c q => funext fun i => e c i (by omega) (by omega)
  have t : tcM τ = tcM σ := by funext v; unfold tcM; rw [k 582 (by omega)]
  obtain ⟨⟨a1', a2', a3, a4, a5, a6⟩, b, c, d, f, g, h, i, j⟩ := h
  refine ⟨⟨bd_0_1_eq a1' (k _ (by omega)), bd_0_2_eq a2' (k _ (by omega)), bd_0_5_eq a3 (k _ (by omega)), bd_0_20_eq a4 (k _ (by omega)), bd_0_20_eq a5 (k _ (by omega)), bd_0_20_eq a6 (k _ (by omega))⟩, ?_, ?_, ?_, bd_0_20_eq f (k _ (by omega)), bd_0_499_eq g (k _ (by omega)), ?_, ?_, ?_⟩
  · intro o o0 o1
    rcases (show o = 600 ∨ o ≠ 600 by omega) with z | z
    · rw [z]; exact a2
    · rw [e 595 o (by omega) (by omega), e 596 o (by omega) (by omega)]; exact b o o0 o1
  · unfold VT; rw [t, k 582 (by omega), e 555 30 (by omega) (by omega)]; exact c
  · rw [e 555 30 (by omega) (by omega)]; exact d
  · intro o o0 o1
    rcases (show o = 600 ∨ o ≠ 600 by omega) with z | z
    · rw [z, a1]; omega
    · rw [e 591 o (by omega) (by omega)]; exact h o o0 o1
  · unfold NB; rw [k 584 (by omega)]; exact i
  · unfold FAB; rw [k 578 (by omega), e 555 27 (by omega) (by omega)]; exact j
def wsAw (c : Nat) (i : Int) : Prop := c = 601 ∨ c = 602

theorem sp_X9_percolate {E : XE} {d : Nat} {σ : Sto}  (hd : 511 ≤ d) (hL : Lay σ)  (p0 : 0 ≤ σ.I 555 45 ∧ σ.I 555 45 ≤ σ.I 555 30 ∧ σ.I 555 30 ≤ σ.I 555 45 + 24) (p1 : 0 ≤ σ.I 555 71 ∧ σ.I 555 71 ≤ 20) (p2 : ∀ k, 0 ≤ k → k < σ.I 555 71 → (0 ≤ σ.I 605 k ∧ σ.I 605 k ≤ 400) ∧ qok (eQ σ 604 (400 * k) (σ.I 605 k)) = 1) (p3 : 0 ≤ σ.I 555 27 ∧ σ.I 555 27 ≤ 12) (p4 : BAS σ) (p5 : WKB σ) : CC E mX9_percolate d [aO 555] σ (RVI (fun y τ => (y = τ.I 555 160) ∧ (PCM σ τ (σ.I 555 71)) ∧ (0 ≤ τ.I 555 160 ∧ τ.I 555 160 ≤ 20) ∧ (BAS τ) ∧ (WKB τ) ∧ (ChS wsPc σ τ))) := by sorry
end
section
/-! contracts: printed by tools/mk.py out of s98zg_nearM.py -/
set_option maxRecDepth 100000
set_option maxHeartbeats 1200000
/-! the nearest, in the model -/
def sqM (β : Sto) (v a b c d : Int) : Int := (β.I 584 (4 * v + 0) - a) * (β.I 584 (4 * v + 0) - a) + (β.I 584 (4 * v + 1) - b) * (β.I 584 (4 * v + 1) - b) + (β.I 584 (4 * v + 2) - c) * (β.I 584 (4 * v + 2) - c) + (β.I 584 (4 * v + 3) - d) * (β.I 584 (4 * v + 3) - d)
theorem sqr_0 (x : Int) (h : -1001000 ≤ x) (h1 : x ≤ 1001000) : 0 ≤ x * x ∧ x * x ≤ 1002001000000 := by
  constructor
  · rcases Int.le_total 0 x with z | z
    · exact Int.mul_nonneg z z
    · have := Int.mul_nonneg (show 0 ≤ -x by omega) (show 0 ≤ -x by omega)
      rw [Int.neg_mul_neg] at this; exact this
  · rcases Int.le_total 0 x with z | z
    · have := Int.mul_le_mul h1 h1 z (by decide); omega
    · have := Int.mul_le_mul (show -x ≤ 1001000 by omega) (show -x ≤ 1001000 by omega) (by omega) (by decide)
      rw [Int.neg_mul_neg] at this; omega
theorem sqM_in {β : Sto} {v a b c d : Int} (hN : NB β) (h0 : 0 ≤ v) (h1 : v < 6000) (ha : -1000 ≤ a ∧ a ≤ 1000) (hb : -1000 ≤ b ∧ b ≤ 1000) (hc : -1000 ≤ c ∧ c ≤ 1000) (hd : -1000 ≤ d ∧ d ≤ 1000) : 0 ≤ sqM β v a b c d ∧ sqM β v a b c d ≤ 4008004000000 := by
  have n0 := hN (4 * v + 0) (by omega) (by omega)
  have n1 := hN (4 * v + 1) (by omega) (by omega)
  have n2 := hN (4 * v + 2) (by omega) (by omega)
  have n3 := hN (4 * v + 3) (by omega) (by omega)
  have q0 := sqr_0 (β.I 584 (4 * v + 0) - a) (by omega) (by omega)
  have q1 := sqr_0 (β.I 584 (4 * v + 1) - b) (by omega) (by omega)
  have q2 := sqr_0 (β.I 584 (4 * v + 2) - c) (by omega) (by omega)
  have q3 := sqr_0 (β.I 584 (4 * v + 3) - d) (by omega) (by omega)
  unfold sqM; omega
noncomputable def ndM (β : Sto) (f a b c d o : Int) : Int := mnP (fun j => mV β f (β.I 595 o + j)) (fun j => sqM β (β.I 595 o + j) a b c d) (β.I 596 o)
def selN (β : Sto) (nd : Int → Int) (o : Int) : Prop := β.I 601 o = 1 ∧ 0 ≤ nd o
def ltN (nd : Int → Int) (x y : Int) : Prop := nd x < nd y ∨ (nd x = nd y ∧ x < y)
theorem ltN_sto {P : Int → Prop} {nd : Int → Int} : STO P (ltN nd) := by
  refine ⟨fun x _ h => ?_, fun x y z _ _ _ h1 h2 => ?_, fun x y _ _ hn => ?_⟩
  · unfold ltN at h; omega
  · unfold ltN at *; omega
  · unfold ltN; omega
theorem ndM_e {β τ : Sto} (h : Ch wsHi β τ) : ndM τ = ndM β := by
  have c : ∀ c i, ¬ wsHi c i → τ.I c i = β.I c i := h.2
  have e1 : τ.I 579 = β.I 579 := funext fun i => c _ _ (by unfold wsHi; omega)
  have e2 : τ.I 602 = β.I 602 := funext fun i => c _ _ (by unfold wsHi; omega)
  have e3 : τ.I 595 = β.I 595 := funext fun i => c _ _ (by unfold wsHi; omega)
  have e4 : τ.I 596 = β.I 596 := funext fun i => c _ _ (by unfold wsHi; omega)
  have e5 : τ.I 584 = β.I 584 := funext fun i => c _ _ (by unfold wsHi; omega)
  funext f a b c d o
  unfold ndM sqM mV
  rw [e1, e2, e3, e4, e5]
/-- the nearest n among the first x objects -/
def NRT (β τ : Sto) (nd : Int → Int) (n x : Int) : Prop := (0 ≤ τ.I 555 115 ∧ τ.I 555 115 ≤ n) ∧ TopK (fun o => (0 ≤ o ∧ o < x) ∧ selN β nd o) (ltN nd) n (τ.I 555 115) (τ.I 637) ∧ (∀ i, 0 ≤ i → i < τ.I 555 115 → τ.I 638 i = nd (τ.I 637 i)) ∧ bd_0_600 τ 637 600
def NRI (β τ : Sto) (nd : Int → Int) (n x : Int) : Prop := Ch wsHi β τ ∧ NRT β τ nd n x
theorem NRI_0 {β : Sto} {nd : Int → Int} {n : Int} (h : β.I 555 115 = 0) (hb : bd_0_600 β 637 600) (hn : 0 ≤ n) : NRI β β nd n 0 := ⟨Ch.rf, by omega, by rw [h]; exact TopK_0 (fun x z => by have := z.1; omega) (by omega), fun i a b => by omega, hb⟩
theorem NRI_no {β τ : Sto} {nd : Int → Int} {n x : Int} (h : NRI β τ nd n x) (hs : ¬ selN β nd x) : NRI β τ nd n (x + 1) := by
  obtain ⟨a, b, c, d, g⟩ := h
  refine ⟨a, by omega, TopK_cg c (fun y => ?_) (fun _ _ _ _ => Iff.rfl) (fun _ _ _ => rfl), d, g⟩
  constructor
  · rintro ⟨z1, z2⟩
    refine ⟨⟨z1.1, ?_⟩, z2⟩
    rcases (show y < x ∨ y = x by omega) with w | w
    · exact w
    · rw [w] at z2; contradiction
  · rintro ⟨z1, z2⟩; exact ⟨⟨z1.1, by omega⟩, z2⟩
theorem NRI_add {β τ υ : Sto} {nd : Int → Int} {n x : Int} (h : NRI β τ nd n x) (h0 : 0 ≤ x) (h1 : x ≤ 600) (hs : selN β nd x) (hn : 1 ≤ n ∧ n ≤ 50)
    (e2 : υ.I = fun c i => if rg c i 637 (ip (fun j => nd x < τ.I 638 j) (τ.I 555 115) + 1) ((τ.I 555 115) + 1) ∨ rg c i 638 (ip (fun j => nd x < τ.I 638 j) (τ.I 555 115) + 1) ((τ.I 555 115) + 1) then τ.I c (i - 1)
      else if at2 c i 637 (ip (fun j => nd x < τ.I 638 j) (τ.I 555 115)) then x else if at2 c i 638 (ip (fun j => nd x < τ.I 638 j) (τ.I 555 115)) then nd x else if at2 c i 555 115 then min n (τ.I 555 115 + 1) else τ.I c i)
    (r1 : υ.R = τ.R ∧ υ.sh = τ.sh ∧ υ.n = τ.n) : NRI β υ nd n (x + 1) := by
  obtain ⟨ha, hc, hT, hd, hg⟩ := h
  have cc : ∀ c i, ¬ wsHi c i → τ.I c i = β.I c i := ha.2
  obtain ⟨p, hp⟩ : ∃ p, p = ip (fun j => nd x < τ.I 638 j) (τ.I 555 115) := ⟨_, rfl⟩
  have ipb := ip_b (fun j => nd x < τ.I 638 j) (τ.I 555 115) (by omega)
  rw [← hp] at ipb e2
  have hq : ∀ j, 0 ≤ j → j < τ.I 555 115 → (nd x < τ.I 638 j ↔ ltN nd x (τ.I 637 j)) := fun j j0 j1 => by
    have s := hT.2.1 j j0 j1
    have k := hd j j0 j1
    have s1 := s.1
    unfold ltN
    omega
  have hn1 : υ.I 555 115 = min n (τ.I 555 115 + 1) := by
    rw [e2]; show (if rg _ _ _ _ _ ∨ rg _ _ _ _ _ then _ else if at2 _ _ _ _ then _ else if at2 _ _ _ _ then _ else if at2 _ _ _ _ then _ else _) = _
    rw [if_neg (fun z => z.elim (fun y => absurd y.1 (by decide)) (fun y => absurd y.1 (by decide))), if_neg (fun z => absurd z.1 (by decide)), if_neg (fun z => absurd z.1 (by decide)), if_pos ⟨rfl, rfl⟩]
  have hh : ∀ i, 0 ≤ i → i < τ.I 555 115 + 1 → υ.I 637 i = if i < p then τ.I 637 i else if i = p then x else τ.I 637 (i - 1) := fun i i0 i1 => by
    rw [e2]; show (if rg _ _ _ _ _ ∨ rg _ _ _ _ _ then _ else if at2 _ _ _ _ then _ else if at2 _ _ _ _ then _ else if at2 _ _ _ _ then _ else _) = _
    rcases (show i < p ∨ i = p ∨ p < i by omega) with z | z | z
    · rw [if_pos z, if_neg (fun y => y.elim (fun w => by have := w.2.1; omega) (fun w => absurd w.1 (by decide))), if_neg (fun y => by have := y.2; omega), if_neg (fun y => absurd y.1 (by decide)), if_neg (fun y => absurd y.1 (by decide))]
    · rw [if_neg (show ¬ i < p by omega), if_pos z]
      refine (if_neg (fun y => y.elim (fun w => by have := w.2.1; omega) (fun w => absurd w.1 (by decide)))).trans ?_
      exact if_pos ⟨rfl, z⟩
    · rw [if_neg (show ¬ i < p by omega), if_neg (show ¬ i = p by omega)]
      exact (if_pos (Or.inl ⟨rfl, by omega, by omega⟩))
  have hz : ∀ i, 0 ≤ i → i < τ.I 555 115 + 1 → υ.I 638 i = if i < p then τ.I 638 i else if i = p then nd x else τ.I 638 (i - 1) := fun i i0 i1 => by
    rw [e2]; show (if rg _ _ _ _ _ ∨ rg _ _ _ _ _ then _ else if at2 _ _ _ _ then _ else if at2 _ _ _ _ then _ else if at2 _ _ _ _ then _ else _) = _
    rcases (show i < p ∨ i = p ∨ p < i by omega) with z | z | z
    · rw [if_pos z, if_neg (fun y => y.elim (fun w => absurd w.1 (by decide)) (fun w => by have := w.2.1; omega)), if_neg (fun y => absurd y.1 (by decide)), if_neg (fun y => by have := y.2; omega), if_neg (fun y => absurd y.1 (by decide))]
    · rw [if_neg (show ¬ i < p by omega), if_pos z]
      refine (if_neg (fun y => y.elim (fun w => absurd w.1 (by decide)) (fun w => by have := w.2.1; omega))).trans ?_
      refine (if_neg (fun y => absurd y.1 (by decide))).trans ?_
      exact (if_pos ⟨rfl, z⟩)
    · rw [if_neg (show ¬ i < p by omega), if_neg (show ¬ i = p by omega)]
      exact (if_pos (Or.inr ⟨rfl, by omega, by omega⟩))
  have ho : ∀ c i, c ≠ 637 → c ≠ 638 → ¬ (c = 555 ∧ i = 115) → υ.I c i = τ.I c i := fun c i a1 a2 a3 => by
    rw [e2]; show (if rg _ _ _ _ _ ∨ rg _ _ _ _ _ then _ else if at2 _ _ _ _ then _ else if at2 _ _ _ _ then _ else if at2 _ _ _ _ then _ else _) = _
    rw [if_neg (fun z => z.elim (fun y => a1 y.1) (fun y => a2 y.1)), if_neg (fun z => a1 z.1), if_neg (fun z => a2 z.1), if_neg (fun z => a3 z)]
  refine ⟨?_, by omega, ?_, fun i i0 i1 => ?_, fun i i0 i1 => ?_⟩
  · refine ⟨⟨r1.1.trans ha.1.1, r1.2.1.trans ha.1.2.1, r1.2.2.trans ha.1.2.2⟩, fun c i q => ?_⟩
    rw [ho c i (fun z => q (by unfold wsHi; omega)) (fun z => q (by unfold wsHi; omega)) (fun z => q (by unfold wsHi; omega))]
    exact cc c i q
  · rw [hn1]
    have t := TopK_ins (n' := min n (τ.I 555 115 + 1)) (f' := υ.I 637) (p := p) hT (fun z => by have := z.1; omega) ltN_sto ipb.1 (fun i a c => (hq i (by omega) c).mp (ipb.2.1 i a c)) (fun a c => ipb.2.2 a ((hq (p - 1) (by omega) (by omega)).mpr c)) (by omega) rfl (fun i a c => hh i a (by omega))
    refine TopK_cg t (fun y => ?_) (fun _ _ _ _ => Iff.rfl) (fun _ _ _ => rfl)
    constructor
    · rintro ⟨z1, z2⟩
      rcases (show y < x ∨ y = x by omega) with w | w
      · exact Or.inl ⟨⟨z1.1, w⟩, z2⟩
      · exact Or.inr w
    · rintro (⟨z1, z2⟩ | z)
      · exact ⟨⟨z1.1, by omega⟩, z2⟩
      · rw [z]; exact ⟨⟨h0, by omega⟩, hs⟩
  · rw [hn1] at i1
    rw [hz i i0 (by omega), hh i i0 (by omega)]
    rcases (show i < p ∨ i = p ∨ p < i by omega) with z | z | z
    · rw [if_pos z, if_pos z]; exact hd i i0 (by omega)
    · rw [if_neg (by omega), if_pos z, if_neg (by omega), if_pos z]
    · rw [if_neg (by omega), if_neg (by omega), if_neg (by omega), if_neg (by omega)]; exact hd (i - 1) (by omega) (by omega)
  · rcases Int.lt_or_le i (τ.I 555 115 + 1) with w | w
    · rw [hh i i0 w]
      split
      · exact hg i i0 i1
      · split
        · omega
        · exact hg (i - 1) (by omega) (by omega)
    · rw [e2]; show 0 ≤ (if rg _ _ _ _ _ ∨ rg _ _ _ _ _ then _ else if at2 _ _ _ _ then _ else if at2 _ _ _ _ then _ else if at2 _ _ _ _ then _ else _) ∧ (if rg _ _ _ _ _ ∨ rg _ _ _ _ _ then _ else if at2 _ _ _ _ then _ else if at2 _ _ _ _ then _ else if at2 _ _ _ _ then _ else _) ≤ 600
      rw [if_neg (fun y => y.elim (fun z => by have := z.2.2; omega) (fun z => absurd z.1 (by decide))), if_neg (fun y => by have := y.2; omega), if_neg (fun y => absurd y.1 (by decide)), if_neg (fun y => absurd y.1 (by decide))]
      exact hg i i0 i1
def NRW (ς ω : Sto) (v : Int) : Prop := WLD ς ω v ∧ SEE ς ω 12 ∧ ChS wsEn ς ω
def NR7 (σ τ : Sto) (v f a b c d n x : Int) : Prop := ∃ ς ω, SR0 σ ς ∧ NRW ς ω v ∧ NRI ω τ (ndM ω f a b c d) n x
def wsNr (c : Nat) (i : Int) : Prop := wsEn c i ∨ wsHi c i ∨ (c = 555 ∧ i = 114) ∨ c = 639
/-- what nearness leaves -/
def NRM (σ τ : Sto) (v f a b c d n : Int) : Prop := ∃ ς ω, SR0 σ ς ∧ NRW ς ω v ∧ NRT ω τ (ndM ω f a b c d) n (ς.I 555 52) ∧ (τ.I 555 114 = 3 ∧ ∀ f, 0 ≤ f → f < 12 → τ.I 639 f = ω.I 602 f) ∧ ChS wsNr ς τ
theorem NRT_e {β τ υ : Sto} {nd : Int → Int} {n x : Int} (h : NRT β τ nd n x) (e : ∀ c i, c = 637 ∨ c = 638 ∨ (c = 555 ∧ i = 115) → υ.I c i = τ.I c i) : NRT β υ nd n x := by
  obtain ⟨a, b, c, d⟩ := h
  have e1 : υ.I 637 = τ.I 637 := funext fun i => e _ _ (by omega)
  have e2 : υ.I 555 115 = τ.I 555 115 := e _ _ (by omega)
  refine ⟨by rw [e2]; exact a, by rw [e1, e2]; exact b, fun i p q => ?_, bd_0_600_eq d e1⟩
  rw [e _ _ (by omega), e1]
  rw [e2] at q
  exact c i p q
theorem NR7_n {σ τ : Sto} {v f a b c d n x : Int} (h : NR7 σ τ v f a b c d n x) (hn : ¬ (τ.I 601 x = 1 ∧ 0 ≤ ndM τ f a b c d x)) : NR7 σ τ v f a b c d n (x + 1) := by
  obtain ⟨ς, ω, p, q, r⟩ := h
  refine ⟨ς, ω, p, q, NRI_no r (fun z => hn ?_)⟩
  rw [ndM_e r.1, show τ.I 601 x = ω.I 601 x from r.1.2 _ _ (by unfold wsHi; omega)]
  exact z
theorem NR7_y {σ τ υ : Sto} {v f a b c d n x y : Int} (h : NR7 σ τ v f a b c d n x) (h0 : 0 ≤ x) (h1 : x ≤ 600) (hn : 1 ≤ n ∧ n ≤ 50) (hy : y = ndM τ f a b c d x) (hs : τ.I 601 x = 1 ∧ 0 ≤ y)
    (e2 : υ.I = fun c i => if rg c i 637 (ip (fun j => y < τ.I 638 j) (τ.I 555 115) + 1) ((τ.I 555 115) + 1) ∨ rg c i 638 (ip (fun j => y < τ.I 638 j) (τ.I 555 115) + 1) ((τ.I 555 115) + 1) then τ.I c (i - 1)
      else if at2 c i 637 (ip (fun j => y < τ.I 638 j) (τ.I 555 115)) then x else if at2 c i 638 (ip (fun j => y < τ.I 638 j) (τ.I 555 115)) then y else if at2 c i 555 115 then min n (τ.I 555 115 + 1) else τ.I c i)
    (r1 : υ.R = τ.R ∧ υ.sh = τ.sh ∧ υ.n = τ.n) : NR7 σ υ v f a b c d n (x + 1) := by
  obtain ⟨ς, ω, p, q, r⟩ := h
  rw [ndM_e r.1] at hy
  rw [show τ.I 601 x = ω.I 601 x from r.1.2 _ _ (by unfold wsHi; omega)] at hs
  rw [hy] at e2 hs
  exact ⟨ς, ω, p, q, NRI_add r h0 h1 hs hn e2 r1⟩
theorem NR7_b {σ τ : Sto} {v f a b c d n x : Int} (h : NR7 σ τ v f a b c d n x) : (0 ≤ τ.I 555 115 ∧ τ.I 555 115 ≤ n) ∧ bd_0_600 τ 637 600 := by
  obtain ⟨ς, ω, p, q, r⟩ := h
  exact ⟨r.2.1, r.2.2.2.2⟩
theorem NR7_e {σ τ υ : Sto} {v f a b c d n : Int} (h : NR7 σ τ v f a b c d n (σ.I 555 52)) (r1 : υ.R = τ.R ∧ υ.sh = τ.sh ∧ υ.n = τ.n) (e : υ.I = fun c i => if at2 c i 555 114 then 3 else if rg c i 639 0 12 then τ.I 602 i else τ.I c i) : NRM σ υ v f a b c d n := by
  obtain ⟨ς, ω, p, q, r⟩ := h
  have k : ∀ c i, ¬ (c = 555 ∧ i = 114) → c ≠ 639 → υ.I c i = τ.I c i := fun c i x y => by rw [e]; show (if at2 _ _ _ _ then _ else if rg _ _ _ _ _ then _ else _) = _; rw [if_neg x, if_neg (fun z => y z.1)]
  refine ⟨ς, ω, p, q, ?_, ⟨?_, fun f f0 f1 => ?_⟩, ?_⟩
  · rw [SR0_c p (by decide) (by unfold fgM; omega)]
    exact NRT_e r.2 (fun c i z => k c i (by omega) (by omega))
  · rw [e]; exact if_pos ⟨rfl, rfl⟩
  · rw [e]; show (if at2 _ _ _ _ then _ else if rg _ _ _ _ _ then _ else _) = _
    rw [if_neg (fun z => absurd z.1 (by decide)), if_pos ⟨rfl, f0, f1⟩]
    exact r.1.2 _ _ (by unfold wsHi; omega)
  · refine ChS.tr (ChS.mono q.2.2 (fun c i z => Or.inl z)) (ChS.tr (ChS.of (Ch.mono r.1 (fun c i z => Or.inr (Or.inl z)))) (ChS.of ⟨r1, fun c i z => k c i (fun w => z (by unfold wsNr; exact Or.inr (Or.inr (Or.inl w)))) (fun w => z (by unfold wsNr; exact Or.inr (Or.inr (Or.inr w))))⟩))

theorem sp_X9_near {E : XE} {d : Nat} {σ : Sto} {x1 : Int} {x2 : Int} {x3 : Int} {x4 : Int} {x5 : Int} {x6 : Int} {x7 : Int} (hd : 511 ≤ d) (hL : Lay σ)  (p0 : inR x1) (p1 : 0 ≤ σ.I 555 52 ∧ σ.I 555 52 ≤ 600) (p2 : 0 ≤ σ.I 555 61 ∧ σ.I 555 61 < 4) (p3 : 0 ≤ σ.I 608 (σ.I 555 61) ∧ σ.I 608 (σ.I 555 61) ≤ 400) (p4 : 0 ≤ σ.I 555 27 ∧ σ.I 555 27 ≤ 12) (p5 : BAS σ) (p6 : WKB σ) (p7 : 0 ≤ (if x1 = -1 then σ.I 555 53 else if 0 ≤ x1 ∧ x1 ≤ 3 then σ.I 597 x1 else -1) → WOH σ (if x1 = -1 then σ.I 555 53 else if 0 ≤ x1 ∧ x1 ≤ 3 then σ.I 597 x1 else -1)) (p8 : σ.I 555 61 ≠ 0 → 0 < σ.I 608 (σ.I 555 61) → qok (eQ σ 607 (400 * σ.I 555 61) (σ.I 608 (σ.I 555 61))) = 1) (p9 : inR x2 ∧ inR x3) (p10 : inR x4 ∧ inR x5) (p11 : (1 ≤ σ.I 555 58 ∧ σ.I 555 58 ≤ 8) ∧ (1 ≤ σ.I 555 57 ∧ σ.I 555 57 ≤ 8)) (p12 : bd_0_1000000 σ 599 8) (p13 : bd_0_600 σ 637 600) (p14 : inR x6 ∧ inR x7) (p15 : inR (if x1 = -1 then σ.I 555 53 else if 0 ≤ x1 ∧ x1 ≤ 3 then σ.I 597 x1 else -1)) : CC E mX9_near d [aO 555, aI (x1), aI (x2), aI (x3), aI (x4), aI (x5), aI (x6), aI (x7)] σ (RVI (fun y τ => ((¬ (0 ≤ (if x1 = -1 then σ.I 555 53 else if 0 ≤ x1 ∧ x1 ≤ 3 then σ.I 597 x1 else -1) ∧ ((0 ≤ x2 ∧ x2 < σ.I 555 27) ∧ σ.I 577 x2 = 4) ∧ ((-1000 ≤ x3 ∧ x3 ≤ 1000) ∧ (-1000 ≤ x4 ∧ x4 ≤ 1000) ∧ (-1000 ≤ x5 ∧ x5 ≤ 1000) ∧ (-1000 ≤ x6 ∧ x6 ≤ 1000)) ∧ (1 ≤ x7 ∧ x7 ≤ 50)) ∧ y = -1 ∧ RD σ τ (fun c i => if fgM c i then 0 else σ.I c i)) ∨ ((0 ≤ (if x1 = -1 then σ.I 555 53 else if 0 ≤ x1 ∧ x1 ≤ 3 then σ.I 597 x1 else -1) ∧ ((0 ≤ x2 ∧ x2 < σ.I 555 27) ∧ σ.I 577 x2 = 4) ∧ ((-1000 ≤ x3 ∧ x3 ≤ 1000) ∧ (-1000 ≤ x4 ∧ x4 ≤ 1000) ∧ (-1000 ≤ x5 ∧ x5 ≤ 1000) ∧ (-1000 ≤ x6 ∧ x6 ≤ 1000)) ∧ (1 ≤ x7 ∧ x7 ≤ 50)) ∧ ¬ alN (fun s => 0 ≤ nOf (σ.I 598) (σ.I 555 58) s) (σ.I 555 57) ∧ y = -4 ∧ RD σ τ (fun c i => if fgM c i then 0 else σ.I c i)) ∨ ((0 ≤ (if x1 = -1 then σ.I 555 53 else if 0 ≤ x1 ∧ x1 ≤ 3 then σ.I 597 x1 else -1) ∧ ((0 ≤ x2 ∧ x2 < σ.I 555 27) ∧ σ.I 577 x2 = 4) ∧ ((-1000 ≤ x3 ∧ x3 ≤ 1000) ∧ (-1000 ≤ x4 ∧ x4 ≤ 1000) ∧ (-1000 ≤ x5 ∧ x5 ≤ 1000) ∧ (-1000 ≤ x6 ∧ x6 ≤ 1000)) ∧ (1 ≤ x7 ∧ x7 ≤ 50)) ∧ alN (fun s => 0 ≤ nOf (σ.I 598) (σ.I 555 58) s) (σ.I 555 57) ∧ y = τ.I 555 115 ∧ NRM σ τ (if x1 = -1 then σ.I 555 53 else if 0 ≤ x1 ∧ x1 ≤ 3 then σ.I 597 x1 else -1) x2 x3 x4 x5 x6 x7)) ∧ (WKB τ) ∧ (bd_0_600 τ 637 600))) := by sorry
end
section
/-! contracts: printed by tools/mk.py out of s98zh_nearX.py -/
set_option maxRecDepth 100000
set_option maxHeartbeats 1200000
/-! the nearest, in the program -/
def HLL (sel : Int → Prop) (sc : Int → Int) (τ : Sto) (x : Int) : Prop := τ.I 0 70 = cn sel x ∧ ∀ k, 0 ≤ k → k < x → sel k → τ.I 189 (cn sel k) = k ∧ τ.I 190 (cn sel k) = sc k
section HLLS
variable {sel : Int → Prop} {sc : Int → Int} {τ υ : Sto} {x : Int}
theorem HLL_n (h : HLL sel sc τ x) (h0 : 0 ≤ x) (hn : ¬ sel x) : HLL sel sc τ (x + 1) := by
  obtain ⟨a, b⟩ := h
  refine ⟨by rw [cn_s _ x (x + 1) h0 rfl, zb_f hn, Int.add_zero]; exact a, fun k k0 k1 hs => ?_⟩
  rcases (show k < x ∨ k = x by omega) with z | z
  · exact b k k0 z hs
  · rw [z] at hs; contradiction
theorem HLL_e (h : HLL sel sc τ x) (e : ∀ c i, (c = 0 ∧ i = 70) ∨ c = 189 ∨ c = 190 → υ.I c i = τ.I c i) : HLL sel sc υ x :=
  ⟨by rw [e _ _ (by omega)]; exact h.1, fun k k0 k1 hk => by rw [e _ _ (by omega), e _ _ (by omega)]; exact h.2 k k0 k1 hk⟩
theorem HLL_y (h : HLL sel sc τ x) (h0 : 0 ≤ x) (hs : sel x) (e : υ.I = fun c i => if at2 c i 189 (τ.I 0 70) then x else if at2 c i 190 (τ.I 0 70) then sc x else if at2 c i 0 70 then τ.I 0 70 + 1 else τ.I c i) : HLL sel sc υ (x + 1) := by
  obtain ⟨a, b⟩ := h
  have c70 : υ.I 0 70 = τ.I 0 70 + 1 := by rw [e]; grind
  have h189 : ∀ i, υ.I 189 i = if i = τ.I 0 70 then x else τ.I 189 i := fun i => by rw [e]; grind
  have h190 : ∀ i, υ.I 190 i = if i = τ.I 0 70 then sc x else τ.I 190 i := fun i => by rw [e]; grind
  refine ⟨by rw [c70, a, cn_s _ x (x + 1) h0 rfl, zb_t hs], fun k k0 k1 hk => ?_⟩
  rw [h189, h190]
  rcases (show k < x ∨ k = x by omega) with z | z
  · have s := cn_s sel k (k + 1) k0 rfl
    rw [zb_t hk] at s
    have m := cn_mo (p := sel) (a := k + 1) (b := x) (by omega) (by omega)
    rw [if_neg (by omega), if_neg (by omega)]; exact b k k0 z hk
  · rw [z, if_pos a.symm, if_pos a.symm]; exact ⟨rfl, rfl⟩
theorem HLL_b (h : HLL sel sc τ x) (h0 : 0 ≤ x) : (0 ≤ τ.I 0 70 ∧ τ.I 0 70 ≤ x) ∧ ∀ i, 0 ≤ i → i < τ.I 0 70 → 0 ≤ τ.I 189 i ∧ τ.I 189 i < x := by
  obtain ⟨a, b⟩ := h
  have c := cn_in sel x
  refine ⟨by omega, fun i i0 i1 => ?_⟩
  rw [a] at i1
  have key : ∀ n : Nat, (n : Int) ≤ x → i < cn sel (n : Int) → ∃ k, 0 ≤ k ∧ k < (n : Int) ∧ sel k ∧ cn sel k = i := by
    intro n
    induction n with
    | zero => intro _ z; rw [cn_0 _ _ (show ((0 : Nat) : Int) ≤ 0 by omega)] at z; omega
    | succ n ih =>
      intro hn z
      rw [cn_s sel (n : Int) ((n + 1 : Nat) : Int) (by omega) (by omega)] at z
      rcases Int.lt_or_le i (cn sel (n : Int)) with y | y
      · obtain ⟨k, k0, k1, k2, k3⟩ := ih (by omega) y
        exact ⟨k, k0, by omega, k2, k3⟩
      · rcases zb_cs (sel (n : Int)) with w | w
        · exact ⟨(n : Int), by omega, by omega, w.1, by omega⟩
        · omega
  obtain ⟨k, k0, k1, k2, k3⟩ := key x.toNat (by omega) (by rw [show ((x.toNat : Nat) : Int) = x by omega]; exact i1)
  have q := (b k k0 (by omega) k2).1
  rw [k3] at q
  rw [q]; omega
theorem HLL_sk (h : HLL sel sc τ x) (h0 : 0 ≤ x) {m : Int} (hm : x ≤ m) (hn : ∀ k, ¬ sel k) : HLL sel sc τ m :=
  ⟨by rw [h.1]; exact (cn_ext h0 hm (fun k _ _ => hn k)).symm, fun k _ _ hk => absurd hk (hn k)⟩
end HLLS
noncomputable def ndX (β : Sto) (f y k : Int) : Int := mnP (fun j => β.I 26 (β.I 42 k + j) = f) (fun j => sqX (β.I 30 (β.I 42 k + j)) y) (β.I 43 k)
def selY (β : Sto) (f y k : Int) : Prop := β.I 103 k = 1 ∧ ¬ bt32 (β.I 102 1) f ∧ 0 ≤ ndX β f y k
theorem ndX_a {β τ : Sto} (h : SAG β τ 87) : ndX τ = ndX β := by
  funext f y k
  unfold ndX
  rw [sag h (c := 26) (by omega), sag h (c := 42) (by omega), sag h (c := 43) (by omega), sag h (c := 30) (by omega)]
theorem selY_a {β τ : Sto} (h : SAG β τ 87) {f y k : Int} : selY τ f y k ↔ selY β f y k := by
  unfold selY
  rw [ndX_a h, h 103 k (by omega), h 102 1 (by omega)]
def WNX (ς β : Sto) (K V v : Int) : Prop := ((β.I (87 + 15) 6 = 0 ∧ β.I (87 + 15) 7 = ς.I 0 39 ∧ β.I (87 + 15) 8 = 0) ∧ β.I (87 + 15) 1 = (if 0 < ς.I 0 46 then ς.I (ubX ς) 2 else 0)) ∧ SEX ς β 87 K V v ∧ KMw 87 ς β
def NX7 (σ τ : Sto) (K V v f y x : Int) : Prop := ∃ ς β, SX0 σ ς ∧ WNX ς β K V v ∧ SAG β τ 87 ∧ HLL (selY β f y) (ndX β f y) τ x
/-- what nearness leaves -/
def NXR (σ τ : Sto) (K V v f y n : Int) : Prop := ∃ ψ υ, NX7 σ ψ K V v f y (σ.I 0 39) ∧ (∃ p, PRM (ψ.I 0 70) p ∧ RWH ψ υ (-1) 0 (ψ.I 0 70) p ∧ ∀ a b, 0 ≤ a → a < b → b < ψ.I 0 70 → ¬ LX2 ψ (-1) 0 0 (p b) (p a)) ∧ KSo ψ υ ∧ τ = υ.wI 0 70 (min (υ.I 0 70) n)
theorem NX7_n {σ τ : Sto} {K V v f y x : Int} (h : NX7 σ τ K V v f y x) (h0 : 0 ≤ x) (hn : ¬ selY τ f y x) : NX7 σ τ K V v f y (x + 1) := by
  obtain ⟨ς, β, a, b, c, d⟩ := h
  exact ⟨ς, β, a, b, c, HLL_n d h0 (fun z => hn ((selY_a c).mpr z))⟩
theorem NX7_y {σ τ υ : Sto} {K V v f y x s : Int} (h : NX7 σ τ K V v f y x) (h0 : 0 ≤ x) (hs : selY τ f y x) (hy : s = ndX τ f y x) (a2 : SAG τ υ 87) (e : υ.I = fun c i => if at2 c i 189 (τ.I 0 70) then x else if at2 c i 190 (τ.I 0 70) then s else if at2 c i 0 70 then τ.I 0 70 + 1 else τ.I c i) : NX7 σ υ K V v f y (x + 1) := by
  obtain ⟨ς, β, a, b, c, d⟩ := h
  rw [hy, ndX_a c] at e
  exact ⟨ς, β, a, b, c.tr a2, HLL_y d h0 ((selY_a c).mp hs) e⟩
theorem NX7_k {σ τ : Sto} {K V v f y x m : Int} (h : NX7 σ τ K V v f y x) (h0 : 0 ≤ x) (hm : x ≤ m) (hb : bt32 (τ.I 102 1) f) : NX7 σ τ K V v f y m := by
  obtain ⟨ς, β, a, b, c, d⟩ := h
  exact ⟨ς, β, a, b, c, HLL_sk d h0 hm (fun k z => ((selY_a c).mpr z).2.1 hb)⟩
theorem NX7_s {σ τ : Sto} {K V v f y x k : Int} (h : NX7 σ τ K V v f y x) (h0 : 0 ≤ k) (h1 : k < σ.I 0 39) : τ.I 103 k = 0 ∨ τ.I 103 k = 1 := by
  obtain ⟨ς, β, a, ⟨_, s, km⟩, sa, _⟩ := h
  have en : ς.I 0 39 = σ.I 0 39 := by rw [a.2]; show (if _ then _ else if fgX _ _ then _ else _) = _; rw [if_neg (by decide), if_neg (by unfold fgX; omega)]
  rw [sa _ _ (by omega)]
  by_cases u : ς.I 0 46 ≤ 0 ∨ ς.I (ubX ς) 1 = 0
  · have q := s.1 u k h0 (by rw [en]; exact h1)
    have z := zb_cs (inV (ς.I 47) (ς.I 45) (ς.I 46) v k)
    have q' : β.I 103 k = _ := q
    rw [q']; omega
  · obtain ⟨α', ρ', _, q⟩ := s.2 (by omega) (fun w => u (Or.inr w))
    have q := q k h0 (by rw [en]; exact h1)
    have z := zb_cs (inV (ς.I 47) (ς.I 45) (ς.I 46) v k ∧ ¬ hdX ρ' k)
    have q' : β.I 103 k = _ := q
    rw [q']; omega
theorem NX7_b {σ τ : Sto} {K V v f y x : Int} (h : NX7 σ τ K V v f y x) (h0 : 0 ≤ x) : (0 ≤ τ.I 0 70 ∧ τ.I 0 70 ≤ x) ∧ ∀ i, 0 ≤ i → i < τ.I 0 70 → 0 ≤ τ.I 189 i ∧ τ.I 189 i < x := by
  obtain ⟨ς, β, _, _, _, d⟩ := h
  exact HLL_b d h0
theorem KXs_of_KMw' {σ τ : Sto} (h : KMw 87 σ τ) : KXs σ τ := Ch.mono h (fun c i q => by unfold wsMw at q; unfold wsXs; omega)

theorem sp_X0_near {E : XE} {d : Nat} {σ : Sto} {K : Int} {V : Int} {x1 : Int} {x2 : Int} {x3 : Int} {x4 : Int} {x5 : Int} {x6 : Int} {x7 : Int} (hd : 528 ≤ d) (hL : Lay σ)  (p0 : inR x1) (p1 : 0 ≤ σ.I 0 46 ∧ σ.I 0 46 < 4) (p2 : BSX σ K V) (p3 : 0 < σ.I 0 46 → σ.I (ubX σ) 1 ≠ 0 → QLX σ (ubX σ)) (p4 : PBD σ 155) (p5 : inR x2 ∧ inR x3) (p6 : inR x4 ∧ inR x5) (p7 : (1 ≤ σ.I 0 96 ∧ σ.I 0 96 ≤ 8) ∧ (1 ≤ σ.I 0 95 ∧ σ.I 0 95 ≤ 8)) (p8 : bd_0_1000000 σ 211 8) (p9 : inR (if x1 = -1 then σ.I 0 40 else if 0 ≤ x1 ∧ x1 ≤ 3 then σ.I 48 x1 else -1)) (p10 : inR x6 ∧ inR x7) : CC E mX0_near d [aO 0, aI (x1), aI (x2), aI (x3), aI (x4), aI (x5), aI (x6), aI (x7)] σ (RVI (fun y τ => ((¬ (0 ≤ (if x1 = -1 then σ.I 0 40 else if 0 ≤ x1 ∧ x1 ≤ 3 then σ.I 48 x1 else -1) ∧ ((0 ≤ x2 ∧ x2 < σ.I 0 9) ∧ σ.I 16 x2 = 4) ∧ ((-1000 ≤ x3 ∧ x3 ≤ 1000) ∧ (-1000 ≤ x4 ∧ x4 ≤ 1000) ∧ (-1000 ≤ x5 ∧ x5 ≤ 1000) ∧ (-1000 ≤ x6 ∧ x6 ≤ 1000)) ∧ (1 ≤ x7 ∧ x7 ≤ 50)) ∧ y = -1 ∧ RD σ τ (fun c i => if fgX c i then 0 else σ.I c i)) ∨ ((0 ≤ (if x1 = -1 then σ.I 0 40 else if 0 ≤ x1 ∧ x1 ≤ 3 then σ.I 48 x1 else -1) ∧ ((0 ≤ x2 ∧ x2 < σ.I 0 9) ∧ σ.I 16 x2 = 4) ∧ ((-1000 ≤ x3 ∧ x3 ≤ 1000) ∧ (-1000 ≤ x4 ∧ x4 ≤ 1000) ∧ (-1000 ≤ x5 ∧ x5 ≤ 1000) ∧ (-1000 ≤ x6 ∧ x6 ≤ 1000)) ∧ (1 ≤ x7 ∧ x7 ≤ 50)) ∧ ¬ alN (fun s => 0 ≤ nOf (σ.I 210) (σ.I 0 96) s) (σ.I 0 95) ∧ y = -4 ∧ RD σ τ (fun c i => if fgX c i then 0 else σ.I c i)) ∨ ((0 ≤ (if x1 = -1 then σ.I 0 40 else if 0 ≤ x1 ∧ x1 ≤ 3 then σ.I 48 x1 else -1) ∧ ((0 ≤ x2 ∧ x2 < σ.I 0 9) ∧ σ.I 16 x2 = 4) ∧ ((-1000 ≤ x3 ∧ x3 ≤ 1000) ∧ (-1000 ≤ x4 ∧ x4 ≤ 1000) ∧ (-1000 ≤ x5 ∧ x5 ≤ 1000) ∧ (-1000 ≤ x6 ∧ x6 ≤ 1000)) ∧ (1 ≤ x7 ∧ x7 ≤ 50)) ∧ alN (fun s => 0 ≤ nOf (σ.I 210) (σ.I 0 96) s) (σ.I 0 95) ∧ y = τ.I 0 70 ∧ NXR σ τ K V (if x1 = -1 then σ.I 0 40 else if 0 ≤ x1 ∧ x1 ≤ 3 then σ.I 48 x1 else -1) x2 (pk4 x3 x4 x5 x6) x7)) ∧ (PBD τ 155) ∧ (KXs σ τ))) := by sorry
end
section
/-! contracts: printed by tools/mk.py out of s98zi_slotM.py -/
set_option maxRecDepth 100000
set_option maxHeartbeats 1200000
/-! where a term is listed -/
theorem ushr16 (x : Int) : 0 ≤ b32ushr x 16 ∧ b32ushr x 16 < 65536 := by
  have e : b32ushr x 16 = ((BitVec.ofInt 32 x) >>> (16 : Nat)).toInt := rfl
  have h2 : ((BitVec.ofInt 32 x) >>> (16 : Nat)).toNat < 65536 := by
    rw [BitVec.toNat_ushiftRight, Nat.shiftRight_eq_div_pow]
    have := (BitVec.ofInt 32 x).isLt
    omega
  rw [e, BitVec.toInt_eq_toNat_of_lt (by omega)]
  omega
def teM (σ : Sto) (a b : Int) : Prop := od (σ.I 586) (20 * a) (σ.I 587 a) (σ.I 586) (20 * b) (σ.I 587 b) 0 = 0
def hmM (σ : Sto) (t f : Int) : Int := b32ushr (hsH (σ.I 586) (20 * t) f (σ.I 587 t) * (-1640531535)) 16
theorem hmM_in (σ : Sto) (t f : Int) : 0 ≤ hmM σ t f ∧ hmM σ t f < 65536 := ushr16 _
def stpM (σ : Sto) (t f s : Int) : Prop := σ.I 661 s ≤ 0 ∨ (σ.I 666 (σ.I 661 s - 1) = f ∧ teM σ (σ.I 662 (σ.I 661 s - 1)) t)
def SLR (σ : Sto) (t f y : Int) : Prop := (0 ≤ y ∧ y < 65536) ∧ stpM σ t f y ∧ ∀ j, 0 ≤ j → j < (y - hmM σ t f) % 65536 → ¬ stpM σ t f ((hmM σ t f + j) % 65536)
noncomputable def slM (σ : Sto) (t f : Int) : Int := Classical.epsilon (fun y => SLR σ t f y)
theorem SLR_u {σ : Sto} {t f y z : Int} (h : SLR σ t f y) (g : SLR σ t f z) : y = z := by
  have hm := hmM_in σ t f
  obtain ⟨a, b, c⟩ := h
  obtain ⟨d, e, k⟩ := g
  rcases (show (y - hmM σ t f) % 65536 < (z - hmM σ t f) % 65536 ∨ (z - hmM σ t f) % 65536 < (y - hmM σ t f) % 65536 ∨ (y - hmM σ t f) % 65536 = (z - hmM σ t f) % 65536 by omega) with q | q | q
  · have w := k _ (by omega) q
    rw [show (hmM σ t f + (y - hmM σ t f) % 65536) % 65536 = y by omega] at w
    contradiction
  · have w := c _ (by omega) q
    rw [show (hmM σ t f + (z - hmM σ t f) % 65536) % 65536 = z by omega] at w
    contradiction
  · omega
theorem slM_e {σ : Sto} {t f y : Int} (h : SLR σ t f y) : y = slM σ t f := SLR_u h (Classical.epsilon_spec (p := fun y => SLR σ t f y) ⟨y, h⟩)
theorem lstP (P : Int → Prop) : ∀ n : Nat, P (n : Int) → ∃ m : Int, 0 ≤ m ∧ m ≤ (n : Int) ∧ P m ∧ ∀ j, 0 ≤ j → j < m → ¬ P j := by
  intro n
  induction n using Nat.strongRecOn with
  | ind n ih =>
    intro h
    by_cases e : ∃ j : Nat, j < n ∧ P (j : Int)
    · obtain ⟨j, j1, j2⟩ := e
      obtain ⟨m, a, b, c, d⟩ := ih j j1 j2
      exact ⟨m, a, by omega, c, d⟩
    · refine ⟨n, by omega, by omega, h, fun j a b c => e ⟨j.toNat, by omega, ?_⟩⟩
      rw [show ((j.toNat : Nat) : Int) = j by omega]; exact c
theorem slM_s {σ : Sto} {t f s : Int} (h0 : 0 ≤ s) (h1 : s < 65536) (hs : σ.I 661 s ≤ 0) : SLR σ t f (slM σ t f) := by
  have hm := hmM_in σ t f
  refine Classical.epsilon_spec (p := fun y => SLR σ t f y) ?_
  obtain ⟨m, a, b, c, d⟩ := lstP (fun j => stpM σ t f ((hmM σ t f + j) % 65536)) ((s - hmM σ t f) % 65536).toNat (by
    show stpM σ t f _
    rw [show (hmM σ t f + ((((s - hmM σ t f) % 65536).toNat : Nat) : Int)) % 65536 = s by omega]; exact Or.inl hs)
  refine ⟨(hmM σ t f + m) % 65536, by omega, c, fun j j0 j1 => d j j0 (by omega)⟩

theorem sp_X9_slotOf {E : XE} {d : Nat} {σ : Sto} {x1 : Int} {x2 : Int} (hd : 3 ≤ d) (hL : Lay σ)  (p0 : 0 ≤ x1 ∧ x1 < 24000) (p1 : inR x2) (p2 : bd_0_20 σ 587 24000) (p3 : bd_0_23999 σ 662 24000) (p4 : ∀ s, 0 ≤ s → s < 65536 → 0 ≤ σ.I 661 s ∧ σ.I 661 s ≤ 24000) (p5 : ∃ s, 0 ≤ s ∧ s < 65536 ∧ σ.I 661 s ≤ 0) : CC E mX9_slotOf d [aO 555, aI (x1), aI (x2)] σ (RI σ (slM σ x1 x2)) := by sorry
end
