/-! contracts: printed by tools/mk.py out of s98zzzzu_opT.py -/
set_option maxRecDepth 100000
set_option maxHeartbeats 3000000
/-! the operation text -/
theorem SC_2 {σ τ : Sto} (r : rSC σ) (h : ∀ c i, fSC c i → c ≠ 12 → c ≠ 573 → τ.I c i = σ.I c i) (h12 : bd_0_20 τ 12 250) (h573 : bd_0_20 τ 573 300) : rSC τ := by
  obtain ⟨⟨⟨a1, a2, a3, a4, a5⟩, ⟨b1, b2, b3, b4, b5⟩, ⟨c1, c2, c3, c4, c5⟩⟩, d, e, f, g, ⟨w1, w2, w3, w4, w5, w6, w7⟩, u⟩ := r
  refine ⟨⟨⟨h12, fun i p q => by rw [h (87 + 21) i (by unfold fSC; omega) (by omega) (by omega)]; exact a2 i p q, fun i p q => by rw [h (87 + 23) i (by unfold fSC; omega) (by omega) (by omega)]; exact a3 i p q, fun i p q => by rw [h (87 + 32) i (by unfold fSC; omega) (by omega) (by omega)]; exact a4 i p q, fun i p q => by rw [h (87 + 26) i (by unfold fSC; omega) (by omega) (by omega)]; exact a5 i p q⟩, ⟨h12, fun i p q => by rw [h (121 + 21) i (by unfold fSC; omega) (by omega) (by omega)]; exact b2 i p q, fun i p q => by rw [h (121 + 23) i (by unfold fSC; omega) (by omega) (by omega)]; exact b3 i p q, fun i p q => by rw [h (121 + 32) i (by unfold fSC; omega) (by omega) (by omega)]; exact b4 i p q, fun i p q => by rw [h (121 + 26) i (by unfold fSC; omega) (by omega) (by omega)]; exact b5 i p q⟩, ⟨h12, fun i p q => by rw [h (155 + 21) i (by unfold fSC; omega) (by omega) (by omega)]; exact c2 i p q, fun i p q => by rw [h (155 + 23) i (by unfold fSC; omega) (by omega) (by omega)]; exact c3 i p q, fun i p q => by rw [h (155 + 32) i (by unfold fSC; omega) (by omega) (by omega)]; exact c4 i p q, fun i p q => by rw [h (155 + 26) i (by unfold fSC; omega) (by omega) (by omega)]; exact c5 i p q⟩⟩, fun i p q => by rw [h (206) i (by unfold fSC; omega) (by omega) (by omega)]; exact d i p q, fun i p q => by rw [h (199) i (by unfold fSC; omega) (by omega) (by omega)]; exact e i p q, fun i p q => by rw [h (201) i (by unfold fSC; omega) (by omega) (by omega)]; exact f i p q, fun i p q => by rw [h (207) i (by unfold fSC; omega) (by omega) (by omega)]; exact g i p q, ⟨fun i p q => by rw [h (635) i (by unfold fSC; omega) (by omega) (by omega)]; exact w1 i p q, h573, fun i p q => by rw [h (630) i (by unfold fSC; omega) (by omega) (by omega)]; exact w3 i p q, fun i p q => by rw [h (629) i (by unfold fSC; omega) (by omega) (by omega)]; exact w4 i p q, fun i p q => by rw [h (633) i (by unfold fSC; omega) (by omega) (by omega)]; exact w5 i p q, fun i p q => by rw [h (622) i (by unfold fSC; omega) (by omega) (by omega)]; exact w6 i p q, fun i p q => by rw [h (621) i (by unfold fSC; omega) (by omega) (by omega)]; exact w7 i p q⟩, fun i p q => by rw [h (662) i (by unfold fSC; omega) (by omega) (by omega)]; exact u i p q⟩
theorem TXP_fr {σ τ : Sto} {y f n : Int} (h : TXP σ τ y f n) : (τ.R = σ.R ∧ τ.sh = σ.sh ∧ τ.n = σ.n) ∧ ∀ c i, 555 ≤ c → τ.I c i = σ.I c i := by
  obtain ⟨ς, ⟨⟨a1, a2⟩, a3⟩, h⟩ := h
  have b2 : ∀ (c : Nat) (i : Int), 555 ≤ c → ς.I c i = σ.I c i := fun c i q => a2 c i (fun z => by have := z.1; omega)
  rcases h with ⟨_, _, rfl⟩ | ⟨_, _, _, k⟩ | ⟨_, _, _, υ, t, q⟩
  · exact ⟨a1, b2⟩
  · exact ⟨⟨k.1.1.trans a1.1, k.1.2.1.trans a1.2.1, k.1.2.2.trans a1.2.2⟩, fun c i hc => (k.2 c i (by unfold wsXt; omega)).trans (b2 c i hc)⟩
  · refine ⟨⟨q.1.1.trans (t.1.1.1.trans a1.1), q.1.2.1.trans (t.1.1.2.1.trans a1.2.1), q.1.2.2.trans (t.1.1.2.2.trans a1.2.2)⟩, fun c i hc => ?_⟩
    rw [q.2]
    show (if at2 c i 26 _ then _ else if at2 c i 0 20 then _ else υ.I c i) = _
    rw [if_neg (fun z => by have := z.1; omega), if_neg (fun z => by have := z.1; omega), t.1.2 c i (by unfold wsTX at2; omega)]
    exact b2 c i hc
theorem lTX_e {σ ς : Sto} {f : Int} {A : Int → Int} {fr n : Int} (h : TKX σ ς) (hc : σ.I 16 f = 0 → 675 ≤ anC σ (σ.I 17 f)) : lTX ς f A fr n = lTX σ f A fr n := by
  obtain ⟨⟨⟨a1, a2, a3⟩, a4⟩, a5⟩ := h
  have b4 : ∀ (c : Nat) (i : Int), c ≠ 0 → ς.I c i = σ.I c i := fun c i q => a4 c i (fun z => q z.1)
  unfold lTX
  rw [b4 16 f (by decide)]
  by_cases q : σ.I 16 f = 0
  · have e2 : ς.2 = σ.2 := Prod.ext a1 (Prod.ext a2 a3)
    have k := hc q
    rw [if_pos q, if_pos q, b4 17 f (by decide), show anC ς (σ.I 17 f) = anC σ (σ.I 17 f) by unfold anC; rw [a1], anS_e (σ := σ) (τ := ς) (fun c q1 q2 => funext fun i => b4 c i (by omega)) e2]
  · rw [if_neg q, if_neg q]
/-- the tokens of a text of both -/
theorem lTX_lT {σ ς : Sto} {f n : Int} {A A' : Int → Int} (fl : rFL σ) (an : rAN σ) (hf : 0 ≤ f ∧ f < σ.I 0 9) (h : ∀ c, 555 < c → ς.I c = σ.I c) (hA : ∀ i, 0 ≤ i → i < n → A' i = A i) (q : σ.I 16 f = 0) : lTX σ f A' 0 n = lT ς f A 0 n := by
  have z := fl.2 f hf.1 hf.2
  have z1 := z.2.2.1 q
  have an1 := an.1
  unfold lTX lT
  rw [if_pos q, h 577 (by omega), h 578 (by omega), if_pos (show σ.I 577 f = 0 by rw [← z.1.1]; exact q), tk_e (σ := σ) (τ := ς) (fun c p0 p1 => h c (by omega)), ← z.1.2, tk_AN (k := σ.I 17 f) (by omega) an.2.2.2.2.1 (an.2.2.2.2.2.2.2 _ z1.1 z1.2).1]
  exact tk_A (by omega) (fun i p0 p1 => hA i p0 (by omega))
theorem TJN_e {σ τ : Sto} {v k f n : Int} {l : TL} (h : TJN σ v k f l n) (e : ∀ c i, 18 ≤ c → c ≤ 25 → τ.I c i = σ.I c i) (e2 : ∀ c i, 36 ≤ c → c ≤ 41 → τ.I c i = σ.I c i) : TJN τ v k f l n := by
  intro j j0 j1
  obtain ⟨a1, a2, a3, a4, a5⟩ := h j j0 j1
  unfold TJ1
  rw [e2 36 _ (by omega) (by omega), e2 38 _ (by omega) (by omega), e2 39 _ (by omega) (by omega), e2 40 _ (by omega) (by omega), e2 41 _ (by omega) (by omega)]
  exact ⟨rowX_e a1 e, a2, a3, a4, a5⟩
/-- a text of the program, told from the store before it -/
theorem TXP_y {σ τ : Sto} {y f n : Int} (h : TXP σ τ y f n) (hc : σ.I 16 f = 0 → 675 ≤ anC σ (σ.I 17 f)) (h7 : 0 ≤ σ.I 18 7) (w1 : gdX σ f n) (w2 : myX σ f n) : y = σ.I 0 20 + 1 - σ.I 0 31 ∧ τ.I 0 1 = 0 ∧
    (∀ c i, ¬ (c = 0 ∧ (i = 1 ∨ i = 20)) → ¬ (c = 26 ∧ i = σ.I 0 20) → ¬ wsTX (σ.I 0 20) (σ.I 0 22) (σ.I 0 29) c i → τ.I c i = σ.I c i) ∧ τ.I 0 20 = σ.I 0 20 + 1 ∧ τ.I 26 (σ.I 0 20) = f ∧
    (τ.I 0 22 = σ.I 0 22 + n ∧ τ.I 28 (σ.I 0 20) = σ.I 0 22 ∧ τ.I 29 (σ.I 0 20) = n ∧ τ.I 31 (σ.I 0 20) = σ.I 0 29) ∧ (∀ k, 0 ≤ k → k < n → τ.I 35 (σ.I 0 22 + k) = σ.I 1 k) ∧
    (σ.I 16 f = 0 → τ.I 32 (σ.I 0 20) = (lTX σ f (σ.I 1) 0 n).1 ∧ τ.I 0 29 = σ.I 0 29 + (lTX σ f (σ.I 1) 0 n).1 ∧ τ.I 0 30 = σ.I 0 30 ∧ TJN τ (σ.I 0 20) (σ.I 0 29) f (lTX σ f (σ.I 1) 0 n) (lTX σ f (σ.I 1) 0 n).1) ∧
    (σ.I 16 f = 1 → τ.I 32 (σ.I 0 20) = 0 ∧ τ.I 0 29 = σ.I 0 29 ∧ τ.I 0 30 = σ.I 0 30 + 1 ∧ rowX τ (τ.I 33 (σ.I 0 20)) f ((lTX σ f (σ.I 1) 0 n).2.1 0) ((lTX σ f (σ.I 1) 0 n).2.2.1 0)) ∧
    (TXT σ τ ∧ TXNF σ τ f ∧ TU τ ∧ TC τ ∧ τ.I 18 7 ≤ σ.I 18 7 + (lTX σ f (σ.I 1) 0 n).1) ∧ bd_0_20 τ 21 36500 ∧ bd_0_12 τ 20 36500 ∧ RSX σ τ (τ.I 0 29) := by
  obtain ⟨ς, tk, h⟩ := h
  have el : lTX ς f (ς.I 1) 0 n = lTX σ f (σ.I 1) 0 n := by
    rw [show ς.I 1 = σ.I 1 from funext fun i => tk.1.2 1 i (fun z => absurd z.1 (by decide))]
    exact lTX_e tk hc
  have b4 : ∀ (c : Nat) (i : Int), ¬ (c = 0 ∧ i = 1) → ς.I c i = σ.I c i := fun c i q => tk.1.2 c i q
  have g1 : gdX ς f n := by unfold gdX; rw [b4 0 9 (by omega), b4 16 f (by omega)]; exact w1
  have g2 : myX ς f n := by unfold myX; rw [el, b4 0 20 (by omega), b4 0 31 (by omega), b4 0 22 (by omega), b4 0 29 (by omega), b4 0 30 (by omega)]; exact w2
  rcases h with ⟨a, _⟩ | ⟨_, a, _⟩ | ⟨_, _, e, υ, t, q⟩
  · exact absurd g1 a
  · exact absurd g2 a
  rw [el] at t
  obtain ⟨t1, t2, t3, t4, t5, t6, t7, t8, t9, t10, t11, t12, t13⟩ := t
  rw [b4 0 20 (by omega), b4 0 22 (by omega), b4 0 29 (by omega)] at t1 t2
  rw [b4 0 20 (by omega), b4 0 29 (by omega)] at t4 t5
  rw [b4 0 22 (by omega)] at t3
  rw [b4 16 f (by omega), b4 0 30 (by omega)] at t4 t5
  rw [b4 18 7 (by omega)] at t9
  rw [b4 0 20 (by omega), b4 0 31 (by omega)] at e
  have q20 : υ.I 0 20 = σ.I 0 20 := (t1.2 0 20 (by unfold wsTX at2; omega)).trans (b4 0 20 (by omega))
  have hz : ∀ (c : Nat) (i : Int), ¬ (c = 26 ∧ i = σ.I 0 20) → ¬ (c = 0 ∧ i = 20) → τ.I c i = υ.I c i := by
    intro c i n1 n2
    rw [q.2]
    show (if at2 c i 26 _ then _ else if at2 c i 0 20 then _ else υ.I c i) = _
    rw [if_neg (by rw [q20]; exact n1), if_neg n2]
  have x26 : τ.I 26 (σ.I 0 20) = f := by
    rw [q.2]
    show (if at2 26 (σ.I 0 20) 26 _ then _ else _) = _
    rw [if_pos ⟨rfl, q20.symm⟩]
  have x20 : τ.I 0 20 = σ.I 0 20 + 1 := by
    rw [q.2]
    show (if at2 0 20 26 _ then _ else if at2 0 20 0 20 then _ else _) = _
    rw [if_neg (fun z => absurd z.1 (by decide)), if_pos ⟨rfl, rfl⟩, q20]
  have eς : ∀ (c : Nat) (i : Int), 18 ≤ c → c ≤ 25 → ς.I c i = σ.I c i := fun c i q0 q1 => b4 c i (by omega)
  have eυ : ∀ (c : Nat) (i : Int), 18 ≤ c → c ≤ 25 → τ.I c i = υ.I c i := fun c i q0 q1 => hz c i (by omega) (by omega)
  have k7 := b4 18 7 (by omega)
  have k8 := t6.1
  refine ⟨e, ?_, fun c i n1 n2 n3 => ?_, x20, x26, ?_, fun k k0 k1 => ?_, fun w => ?_, fun w => ?_, ⟨?_, ?_, TU_e t7 eυ, TC_e t8 eυ, ?_⟩, ?_, ?_, ?_⟩
  · rw [hz 0 1 (by omega) (by omega), t1.2 0 1 (by unfold wsTX at2; omega)]
    exact tk.2
  · rw [hz c i n2 (by omega), t1.2 c i n3]
    exact b4 c i (by omega)
  · rw [hz 0 22 (by omega) (by omega), hz 28 _ (by omega) (by omega), hz 29 _ (by omega) (by omega), hz 31 _ (by omega) (by omega)]
    exact t2
  · rw [hz 35 _ (by omega) (by omega)]
    have z : υ.I 35 (σ.I 0 22 + k) = ς.I 1 (0 + k) := t3 k k0 k1
    rw [Int.zero_add, b4 1 k (by omega)] at z
    exact z
  · obtain ⟨u1, u2, u3, u4⟩ := t4 w
    rw [hz 32 _ (by omega) (by omega), hz 0 29 (by omega) (by omega), hz 0 30 (by omega) (by omega)]
    exact ⟨u1, u2, u3, TJN_e u4 eυ (fun c i q0 q1 => hz c i (by omega) (by omega))⟩
  · obtain ⟨u1, u2, u3, u4⟩ := t5 w
    rw [hz 32 _ (by omega) (by omega), hz 0 29 (by omega) (by omega), hz 0 30 (by omega) (by omega), hz 33 _ (by omega) (by omega)]
    exact ⟨u1, u2, u3, rowX_e u4 eυ⟩
  · exact TXT_tr (TXT_e eς) (TXT_tr t6 (TXT_e eυ) (by omega)) (by omega)
  · exact TXNF_tr (TXNF_e eς) (TXT_tr t6 (TXT_e eυ) (by omega)) (TXNF_tr t12 (TXT_e eυ) (TXNF_e eυ) (by omega)) (by omega)
  · rw [hz 18 7 (by omega) (by omega)]; exact t9
  · exact bd_0_20_eq t10 (funext fun i => eυ 21 i (by omega) (by omega))
  · exact bd_0_12_eq t11 (funext fun i => eυ 20 i (by omega) (by omega))
  · intro c i n1 n2
    rw [hz 0 29 (by omega) (by omega)] at n2
    rw [hz c i (by omega) (by omega), t13 c i n1 n2]
    exact b4 c i (by omega)
theorem TXP_n {σ τ : Sto} {y f n : Int} (h : TXP σ τ y f n) (hc : gdX σ f n → σ.I 16 f = 0 → 675 ≤ anC σ (σ.I 17 f)) (w : ¬ (gdX σ f n ∧ myX σ f n)) : ((¬ gdX σ f n ∧ y = -1) ∨ (gdX σ f n ∧ y = -3)) ∧ τ.I 0 1 = 0 ∧ ∀ c i, ¬ (c = 0 ∧ i = 1) → c ≠ 2 → ¬ (10 ≤ c ∧ c ≤ 15) → τ.I c i = σ.I c i := by
  obtain ⟨ς, tk, h⟩ := h
  have el : gdX σ f n → lTX ς f (ς.I 1) 0 n = lTX σ f (σ.I 1) 0 n := by
    intro g
    rw [show ς.I 1 = σ.I 1 from funext fun i => tk.1.2 1 i (fun z => absurd z.1 (by decide))]
    exact lTX_e tk (hc g)
  have b4 : ∀ (c : Nat) (i : Int), ¬ (c = 0 ∧ i = 1) → ς.I c i = σ.I c i := fun c i q => tk.1.2 c i q
  have g1 : gdX ς f n ↔ gdX σ f n := by unfold gdX; rw [b4 0 9 (by omega), b4 16 f (by omega)]
  have g2 : gdX σ f n → (myX ς f n ↔ myX σ f n) := fun g => by unfold myX; rw [el g, b4 0 20 (by omega), b4 0 31 (by omega), b4 0 22 (by omega), b4 0 29 (by omega), b4 0 30 (by omega)]
  rcases h with ⟨a, e, rfl⟩ | ⟨a, b, e, k⟩ | ⟨a, b, _⟩
  · exact ⟨Or.inl ⟨fun z => a (g1.mpr z), e⟩, tk.2, fun c i n1 _ _ => b4 c i n1⟩
  · refine ⟨Or.inr ⟨g1.mp a, e⟩, (k.2 0 1 (by unfold wsXt; omega)).trans tk.2, fun c i n1 n2 n3 => ?_⟩
    rw [k.2 c i (by unfold wsXt; omega)]
    exact b4 c i n1
  · exact absurd ⟨g1.mp a, (g2 (g1.mp a)).mp b⟩ w
section OPT
variable {E : XE} {d : Nat}

theorem op_text (hd : 30 ≤ d) : OP_text E d RR := by
  intro k σ hk r x1 h1
  have va := r.VA
  have va1 := va.1
  have v22 := VA_22 va
  have v29 := VA_29 va
  have fl := r.FL
  have fl1 := fl.1
  have tp := r.TP
  have tp1 := tp.1
  have rk := r.RK
  have k1 := rk.2.2.1
  have k2 := rk.2.2.2.1
  have an := r.AN
  have te := r.TE
  have te2 := te.2.1
  have bd := r.BD
  have sc := r.SC
  have n30 : σ.I 0 1 ≤ 30000 := by omega
  have hc : (0 ≤ x1 ∧ x1 < σ.I 0 9) → σ.I 16 x1 = 0 → 675 ≤ anC σ (σ.I 17 x1) := fun a b => by
    have z := (fl.2 x1 a.1 a.2).2.2.1 b
    exact (an.2.1 _ z.1 z.2).2.2

  have hc' : gdX σ x1 (σ.I 0 1) → σ.I 16 x1 = 0 → 675 ≤ anC σ (σ.I 17 x1) := fun q => hc q.1.1
  by_cases w : gdX σ x1 (σ.I 0 1) ∧ myX σ x1 (σ.I 0 1)
  · refine OPI.mk (sp_X0_text (by omega) r.Lay h1 ⟨va1.2.1.1, va1.2.1.2.1⟩ ⟨va1.2.1.2.2.1, va1.2.1.2.2.2⟩ ⟨v22, va1.2.2.1⟩ v29 va1.2.2.2 ⟨tp1.2, n30⟩ fl1.2 (fun a b => (fl.2 x1 a.1 a.2).2.2.1 b) an.2.1 an.2.2.1 sc.1.1.1 te.1.1 te.1.2 ⟨te2.1, by omega⟩ bd.2.2.2.2.1 bd.2.2.2.2.2 an.1.2.2) (fun y σ1 p s1 => by
        have S := (TXP_fr p.1).2
        exact sp_X9_text (by omega) (r.Lay.sf s1) (by rw [S 555 45 (by omega), S 555 30 (by omega)]; omega) (by rw [S 555 45 (by omega), S 555 30 (by omega)]; omega) (by rw [S 555 38 (by omega)]; omega) (by rw [S 555 44 (by omega)]; omega) h1 (by rw [S 555 2 (by omega)]; omega) (by rw [S 555 27 (by omega)]; omega) (AC_t an.2.2.2.2.1 (fun c i q => S c i (by omega))) (bd_0_20_eq sc.2.2.2.2.2.1.2.1 (funext fun i => S 573 i (by omega))) (bd_0_20_eq bd.2.1 (funext fun i => S 587 i (by omega))) (fun q => by
          rw [S 555 27 (by omega), S 577 x1 (by omega)] at q
          rw [S 578 x1 (by omega)]
          have z := fl.2 x1 q.1 (by omega)
          have z2 := z.2.2.1 (by rw [z.1.1]; exact q.2.2)
          have an1 := an.1
          rw [← z.1.2]
          exact ⟨z2.1, by omega⟩)) ?_
    intro y σ1 z σ2 p s1 g s2
    have S := (TXP_fr p.1).2
    have SR := (TXP_fr p.1).1
    obtain ⟨⟨ς, tk, g⟩, g573, g587⟩ := g
    have b4 : ∀ (c : Nat) (i : Int), ¬ (c = 555 ∧ i = 2) → ς.I c i = σ1.I c i := fun c i q => tk.1.2 c i q
    have b5 : ∀ (c : Nat) (i : Int), 555 ≤ c → ¬ (c = 555 ∧ i = 2) → ς.I c i = σ.I c i := fun c i q0 q => (b4 c i q).trans (S c i q0)
    have hLe : gdX σ x1 (σ.I 0 1) → (lT ς x1 (ς.I 557) 0 (σ.I 0 1)).1 = (lTX σ x1 (σ.I 1) 0 (σ.I 0 1)).1 ∧ (σ.I 16 x1 = 0 → lTX σ x1 (σ.I 1) 0 (σ.I 0 1) = lT ς x1 (ς.I 557) 0 (σ.I 0 1)) ∧ (σ.I 16 x1 = 1 → lT ς x1 (ς.I 557) 0 (σ.I 0 1) = wdT (ς.I 557) 0 (σ.I 0 1) ∧ lTX σ x1 (σ.I 1) 0 (σ.I 0 1) = wdT (σ.I 1) 0 (σ.I 0 1)) := by
      intro q
      have z := fl.2 x1 q.1.1.1 q.1.1.2
      have e0 : σ.I 16 x1 = 0 → lTX σ x1 (σ.I 1) 0 (σ.I 0 1) = lT ς x1 (ς.I 557) 0 (σ.I 0 1) := fun w0 => lTX_lT fl an q.1.1 (fun c hc => funext fun i => b5 c i (by omega) (by omega)) (fun i i0 i1 => by rw [b5 557 i (by omega) (by omega)]; exact tp.2 i i0 (by omega)) w0
      have e1 : σ.I 16 x1 = 1 → lT ς x1 (ς.I 557) 0 (σ.I 0 1) = wdT (ς.I 557) 0 (σ.I 0 1) ∧ lTX σ x1 (σ.I 1) 0 (σ.I 0 1) = wdT (σ.I 1) 0 (σ.I 0 1) := fun w1 => by
        unfold lT lTX
        rw [b5 577 x1 (by omega) (by omega), if_neg (by omega), if_neg (by omega)]
        exact ⟨rfl, rfl⟩
      refine ⟨?_, e0, e1⟩
      rcases q.1.2 with w0 | w1
      · rw [e0 w0]
      · rw [(e1 w1.1).1, (e1 w1.1).2]
        rfl
    rw [S 555 2 (by omega), b5 555 27 (by omega) (by omega), b5 577 x1 (by omega) (by omega), b5 555 30 (by omega) (by omega), b5 555 45 (by omega) (by omega), b5 555 38 (by omega) (by omega), b5 555 44 (by omega) (by omega), ← tp1.1, ← fl1.1, ← va1.1.1, ← va1.1.2.1, ← va1.1.2.2.1, va1.1.2.2.2] at g
    have wq : (((0 ≤ x1 ∧ x1 < σ.I 0 9 ∧ σ.I 577 x1 = 0) ∨ ((0 ≤ x1 ∧ x1 < σ.I 0 9 ∧ σ.I 577 x1 = 1) ∧ (σ.I 0 1) ≠ 0)) ∧ (σ.I 0 1) ≤ 1000) ↔ gdX σ x1 (σ.I 0 1) := by
      unfold gdX
      constructor
      · rintro ⟨q, q2⟩
        have z := (fl.2 x1 (by omega) (by omega)).1.1
        omega
      · rintro ⟨q, q2⟩
        have z := (fl.2 x1 (by omega) (by omega)).1.1
        omega
    have wf : gdX σ x1 (σ.I 0 1) → ((σ.I 0 20 - σ.I 0 31 = 24 ∨ 60000 < σ.I 0 22 + (σ.I 0 1) ∨ 24000 < (σ.I 0 29 + σ.I 0 30) + (lT ς x1 (ς.I 557) 0 (σ.I 0 1)).1 ∨ σ.I 0 20 = 6000) ↔ ¬ myX σ x1 (σ.I 0 1)) := by
      intro q
      rw [(hLe q).1]
      unfold myX
      have z := va1.2.1
      omega
    rw [wq] at g
    obtain ⟨py, p01, pF, p20, p26, ⟨p22, p28, p29, p31⟩, p35, pT, pW, ⟨pt, ptf, ptu, ptc, pt7⟩, pb21, pb20, prx⟩ := TXP_y p.1 (hc' w.1) te2.1 w.1 w.2
    obtain ⟨e1, e2, e3⟩ := hLe w.1
    have nf : ¬ (σ.I 0 20 - σ.I 0 31 = 24 ∨ 60000 < σ.I 0 22 + (σ.I 0 1) ∨ 24000 < (σ.I 0 29 + σ.I 0 30) + (lT ς x1 (ς.I 557) 0 (σ.I 0 1)).1 ∨ σ.I 0 20 = 6000) := fun q => (wf w.1).mp q w.2
    have gy := (g.resolve_left (fun q => q.1 w.1)).resolve_left (fun q => nf q.2.1)
    clear g
    obtain ⟨-, -, gz, ⟨⟨gR, gF⟩, ⟨g30, g38, g44⟩, ⟨g579, g580, g581, g582, g582s, g583⟩, gb, gl, grm⟩⟩ := gy
    rw [b5 555 30 (by omega) (by omega), b5 555 38 (by omega) (by omega), b5 555 44 (by omega) (by omega), ← va1.1.1, ← va1.1.2.2.1, va1.1.2.2.2] at gF
    rw [b5 555 30 (by omega) (by omega), ← va1.1.1] at g30 g579 g580 g581 g582 g582s g583
    rw [b5 555 38 (by omega) (by omega), ← va1.1.2.2.1] at g38 g580 gb
    rw [b5 555 44 (by omega) (by omega), va1.1.2.2.2] at g44 g582 g582s gl grm
    have wm := w.2
    have wg := w.1
    obtain ⟨l, hl⟩ : ∃ l, l = lT ς x1 (ς.I 557) 0 (σ.I 0 1) := ⟨_, rfl⟩
    rw [← hl] at e1 e2 e3 g44 g582s gl grm
    have p12 := p.2
    have gR : σ2.R = σ1.R ∧ σ2.sh = σ1.sh ∧ σ2.n = σ1.n := ⟨gR.1.trans tk.1.1.1, gR.2.1.trans tk.1.1.2.1, gR.2.2.trans tk.1.1.2.2⟩
    have tk2 := tk.2
    clear p wq wf hLe nf
    have wh : Hd _ := w
    clear w
    have F1 : ∀ (c : Nat) (i : Int), ¬ ((c = 0 ∧ (i = 1 ∨ i = 20 ∨ i = 22 ∨ i = 29 ∨ i = 30)) ∨ (c = 26 ∧ i = σ.I 0 20) ∨ c = 2 ∨ (10 ≤ c ∧ c ≤ 15) ∨ (19 ≤ c ∧ c ≤ 25) ∨ (c = 18 ∧ i = 7) ∨ ((c = 28 ∨ c = 29 ∨ c = 31 ∨ c = 32 ∨ c = 33) ∧ i = σ.I 0 20) ∨ (c = 35 ∧ σ.I 0 22 ≤ i) ∨ ((c = 36 ∨ (38 ≤ c ∧ c ≤ 41)) ∧ σ.I 0 29 ≤ i)) → σ1.I c i = σ.I c i := by
      intro c i q
      exact pF c i (by omega) (by omega) (by unfold wsTX at2; omega)
    have F2 : ∀ (c : Nat) (i : Int), ¬ ((c = 555 ∧ (i = 2 ∨ i = 12 ∨ i = 19 ∨ i = 22 ∨ i = 30 ∨ i = 38 ∨ i = 44)) ∨ (565 ≤ c ∧ c ≤ 574) ∨ ((579 ≤ c ∧ c ≤ 583) ∧ σ.I 0 20 ≤ i) ∨ (c = 585 ∧ σ.I 0 22 ≤ i) ∨ (c = 586 ∧ 20 * (σ.I 0 29 + σ.I 0 30) ≤ i) ∨ ((587 ≤ c ∧ c ≤ 590) ∧ σ.I 0 29 + σ.I 0 30 ≤ i)) → σ2.I c i = σ1.I c i := by
      intro c i q
      exact (gF c i (by unfold wsAM wsB at2; omega)).trans (b4 c i (by omega))
    have F : ∀ (c : Nat) (i : Int), ¬ ((c = 0 ∧ (i = 1 ∨ i = 20 ∨ i = 22 ∨ i = 29 ∨ i = 30)) ∨ (c = 26 ∧ i = σ.I 0 20) ∨ c = 2 ∨ (10 ≤ c ∧ c ≤ 15) ∨ (19 ≤ c ∧ c ≤ 25) ∨ (c = 18 ∧ i = 7) ∨ ((c = 28 ∨ c = 29 ∨ c = 31 ∨ c = 32 ∨ c = 33) ∧ i = σ.I 0 20) ∨ (c = 35 ∧ σ.I 0 22 ≤ i) ∨ ((c = 36 ∨ (38 ≤ c ∧ c ≤ 41)) ∧ σ.I 0 29 ≤ i)) → ¬ ((c = 555 ∧ (i = 2 ∨ i = 12 ∨ i = 19 ∨ i = 22 ∨ i = 30 ∨ i = 38 ∨ i = 44)) ∨ (565 ≤ c ∧ c ≤ 574) ∨ ((579 ≤ c ∧ c ≤ 583) ∧ σ.I 0 20 ≤ i) ∨ (c = 585 ∧ σ.I 0 22 ≤ i) ∨ (c = 586 ∧ 20 * (σ.I 0 29 + σ.I 0 30) ≤ i) ∨ ((587 ≤ c ∧ c ≤ 590) ∧ σ.I 0 29 + σ.I 0 30 ≤ i)) → σ2.I c i = σ.I c i := fun c i a b => (F2 c i b).trans (F1 c i a)
    have hR : σ2.R = σ.R := gR.1.trans SR.1
    have hS : σ2.sh = σ.sh := gR.2.1.trans SR.2.1
    have hN : σ2.n = σ.n := gR.2.2.trans SR.2.2
    have T1 : σ2.I 0 1 = 0 := (F2 0 1 (by omega)).trans p01
    have g02 : σ2.I 555 2 = 0 := (gF 555 2 (by unfold wsAM wsB at2; omega)).trans tk2
    have a4 := va1.1.2.2.2
    have z9 := fl.2 x1 wg.1.1.1 wg.1.1.2
    have hb0 : σ.I 16 x1 = 0 → TKI l 0 (0 + σ.I 0 1) (0 + σ.I 0 1) := fun w0 => by
      have z := z9.2.2.1 w0
      rw [← e2 w0]
      unfold lTX
      rw [if_pos w0]
      exact tk_TKI (ARW_X (an.2.2.1 _ z.1 z.2).1) (by omega) (by omega)
    have E25 : ∀ (c : Nat) (i : Int), 18 ≤ c → c ≤ 25 → σ2.I c i = σ1.I c i := fun c i q0 q1 => F2 c i (by omega)
    have A557 : ∀ i, 0 ≤ i → i < σ.I 0 1 → ς.I 557 i = σ.I 1 i := fun i i0 i1 => by
      rw [b5 557 i (by omega) (by omega)]
      exact (tp.2 i i0 (by omega)).symm
    have tb : TXB σ σ2 x1 (σ.I 0 1) (σ.I 1) l := by
      refine ⟨⟨wg.1, ⟨tp1.2, wg.2⟩, ?_, fun w1 => by rw [(e3 w1).1]; rfl, fun j j0 j1 => ?_⟩, ⟨wm.1, wm.2.1, wm.2.2.1, by rw [e1]; exact wm.2.2.2⟩, ⟨(F2 0 20 (by omega)).trans p20, g30, F 0 9 (by omega) (by omega), F 0 31 (by omega) (by omega), F 555 45 (by omega) (by omega), (F2 0 22 (by omega)).trans p22, by rw [g38, va1.1.2.2.1], by rw [g44, a4], F 0 32 (by omega) (by omega)⟩,
        ⟨funext fun i => F 16 i (by omega) (by omega), funext fun i => F 584 i (by omega) (by omega), funext fun i => F 34 i (by omega) (by omega), funext fun i => F 37 i (by omega) (by omega)⟩,
        ⟨fun c i q q1 => F c i (by unfold cVA at q; omega) (by unfold cVA at q; omega), fun i q => ?_, fun c i q q1 => F c i (by omega) (by omega), fun c i q q1 => F c i (by omega) (by omega), fun i q => F 586 i (by omega) (by omega)⟩,
        ⟨TXT_tr pt (TXT_e E25) te2.1, TXNF_tr ptf (TXT_e E25) (TXNF_e E25) te2.1, TU_e ptu E25, TC_e ptc E25, by rw [F2 18 7 (by omega), e1]; exact pt7⟩,
        ⟨fun i q => ⟨F 35 i (by omega) (by omega), F 585 i (by omega) (by omega)⟩, fun k k0 k1 => ⟨(F2 35 _ (by omega)).trans (p35 k k0 k1), ?_⟩⟩,
        ⟨(F2 26 _ (by omega)).trans p26, g579, (F2 28 _ (by omega)).trans p28, g580, (F2 29 _ (by omega)).trans p29, g581, (F2 31 _ (by omega)).trans p31, by rw [g582s, a4]⟩, fun w0 => ?_, fun w1 => ?_, by rw [a4]; exact gl⟩
      · rcases wg.1.2 with w0 | w1
        · exact (hb0 w0).1
        · rw [(e3 w1.1).1]
          show (0 : Int) ≤ 1 ∧ (1 : Int) ≤ 250
          omega
      · have n1 := wg.2
        rcases wg.1.2 with w0 | w1
        · have q := (hb0 w0).2.1 j j0 j1
          omega
        · rw [(e3 w1.1).1]
          show ((0 : Int) ≤ 0 ∧ (0 : Int) ≤ 499) ∧ ((0 : Int) ≤ 0 ∧ (0 : Int) ≤ 1000) ∧ 0 ≤ σ.I 0 1 ∧ σ.I 0 1 ≤ 1000
          omega
      · by_cases q2 : i = σ.I 0 20
        · rw [q2, g582, va1.1.1, va.2.1.2.1, a4]
        · exact F 582 i (by omega) (by omega)
      · have q : σ2.I 585 (σ.I 0 22 + k) = ς.I 557 (0 + k) := gb k k0 k1
        rw [Int.zero_add, A557 k k0 k1] at q
        exact q
      · have u := pT w0
        rw [e2 w0] at u
        exact ⟨(F2 32 _ (by omega)).trans u.1, (F2 0 29 (by omega)).trans u.2.1, (F2 0 30 (by omega)).trans u.2.2.1, TJN_e u.2.2.2 E25 (fun c i q0 q1 => F2 c i (by omega))⟩
      · have u := pW w1
        rw [(e3 w1).2] at u
        rw [(e3 w1).1, F2 33 _ (by omega)]
        refine ⟨(F2 32 _ (by omega)).trans u.1, (F2 0 29 (by omega)).trans u.2.1, (F2 0 30 (by omega)).trans u.2.2.1, rowX_e (rowX_r u.2.2.2 (fun k k0 k1 => ?_)) E25⟩
        have k2 : k < min (σ.I 0 1) 20 := k1
        show σ.I 1 (0 + k) = ς.I 557 (0 + k)
        rw [Int.zero_add, A557 k k0 (by omega)]
    refine ⟨gz.trans py.symm, r.Lay.sf (s1.tr s2), RK_c1 hS hN (by rw [T1]; omega) (by rw [F 0 41 (by omega) (by omega)]; omega) (fun i h0 h1 => by rw [F 211 i (by omega) (by omega)]; have := rk.2.2.2.2 i h0 h1; omega) rk, ?_, ?_, ?_, ?_, ?_, ?_, ?_, ?_, ?_, ?_, ?_, ?_, ?_, ?_, ?_, ?_, ?_, ?_, ?_, ?_, ?_, ?_, ?_, ?_, ?_⟩
    · exact ⟨⟨T1.trans g02.symm, by rw [T1]; omega⟩, fun i h0 h1 => by rw [F 1 i (by omega) (by omega), F 557 i (by omega) (by omega)]; exact tp.2 i h0 h1⟩
    · exact rFL_cg (fun c i h => F c i (by unfold fFL at h; omega) (by unfold fFL at h; omega)) r.FL
    · exact rVS_cg (fun c i h => F c i (by unfold fVS at h; omega) (by unfold fVS at h; omega)) r.VS
    · exact rOB_cg (fun c i h => F c i (by unfold fOB at h; omega) (by unfold fOB at h; omega)) r.OB
    · exact VA_tx va fl te bd.2.1 bd.2.2.2.2.1 tb
    · exact BD_tx bd va tb (RSX_tr (k := σ2.I 0 29) prx (b := σ2.I 0 29) (fun c i q0 q1 => F2 c i (by omega)) (by rw [F2 0 29 (by omega)]; omega) (by omega)) (fun c i q0 q1 q2 => (grm c i q0 q1 (by omega)).trans (b5 c i (by omega) (by omega))) g587 (bd_0_20_eq pb21 (funext fun i => E25 21 i (by omega) (by omega))) (bd_0_12_eq pb20 (funext fun i => E25 20 i (by omega) (by omega))) (fun i q => F 32 i (by omega) (by omega))
    · exact TE_tx te va fl tb
    · exact PK_pl r.PK (by rw [tb.2.2.1.1]; omega) (F 0 31 (by omega) (by omega)) (F 0 39 (by omega) (by omega)) (fun c h => funext fun i => F c i (by omega) (by omega))
    · exact rUS_cg (fun c i h => F c i (by unfold fUS at h; omega) (by unfold fUS at h; omega)) r.US
    · exact rFO_cg (fun c i h => F c i (by unfold fFO at h; omega) (by unfold fFO at h; omega)) r.FO
    · exact rSH_cg (fun c i h => F c i (by unfold fSH at h; omega) (by unfold fSH at h; omega)) r.SH
    · exact rSW_cg (fun c i h => F c i (by unfold fSW at h; omega) (by unfold fSW at h; omega)) r.SW
    · exact rHI_cg (fun c i h => F c i (by unfold fHI at h; omega) (by unfold fHI at h; omega)) r.HI
    · exact rLN_cg (fun c i h => F c i (by unfold fLN at h; omega) (by unfold fLN at h; omega)) r.LN
    · exact rMK_cg (fun c i h => F c i (by unfold fMK at h; omega) (by unfold fMK at h; omega)) r.MK
    · exact GR_tx r.GR va fl te bd.2.1 tb (fun i h => F 0 i (by omega) (by omega)) (fun i h => F 555 i (by omega) (by omega)) (fun c h => funext fun i => F c i (by omega) (by omega))
    · exact rTT_cg (fun c i h => F c i (by unfold fTT at h; omega) (by unfold fTT at h; omega)) r.TT
    · exact rMT_cg (fun c i h => F c i (by unfold fMT at h; omega) (by unfold fMT at h; omega)) r.MT
    · exact SC_2 sc (fun c i q q1 q2 => F c i (by unfold fSC at q; omega) (by unfold fSC at q; omega)) (bd_0_20_eq p12 (funext fun i => F2 12 i (by omega))) g573
    · exact rQU_cg (fun c i h => F c i (by unfold fQU at h; omega) (by unfold fQU at h; omega)) r.QU
    · exact rKQ_cg (fun c i h => F c i (by unfold fKQ at h; omega) (by unfold fKQ at h; omega)) r.KQ
    · exact rHQ_cg (fun c i h => F c i (by unfold fHQ at h; omega) (by unfold fHQ at h; omega)) r.HQ
    · exact rPP_cg (fun c i h => F c i (by unfold fPP at h; omega) (by unfold fPP at h; omega)) (by rw [hR]) (by rw [hR]) r.PP
    · exact rAN_cg (fun c i h => F c i (by unfold fAN at h; omega) (by unfold fAN at h; omega)) hR hS hN r.AN
    · exact rSE_cg r.SE
  · refine OPI.mk (sp_X0_text (by omega) r.Lay h1 ⟨va1.2.1.1, va1.2.1.2.1⟩ ⟨va1.2.1.2.2.1, va1.2.1.2.2.2⟩ ⟨v22, va1.2.2.1⟩ v29 va1.2.2.2 ⟨tp1.2, n30⟩ fl1.2 (fun a b => (fl.2 x1 a.1 a.2).2.2.1 b) an.2.1 an.2.2.1 sc.1.1.1 te.1.1 te.1.2 ⟨te2.1, by omega⟩ bd.2.2.2.2.1 bd.2.2.2.2.2 an.1.2.2) (fun y σ1 p s1 => by
        have S := (TXP_fr p.1).2
        exact sp_X9_text (by omega) (r.Lay.sf s1) (by rw [S 555 45 (by omega), S 555 30 (by omega)]; omega) (by rw [S 555 45 (by omega), S 555 30 (by omega)]; omega) (by rw [S 555 38 (by omega)]; omega) (by rw [S 555 44 (by omega)]; omega) h1 (by rw [S 555 2 (by omega)]; omega) (by rw [S 555 27 (by omega)]; omega) (AC_t an.2.2.2.2.1 (fun c i q => S c i (by omega))) (bd_0_20_eq sc.2.2.2.2.2.1.2.1 (funext fun i => S 573 i (by omega))) (bd_0_20_eq bd.2.1 (funext fun i => S 587 i (by omega))) (fun q => by
          rw [S 555 27 (by omega), S 577 x1 (by omega)] at q
          rw [S 578 x1 (by omega)]
          have z := fl.2 x1 q.1 (by omega)
          have z2 := z.2.2.1 (by rw [z.1.1]; exact q.2.2)
          have an1 := an.1
          rw [← z.1.2]
          exact ⟨z2.1, by omega⟩)) ?_
    intro y σ1 z σ2 p s1 g s2
    have S := (TXP_fr p.1).2
    have SR := (TXP_fr p.1).1
    obtain ⟨⟨ς, tk, g⟩, g573, g587⟩ := g
    have b4 : ∀ (c : Nat) (i : Int), ¬ (c = 555 ∧ i = 2) → ς.I c i = σ1.I c i := fun c i q => tk.1.2 c i q
    have b5 : ∀ (c : Nat) (i : Int), 555 ≤ c → ¬ (c = 555 ∧ i = 2) → ς.I c i = σ.I c i := fun c i q0 q => (b4 c i q).trans (S c i q0)
    have hLe : gdX σ x1 (σ.I 0 1) → (lT ς x1 (ς.I 557) 0 (σ.I 0 1)).1 = (lTX σ x1 (σ.I 1) 0 (σ.I 0 1)).1 ∧ (σ.I 16 x1 = 0 → lTX σ x1 (σ.I 1) 0 (σ.I 0 1) = lT ς x1 (ς.I 557) 0 (σ.I 0 1)) ∧ (σ.I 16 x1 = 1 → lT ς x1 (ς.I 557) 0 (σ.I 0 1) = wdT (ς.I 557) 0 (σ.I 0 1) ∧ lTX σ x1 (σ.I 1) 0 (σ.I 0 1) = wdT (σ.I 1) 0 (σ.I 0 1)) := by
      intro q
      have z := fl.2 x1 q.1.1.1 q.1.1.2
      have e0 : σ.I 16 x1 = 0 → lTX σ x1 (σ.I 1) 0 (σ.I 0 1) = lT ς x1 (ς.I 557) 0 (σ.I 0 1) := fun w0 => lTX_lT fl an q.1.1 (fun c hc => funext fun i => b5 c i (by omega) (by omega)) (fun i i0 i1 => by rw [b5 557 i (by omega) (by omega)]; exact tp.2 i i0 (by omega)) w0
      have e1 : σ.I 16 x1 = 1 → lT ς x1 (ς.I 557) 0 (σ.I 0 1) = wdT (ς.I 557) 0 (σ.I 0 1) ∧ lTX σ x1 (σ.I 1) 0 (σ.I 0 1) = wdT (σ.I 1) 0 (σ.I 0 1) := fun w1 => by
        unfold lT lTX
        rw [b5 577 x1 (by omega) (by omega), if_neg (by omega), if_neg (by omega)]
        exact ⟨rfl, rfl⟩
      refine ⟨?_, e0, e1⟩
      rcases q.1.2 with w0 | w1
      · rw [e0 w0]
      · rw [(e1 w1.1).1, (e1 w1.1).2]
        rfl
    rw [S 555 2 (by omega), b5 555 27 (by omega) (by omega), b5 577 x1 (by omega) (by omega), b5 555 30 (by omega) (by omega), b5 555 45 (by omega) (by omega), b5 555 38 (by omega) (by omega), b5 555 44 (by omega) (by omega), ← tp1.1, ← fl1.1, ← va1.1.1, ← va1.1.2.1, ← va1.1.2.2.1, va1.1.2.2.2] at g
    have wq : (((0 ≤ x1 ∧ x1 < σ.I 0 9 ∧ σ.I 577 x1 = 0) ∨ ((0 ≤ x1 ∧ x1 < σ.I 0 9 ∧ σ.I 577 x1 = 1) ∧ (σ.I 0 1) ≠ 0)) ∧ (σ.I 0 1) ≤ 1000) ↔ gdX σ x1 (σ.I 0 1) := by
      unfold gdX
      constructor
      · rintro ⟨q, q2⟩
        have z := (fl.2 x1 (by omega) (by omega)).1.1
        omega
      · rintro ⟨q, q2⟩
        have z := (fl.2 x1 (by omega) (by omega)).1.1
        omega
    have wf : gdX σ x1 (σ.I 0 1) → ((σ.I 0 20 - σ.I 0 31 = 24 ∨ 60000 < σ.I 0 22 + (σ.I 0 1) ∨ 24000 < (σ.I 0 29 + σ.I 0 30) + (lT ς x1 (ς.I 557) 0 (σ.I 0 1)).1 ∨ σ.I 0 20 = 6000) ↔ ¬ myX σ x1 (σ.I 0 1)) := by
      intro q
      rw [(hLe q).1]
      unfold myX
      have z := va1.2.1
      omega
    rw [wq] at g
    obtain ⟨py, p01, pF⟩ := TXP_n p.1 hc' w
    have gn : ((¬ gdX σ x1 (σ.I 0 1) ∧ z = -1) ∨ (gdX σ x1 (σ.I 0 1) ∧ z = -3)) ∧ σ2.I 555 2 = 0 ∧ (∀ c i, ¬ ((c = 555 ∧ (i = 2 ∨ i = 12 ∨ i = 19 ∨ i = 22)) ∨ (565 ≤ c ∧ c ≤ 574)) → σ2.I c i = σ1.I c i) ∧ (σ2.R = σ1.R ∧ σ2.sh = σ1.sh ∧ σ2.n = σ1.n) := by
      rcases g with ⟨g1, g2, rfl⟩ | ⟨g1, g2, g3, g4⟩ | ⟨g1, g2, _⟩
      · exact ⟨Or.inl ⟨g1, g2⟩, tk.2, fun c i q => b4 c i (by omega), tk.1.1⟩
      · refine ⟨Or.inr ⟨g1, g3⟩, (g4.2 555 2 (by unfold wsB; omega)).trans tk.2, fun c i q => (g4.2 c i (by unfold wsB; omega)).trans (b4 c i (by omega)), ⟨g4.1.1.trans tk.1.1.1, g4.1.2.1.trans tk.1.1.2.1, g4.1.2.2.trans tk.1.1.2.2⟩⟩
      · exact absurd ⟨g1, Classical.byContradiction fun e => g2 ((wf g1).mpr e)⟩ w
    clear g wq wf hLe
    obtain ⟨gz, g02, gF, gR⟩ := gn
    have hy : z = y := by
      rcases gz with ⟨a1, a2⟩ | ⟨a1, a2⟩
      · rcases py with ⟨b1, b2⟩ | ⟨b1, b2⟩
        · omega
        · exact absurd b1 a1
      · rcases py with ⟨b1, b2⟩ | ⟨b1, b2⟩
        · exact absurd a1 b1
        · omega
    clear gz py
    have p12 := p.2
    clear p tk b4 b5
    have wh : Hd _ := w
    clear w
    have F1 : ∀ (c : Nat) (i : Int), ¬ ((c = 0 ∧ i = 1) ∨ c = 2 ∨ (10 ≤ c ∧ c ≤ 15)) → σ1.I c i = σ.I c i := by
      intro c i q
      exact pF c i (by omega) (by omega) (by omega)
    have F2 : ∀ (c : Nat) (i : Int), ¬ ((c = 555 ∧ (i = 2 ∨ i = 12 ∨ i = 19 ∨ i = 22)) ∨ (565 ≤ c ∧ c ≤ 574)) → σ2.I c i = σ1.I c i := by
      intro c i q
      exact gF c i q
    have F : ∀ (c : Nat) (i : Int), ¬ ((c = 0 ∧ i = 1) ∨ c = 2 ∨ (10 ≤ c ∧ c ≤ 15)) → ¬ ((c = 555 ∧ (i = 2 ∨ i = 12 ∨ i = 19 ∨ i = 22)) ∨ (565 ≤ c ∧ c ≤ 574)) → σ2.I c i = σ.I c i := fun c i a b => (F2 c i b).trans (F1 c i a)
    have hR : σ2.R = σ.R := gR.1.trans SR.1
    have hS : σ2.sh = σ.sh := gR.2.1.trans SR.2.1
    have hN : σ2.n = σ.n := gR.2.2.trans SR.2.2
    have T1 : σ2.I 0 1 = 0 := (F2 0 1 (by omega)).trans p01
    refine ⟨hy, r.Lay.sf (s1.tr s2), RK_c1 hS hN (by rw [T1]; omega) (by rw [F 0 41 (by omega) (by omega)]; omega) (fun i h0 h1 => by rw [F 211 i (by omega) (by omega)]; have := rk.2.2.2.2 i h0 h1; omega) rk, ?_, ?_, ?_, ?_, ?_, ?_, ?_, ?_, ?_, ?_, ?_, ?_, ?_, ?_, ?_, ?_, ?_, ?_, ?_, ?_, ?_, ?_, ?_, ?_, ?_⟩
    · exact ⟨⟨T1.trans g02.symm, by rw [T1]; omega⟩, fun i h0 h1 => by rw [F 1 i (by omega) (by omega), F 557 i (by omega) (by omega)]; exact tp.2 i h0 h1⟩
    · exact rFL_cg (fun c i h => F c i (by unfold fFL at h; omega) (by unfold fFL at h; omega)) r.FL
    · exact rVS_cg (fun c i h => F c i (by unfold fVS at h; omega) (by unfold fVS at h; omega)) r.VS
    · exact rOB_cg (fun c i h => F c i (by unfold fOB at h; omega) (by unfold fOB at h; omega)) r.OB
    · exact rVA_cg (fun c i h => F c i (by unfold fVA at h; omega) (by unfold fVA at h; omega)) r.VA
    · exact rBD_cg (fun c i h => F c i (by unfold fBD at h; omega) (by unfold fBD at h; omega)) r.BD
    · exact rTE_cg (fun c i h => F c i (by unfold fTE at h; omega) (by unfold fTE at h; omega)) r.TE
    · exact rPK_cg (fun c i h => F c i (by unfold fPK at h; omega) (by unfold fPK at h; omega)) r.PK
    · exact rUS_cg (fun c i h => F c i (by unfold fUS at h; omega) (by unfold fUS at h; omega)) r.US
    · exact rFO_cg (fun c i h => F c i (by unfold fFO at h; omega) (by unfold fFO at h; omega)) r.FO
    · exact rSH_cg (fun c i h => F c i (by unfold fSH at h; omega) (by unfold fSH at h; omega)) r.SH
    · exact rSW_cg (fun c i h => F c i (by unfold fSW at h; omega) (by unfold fSW at h; omega)) r.SW
    · exact rHI_cg (fun c i h => F c i (by unfold fHI at h; omega) (by unfold fHI at h; omega)) r.HI
    · exact rLN_cg (fun c i h => F c i (by unfold fLN at h; omega) (by unfold fLN at h; omega)) r.LN
    · exact rMK_cg (fun c i h => F c i (by unfold fMK at h; omega) (by unfold fMK at h; omega)) r.MK
    · exact rGR_cg (fun c i h => F c i (by unfold fGR at h; omega) (by unfold fGR at h; omega)) r.GR
    · exact rTT_cg (fun c i h => F c i (by unfold fTT at h; omega) (by unfold fTT at h; omega)) r.TT
    · exact rMT_cg (fun c i h => F c i (by unfold fMT at h; omega) (by unfold fMT at h; omega)) r.MT
    · exact SC_2 sc (fun c i q q1 q2 => F c i (by unfold fSC at q; omega) (by unfold fSC at q; omega)) (bd_0_20_eq p12 (funext fun i => F2 12 i (by omega))) g573
    · exact rQU_cg (fun c i h => F c i (by unfold fQU at h; omega) (by unfold fQU at h; omega)) r.QU
    · exact rKQ_cg (fun c i h => F c i (by unfold fKQ at h; omega) (by unfold fKQ at h; omega)) r.KQ
    · exact rHQ_cg (fun c i h => F c i (by unfold fHQ at h; omega) (by unfold fHQ at h; omega)) r.HQ
    · exact rPP_cg (fun c i h => F c i (by unfold fPP at h; omega) (by unfold fPP at h; omega)) (by rw [hR]) (by rw [hR]) r.PP
    · exact rAN_cg (fun c i h => F c i (by unfold fAN at h; omega) (by unfold fAN at h; omega)) hR hS hN r.AN
    · exact rSE_cg r.SE
end OPT

