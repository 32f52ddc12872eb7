section
/-! contracts: printed by tools/mk.py out of s98zzl_anew.py -/
set_option maxRecDepth 100000
set_option maxHeartbeats 1600000
/-! terms are made anew: plain -/
def usV (σ : Sto) (v t : Int) : Prop := exN (fun u => vhX σ t u) v
def usP (σ : Sto) (v m t : Int) : Prop := usV σ v t ∨ (σ.I 16 (σ.I 26 v) = 1 ∧ σ.I 33 v = t) ∨ exN (fun i => σ.I 36 (σ.I 31 v + i) = t) m
def ust (σ : Sto) (t : Int) : Prop := usV σ (σ.I 0 20) t
noncomputable def tmN (σ : Sto) (t : Int) : Int := cn (ust σ) t
theorem usV_s {σ : Sto} {v t : Int} (h : 0 ≤ v) : usV σ (v + 1) t ↔ usP σ v (σ.I 32 v) t := by
  unfold usV usP
  rw [exN_s _ v (v + 1) h rfl]
  unfold vhX
  exact ⟨fun q => q.elim Or.inl (fun z => Or.inr z), fun q => q.elim Or.inl (fun z => Or.inr z)⟩
theorem usP_s {σ : Sto} {v m t : Int} (h : 0 ≤ m) : usP σ v (m + 1) t ↔ (usP σ v m t ∨ t = σ.I 36 (σ.I 31 v + m)) := by
  unfold usP
  rw [exN_s _ m (m + 1) h rfl]
  constructor
  · rintro (q | q | q | q)
    · exact Or.inl (Or.inl q)
    · exact Or.inl (Or.inr (Or.inl q))
    · exact Or.inl (Or.inr (Or.inr q))
    · exact Or.inr q.symm
  · rintro ((q | q | q) | q)
    · exact Or.inl q
    · exact Or.inr (Or.inl q)
    · exact Or.inr (Or.inr (Or.inl q))
    · exact Or.inr (Or.inr (Or.inr q.symm))
def UMk (σ τ : Sto) (P : Int → Prop) : Prop := (∀ c i, c ≠ 49 → τ.I c i = σ.I c i) ∧ τ.2 = σ.2 ∧ ∀ t, 0 ≤ t → t < 36500 → (P t → τ.I 49 t = 0) ∧ (¬ P t → τ.I 49 t = σ.I 49 t)
theorem UMk_cg {σ τ : Sto} {P P' : Int → Prop} (h : UMk σ τ P) (e : ∀ t, P' t ↔ P t) : UMk σ τ P' := by rw [show P' = P from funext fun t => propext (e t)]; exact h
theorem UMk_w {σ τ υ : Sto} {P : Int → Prop} {s : Int} (h : UMk σ τ P) (e : υ = τ.wI 49 s 0) : UMk σ υ (fun t => P t ∨ t = s) := by
  refine ⟨fun c i q => by rw [e, I_ne _ _ _ _ q]; exact h.1 c i q, by rw [e]; exact h.2.1, fun t a b => ?_⟩
  rw [e]
  by_cases z : t = s
  · rw [z, I_same]; exact ⟨fun _ => rfl, fun q => absurd (Or.inr rfl) q⟩
  · rw [I_nj _ _ _ _ z]; exact ⟨fun q => (h.2.2 t a b).1 (q.elim id (fun w => absurd w z)), fun q => (h.2.2 t a b).2 (fun w => q (Or.inl w))⟩
/-- what the making anew rests on -/
def TAP (σ : Sto) (n : Int) : Prop := (0 ≤ n ∧ n ≤ 36499 ∧ n = σ.I 18 7) ∧ TU σ ∧ bd_0_20 σ 21 36500 ∧ bd_0_12 σ 20 36500 ∧ (∀ t, 0 ≤ t → t < n → σ.I 49 t = -1) ∧ ((0 ≤ σ.I 0 31 ∧ σ.I 0 31 ≤ σ.I 0 20 ∧ σ.I 0 20 ≤ 6000) ∧ tkAt σ 0 = 0 ∧ 0 ≤ σ.I 0 32 ∧ σ.I 0 32 ≤ 36500) ∧ ∀ v, 0 ≤ v → v < σ.I 0 20 → (0 ≤ σ.I 26 v ∧ σ.I 26 v < 12) ∧ (0 ≤ σ.I 31 v ∧ 0 ≤ σ.I 32 v ∧ σ.I 31 v + σ.I 32 v ≤ 24000 ∧ σ.I 31 v + σ.I 32 v = tkAt σ (v + 1)) ∧ (σ.I 16 (σ.I 26 v) = 1 → (0 ≤ σ.I 33 v ∧ σ.I 33 v < n) ∧ isWt σ (σ.I 33 v)) ∧ (∀ i, 0 ≤ i → i < σ.I 32 v → (0 ≤ σ.I 36 (σ.I 31 v + i) ∧ σ.I 36 (σ.I 31 v + i) < n) ∧ ¬ isWt σ (σ.I 36 (σ.I 31 v + i))) ∧ (v < σ.I 0 31 → 0 ≤ σ.I 27 v ∧ σ.I 27 v < 600)
theorem tk_mo {σ : Sto} {n : Int} (h : TAP σ n) : ∀ (j : Nat) (v : Int), 0 ≤ v → v + j ≤ σ.I 0 20 → tkAt σ v ≤ tkAt σ (v + j) := by
  intro j
  induction j with
  | zero => intro v _ _; rw [show v + ((0 : Nat) : Int) = v by omega]; exact Int.le_refl _
  | succ j ih =>
    intro v v0 v1
    have i2 := ih v v0 (by omega)
    have q := (h.2.2.2.2.2.2 (v + j) (by omega) (by omega)).2.1
    have e : tkAt σ (v + j) = σ.I 31 (v + j) := by unfold tkAt; rw [if_pos (by omega)]
    rw [show v + ((j + 1 : Nat) : Int) = v + j + 1 by omega]; omega
theorem tk_le {σ : Sto} {n v w : Int} (h : TAP σ n) (v0 : 0 ≤ v) (hv : v ≤ w) (hw : w ≤ σ.I 0 20) : tkAt σ v ≤ tkAt σ w := by
  have z := tk_mo h (w - v).toNat v v0 (by omega)
  rw [show v + (((w - v).toNat : Nat) : Int) = w by omega] at z
  exact z
/-- a token below the end is some value's -/
theorem tk_of {σ : Sto} {n : Int} (h : TAP σ n) {k : Int} (k0 : 0 ≤ k) : ∀ (j : Nat), (j : Int) ≤ σ.I 0 20 → k < tkAt σ j → ∃ v i, (0 ≤ v ∧ v < (j : Int)) ∧ (0 ≤ i ∧ i < σ.I 32 v) ∧ k = σ.I 31 v + i := by
  intro j
  induction j with
  | zero => intro _ hk; have z := h.2.2.2.2.2.1.2.1; rw [show ((0 : Nat) : Int) = 0 from rfl, z] at hk; omega
  | succ j ih =>
    intro hj hk
    have q := (h.2.2.2.2.2.2 j (by omega) (by omega)).2.1
    rcases Int.lt_or_le k (tkAt σ j) with z | z
    · obtain ⟨v, i, a, b, c⟩ := ih (by omega) z
      exact ⟨v, i, ⟨a.1, by omega⟩, b, c⟩
    · have e : tkAt σ j = σ.I 31 j := by unfold tkAt; rw [if_pos (by omega)]
      rw [show ((j + 1 : Nat) : Int) = (j : Int) + 1 by omega] at hk
      exact ⟨j, k - σ.I 31 j, ⟨by omega, by omega⟩, ⟨by omega, by omega⟩, by omega⟩
theorem ust_in {σ : Sto} {n t : Int} (h : TAP σ n) (q : ust σ t) : 0 ≤ t ∧ t < n := by
  obtain ⟨u, a, b, c⟩ := q
  have z := h.2.2.2.2.2.2 u a b
  rcases c with ⟨c1, c2⟩ | ⟨i, i0, i1, i2⟩
  · have w := (z.2.2.1 c1).1; omega
  · have w := (z.2.2.2.1 i i0 i1).1; have i3 : σ.I 36 (σ.I 31 u + i) = t := i2; omega
def wsT3 (c : Nat) (i : Int) : Prop := (19 ≤ c ∧ c ≤ 25) ∨ c = 49 ∨ (c = 18 ∧ i = 7) ∨ (c = 0 ∧ i = 32)
/-- the first t old terms have been taken in again -/
def TA3 (σ τ : Sto) (t mk : Int) : Prop := (∀ c i, ¬ wsT3 c i → τ.I c i = σ.I c i) ∧ τ.2 = σ.2 ∧ τ.I 18 7 = tmN σ t ∧ (∀ s, 0 ≤ s → s < t → ust σ s → τ.I 49 s = tmN σ s ∧ rowX τ (tmN σ s) (σ.I 20 s) (σ.I 21 s) (fun k => σ.I 19 (20 * s + k))) ∧ (∀ s, t ≤ s → s < 36500 → (ust σ s → τ.I 49 s = 0) ∧ (¬ ust σ s → τ.I 49 s = σ.I 49 s)) ∧ (∀ s, tmN σ t ≤ s → τ.I 20 s = σ.I 20 s ∧ τ.I 21 s = σ.I 21 s) ∧ (∀ i, 20 * tmN σ t ≤ i → τ.I 19 i = σ.I 19 i) ∧ (∀ s, 0 ≤ s → s < tmN σ t → τ.I 22 s = -1 ∧ τ.I 23 s = -1) ∧ (TC τ ∧ bd_0_20 τ 21 36500 ∧ bd_0_12 τ 20 36500) ∧ τ.I 0 32 = tmN σ (min t mk)
theorem tmN_b {σ : Sto} {t : Int} (h : 0 ≤ t) : 0 ≤ tmN σ t ∧ tmN σ t ≤ t := by
  have := cn_in (ust σ) t
  have e : tmN σ t = cn (ust σ) t := rfl
  omega
theorem tmN_t {σ : Sto} {t : Int} (h : 0 ≤ t) (q : ust σ t) : tmN σ (t + 1) = tmN σ t + 1 := by unfold tmN; rw [cn_s _ t (t + 1) h rfl, zb_t q]
theorem tmN_f {σ : Sto} {t : Int} (h : 0 ≤ t) (q : ¬ ust σ t) : tmN σ (t + 1) = tmN σ t := by unfold tmN; rw [cn_s _ t (t + 1) h rfl, zb_f q, Int.add_zero]
/-- every new term was an old one -/
theorem tmN_on {σ : Sto} {j : Int} (j0 : 0 ≤ j) : ∀ n : Nat, j < tmN σ n → ∃ s, (0 ≤ s ∧ s < (n : Int)) ∧ ust σ s ∧ tmN σ s = j := by
  intro n
  induction n with
  | zero => intro h; have := tmN_b (σ := σ) (t := 0) (Int.le_refl _); rw [show ((0 : Nat) : Int) = 0 from rfl] at h; omega
  | succ n ih =>
    intro h
    rw [show ((n + 1 : Nat) : Int) = (n : Int) + 1 by omega] at h
    rcases Classical.em (ust σ n) with z | z
    · rw [tmN_t (by omega) z] at h
      rcases Int.lt_or_le j (tmN σ n) with w | w
      · obtain ⟨s, a, b, c⟩ := ih w
        exact ⟨s, ⟨a.1, by omega⟩, b, c⟩
      · exact ⟨n, ⟨by omega, by omega⟩, z, by omega⟩
    · rw [tmN_f (by omega) z] at h
      obtain ⟨s, a, b, c⟩ := ih h
      exact ⟨s, ⟨a.1, by omega⟩, b, c⟩
theorem TA3_0 {σ τ s1 υ : Sto} {mk : Int} (h0 : 0 ≤ mk) (hb : bd_0_20 σ 21 36500) (hb2 : bd_0_12 σ 20 36500) (e : ∀ c i, c ≠ 49 → c ≠ 25 → τ.I c i = σ.I c i) (er : τ.2 = σ.2) (h49 : ∀ t, 0 ≤ t → t < 36500 → (ust σ t → τ.I 49 t = 0) ∧ (¬ ust σ t → τ.I 49 t = σ.I 49 t)) (h25 : ∀ i, 0 ≤ i → i < 8192 → τ.I 25 i = -1) (e1 : s1 = τ.wI 18 7 0) (e2 : υ = s1.wI 0 32 0) : TA3 σ υ 0 mk := by
  have z0 : tmN σ 0 = 0 := cn_0 _ _ (Int.le_refl _)
  have f : ∀ c i, ¬ (c = 18 ∧ i = 7) → ¬ (c = 0 ∧ i = 32) → υ.I c i = τ.I c i := fun c i a b => by rw [e2, I_ot _ _ _ _ _ _ b, e1, I_ot _ _ _ _ _ _ a]
  have n : υ.I 18 7 = 0 := by rw [e2, I_ne _ _ _ _ (by decide), e1, I_same]
  refine ⟨fun c i q => ?_, by rw [e2, e1]; exact er, by rw [n, z0], fun s a b => by omega, fun s a b => by rw [f _ _ (by omega) (by omega)]; exact h49 s a b, fun s _ => ⟨by rw [f _ _ (by omega) (by omega)]; exact e _ _ (by decide) (by decide), by rw [f _ _ (by omega) (by omega)]; exact e _ _ (by decide) (by decide)⟩, fun i _ => by rw [f _ _ (by omega) (by omega)]; exact e _ _ (by decide) (by decide), fun s a b => by rw [z0] at b; omega, ⟨⟨fun c a b => ?_, fun t a b => ?_⟩, bd_0_20_eq hb (funext fun i => by rw [f _ _ (by omega) (by omega)]; exact e _ _ (by decide) (by decide)), bd_0_12_eq hb2 (funext fun i => by rw [f _ _ (by omega) (by omega)]; exact e _ _ (by decide) (by decide))⟩, by rw [show min 0 mk = 0 by omega, z0, e2, I_same]⟩
  · rw [f c i (fun z => q (by unfold wsT3; omega)) (fun z => q (by unfold wsT3; omega))]; exact e c i (fun z => q (by unfold wsT3; omega)) (fun z => q (by unfold wsT3; omega))
  · rw [n, ls_0 _ _ (Int.le_refl _), f _ _ (by omega) (by omega)]; exact h25 c a b
  · rw [n] at b; omega
theorem TA3_n {σ τ : Sto} {t mk : Int} (h : TA3 σ τ t mk) (h0 : 0 ≤ t) (q : ¬ ust σ t) (h9 : t < 36500) : TA3 σ τ (t + 1) mk := by
  obtain ⟨a, b, c, d, e, f, g, k, l, m⟩ := h
  have z := tmN_f h0 q
  refine ⟨a, b, by rw [z]; exact c, fun s s0 s1 su => ?_, fun s s0 s1 => e s (by omega) s1, by rw [z]; exact f, by rw [z]; exact g, by rw [z]; exact k, l, ?_⟩
  · rcases (show s < t ∨ s = t by omega) with w | w
    · exact d s s0 w su
    · rw [w] at su; contradiction
  · rw [m]
    rcases Int.lt_or_le t mk with w | w
    · rw [show min t mk = t by omega, show min (t + 1) mk = t + 1 by omega, z]
    · rw [show min t mk = mk by omega, show min (t + 1) mk = mk by omega]
/-- no earlier row is the row of t -/
theorem TA3_no {σ τ : Sto} {t mk n : Int} (h : TA3 σ τ t mk) (hP : TAP σ n) (h0 : 0 ≤ t) (h1 : t < n) : ls (tQ τ (τ.I 20 t) (τ.I 19) (20 * t) (min (τ.I 21 t) 20)) (τ.I 18 7) = -1 := by
  obtain ⟨a, b, c, d, e, f, g, k, l, m⟩ := h
  have tb := tmN_b (σ := σ) h0
  have f2 := f t tb.2
  have sz := hP.2.2.1 t h0 (by have := hP.1; omega)
  have w := ls_in (tQ τ (τ.I 20 t) (τ.I 19) (20 * t) (min (τ.I 21 t) 20)) (τ.I 18 7)
  rcases w with w | w
  · exact w
  · exfalso
    generalize hz : ls (tQ τ (τ.I 20 t) (τ.I 19) (20 * t) (min (τ.I 21 t) 20)) (τ.I 18 7) = j at w
    obtain ⟨j0, j1, ⟨q1, q2⟩, q3⟩ := w
    rw [c] at j1
    obtain ⟨s, s0, su, s2⟩ := tmN_on j0 t.toNat (by rw [show ((t.toNat : Nat) : Int) = t by omega]; exact j1)
    obtain ⟨_, ⟨_, r1, r2, r3⟩⟩ := d s s0.1 (by omega) su
    rw [s2] at r1 r2 r3
    refine hP.2.1 s t s0.1 (by omega) (by have := hP.1; omega) ⟨?_, ?_, fun x x0 x1 => ?_⟩
    · rw [← r1, q1, f2.1]
    · rw [← r2, q2, f2.2]; omega
    · have sx : σ.I 21 s = σ.I 21 t := by rw [← r2, q2, f2.2]; omega
      have y := q3 x x0 (by rw [f2.2]; omega)
      have y2 : τ.I 19 (20 * j + x) = τ.I 19 (20 * t + x) := y
      rw [g (20 * t + x) (by omega)] at y2
      rw [← y2]; exact (r3 x x0 (by omega)).symm
theorem TA3_y {σ τ υ ψ : Sto} {t mk n y : Int} (h : TA3 σ τ t mk) (hP : TAP σ n) (h0 : 0 ≤ t) (h1 : t < n) (hu : ust σ t) (hno : ls (tQ τ (τ.I 20 t) (τ.I 19) (20 * t) (min (τ.I 21 t) 20)) (τ.I 18 7) = -1)
    (hy : y = if ls (tQ τ (τ.I 20 t) (τ.I 19) (20 * t) (min (τ.I 21 t) 20)) (τ.I 18 7) = -1 then τ.I 18 7 else ls (tQ τ (τ.I 20 t) (τ.I 19) (20 * t) (min (τ.I 21 t) 20)) (τ.I 18 7))
    (e : υ.I = fun c i => if ls (tQ τ (τ.I 20 t) (τ.I 19) (20 * t) (min (τ.I 21 t) 20)) (τ.I 18 7) = -1 then (if rg c i 19 (20 * τ.I 18 7) (20 * τ.I 18 7 + (min (τ.I 21 t) 20)) then τ.I 19 (20 * t + (i - 20 * τ.I 18 7)) else if at2 c i 20 (τ.I 18 7) then τ.I 20 t else if at2 c i 21 (τ.I 18 7) then (min (τ.I 21 t) 20) else if at2 c i 22 (τ.I 18 7) then -1 else if at2 c i 23 (τ.I 18 7) then -1 else if at2 c i 24 (τ.I 18 7) then τ.I 25 (chO (τ.I 19) (20 * t) (τ.I 20 t) (min (τ.I 21 t) 20)) else if at2 c i 25 (chO (τ.I 19) (20 * t) (τ.I 20 t) (min (τ.I 21 t) 20)) then τ.I 18 7 else if at2 c i 18 7 then τ.I 18 7 + 1 else τ.I c i) else τ.I c i)
    (er : υ.2 = τ.2) (hT : TC υ) (hψ : ∀ c i, ¬ (c = 49 ∧ i = t) → ¬ (c = 0 ∧ i = 32) → ψ.I c i = υ.I c i) (h49 : ψ.I 49 t = y) (h32 : ψ.I 0 32 = if t < mk then υ.I 0 32 + 1 else υ.I 0 32) (erψ : ψ.2 = υ.2) : TA3 σ ψ (t + 1) mk := by
  obtain ⟨a, b, c, d, e', f, g, k, l, m⟩ := h
  rw [if_pos hno, c] at hy
  have e2 : υ.I = fun c i => if rg c i 19 (20 * τ.I 18 7) (20 * τ.I 18 7 + (min (τ.I 21 t) 20)) then τ.I 19 (20 * t + (i - 20 * τ.I 18 7)) else if at2 c i 20 (τ.I 18 7) then τ.I 20 t else if at2 c i 21 (τ.I 18 7) then (min (τ.I 21 t) 20) else if at2 c i 22 (τ.I 18 7) then -1 else if at2 c i 23 (τ.I 18 7) then -1 else if at2 c i 24 (τ.I 18 7) then τ.I 25 (chO (τ.I 19) (20 * t) (τ.I 20 t) (min (τ.I 21 t) 20)) else if at2 c i 25 (chO (τ.I 19) (20 * t) (τ.I 20 t) (min (τ.I 21 t) 20)) then τ.I 18 7 else if at2 c i 18 7 then τ.I 18 7 + 1 else τ.I c i := by rw [e]; funext c i; rw [if_pos hno]
  have tb := tmN_b (σ := σ) h0
  have z := tmN_t h0 hu
  have f2 := f t tb.2
  have n1 := hP.1
  have sz := hP.2.2.1 t h0 (by omega)
  have sf := hP.2.2.2.1 t h0 (by omega)
  have mn : min (τ.I 21 t) 20 = σ.I 21 t := by rw [f2.2]; omega
  rw [c, mn] at e2
  have e3 : ∀ c i, υ.I c i = if rg c i 19 (20 * tmN σ t) (20 * tmN σ t + σ.I 21 t) then τ.I 19 (20 * t + (i - 20 * tmN σ t)) else if at2 c i 20 (tmN σ t) then τ.I 20 t else if at2 c i 21 (tmN σ t) then σ.I 21 t else if at2 c i 22 (tmN σ t) then -1 else if at2 c i 23 (tmN σ t) then -1 else if at2 c i 24 (tmN σ t) then τ.I 25 (chO (τ.I 19) (20 * t) (τ.I 20 t) (σ.I 21 t)) else if at2 c i 25 (chO (τ.I 19) (20 * t) (τ.I 20 t) (σ.I 21 t)) then tmN σ t else if at2 c i 18 7 then tmN σ t + 1 else τ.I c i := fun c i => congrFun (congrFun e2 c) i
  have v19 : ∀ i, υ.I 19 i = if 20 * tmN σ t ≤ i ∧ i < 20 * tmN σ t + σ.I 21 t then τ.I 19 (20 * t + (i - 20 * tmN σ t)) else τ.I 19 i := fun i => by
    rw [e3]
    by_cases w : 20 * tmN σ t ≤ i ∧ i < 20 * tmN σ t + σ.I 21 t
    · rw [if_pos ⟨rfl, w⟩, if_pos w]
    · rw [if_neg (fun x => w x.2), if_neg w, if_neg (fun x => absurd x.1 (by decide)), if_neg (fun x => absurd x.1 (by decide)), if_neg (fun x => absurd x.1 (by decide)), if_neg (fun x => absurd x.1 (by decide)), if_neg (fun x => absurd x.1 (by decide)), if_neg (fun x => absurd x.1 (by decide)), if_neg (fun x => absurd x.1 (by decide))]
  have v20 : ∀ i, υ.I 20 i = if i = tmN σ t then τ.I 20 t else τ.I 20 i := fun i => by
    rw [e3]
    rw [if_neg (fun x => absurd x.1 (by decide))]
    by_cases w : i = tmN σ t
    · rw [if_pos ⟨rfl, w⟩, if_pos w]
    · rw [if_neg (fun x => w x.2), if_neg w, if_neg (fun x => absurd x.1 (by decide)), if_neg (fun x => absurd x.1 (by decide)), if_neg (fun x => absurd x.1 (by decide)), if_neg (fun x => absurd x.1 (by decide)), if_neg (fun x => absurd x.1 (by decide)), if_neg (fun x => absurd x.1 (by decide))]
  have v21 : ∀ i, υ.I 21 i = if i = tmN σ t then σ.I 21 t else τ.I 21 i := fun i => by
    rw [e3]
    rw [if_neg (fun x => absurd x.1 (by decide)), if_neg (fun x => absurd x.1 (by decide))]
    by_cases w : i = tmN σ t
    · rw [if_pos ⟨rfl, w⟩, if_pos w]
    · rw [if_neg (fun x => w x.2), if_neg w, if_neg (fun x => absurd x.1 (by decide)), if_neg (fun x => absurd x.1 (by decide)), if_neg (fun x => absurd x.1 (by decide)), if_neg (fun x => absurd x.1 (by decide)), if_neg (fun x => absurd x.1 (by decide))]
  have v22 : ∀ c i, c = 22 ∨ c = 23 → υ.I c i = if i = tmN σ t then -1 else τ.I c i := fun c i q => by
    rcases q with rfl | rfl
    · rw [e3]
      rw [if_neg (fun x => absurd x.1 (by decide)), if_neg (fun x => absurd x.1 (by decide)), if_neg (fun x => absurd x.1 (by decide))]
      by_cases w : i = tmN σ t
      · rw [if_pos ⟨rfl, w⟩, if_pos w]
      · rw [if_neg (fun x => w x.2), if_neg w, if_neg (fun x => absurd x.1 (by decide)), if_neg (fun x => absurd x.1 (by decide)), if_neg (fun x => absurd x.1 (by decide)), if_neg (fun x => absurd x.1 (by decide))]
    · rw [e3]
      rw [if_neg (fun x => absurd x.1 (by decide)), if_neg (fun x => absurd x.1 (by decide)), if_neg (fun x => absurd x.1 (by decide)), if_neg (fun x => absurd x.1 (by decide))]
      by_cases w : i = tmN σ t
      · rw [if_pos ⟨rfl, w⟩, if_pos w]
      · rw [if_neg (fun x => w x.2), if_neg w, if_neg (fun x => absurd x.1 (by decide)), if_neg (fun x => absurd x.1 (by decide)), if_neg (fun x => absurd x.1 (by decide))]
  have v187 : υ.I 18 7 = tmN σ t + 1 := by
    rw [e3]
    rw [if_neg (fun x => absurd x.1 (by decide)), if_neg (fun x => absurd x.1 (by decide)), if_neg (fun x => absurd x.1 (by decide)), if_neg (fun x => absurd x.1 (by decide)), if_neg (fun x => absurd x.1 (by decide)), if_neg (fun x => absurd x.1 (by decide)), if_neg (fun x => absurd x.1 (by decide)), if_pos ⟨rfl, rfl⟩]
  have vo : ∀ c i, ¬ (19 ≤ c ∧ c ≤ 25) → ¬ (c = 18 ∧ i = 7) → υ.I c i = τ.I c i := fun c i x y => by
    rw [e3]
    rw [if_neg (fun w => x (by have := w.1; omega)), if_neg (fun w => x (by have := w.1; omega)), if_neg (fun w => x (by have := w.1; omega)), if_neg (fun w => x (by have := w.1; omega)), if_neg (fun w => x (by have := w.1; omega)), if_neg (fun w => x (by have := w.1; omega)), if_neg (fun w => x (by have := w.1; omega)), if_neg y]
  have p19 : ∀ i, ψ.I 19 i = υ.I 19 i := fun i => hψ _ _ (by omega) (by omega)
  have p20 : ∀ i, ψ.I 20 i = υ.I 20 i := fun i => hψ _ _ (by omega) (by omega)
  have p21 : ∀ i, ψ.I 21 i = υ.I 21 i := fun i => hψ _ _ (by omega) (by omega)
  have p187 : ψ.I 18 7 = tmN σ t + 1 := (hψ _ _ (by omega) (by omega)).trans v187
  refine ⟨fun c' i q => ?_, erψ.trans (er.trans b), by rw [p187, z], fun s s0 s1 su => ?_, fun s s0 s1 => ?_, fun s hs => ?_, fun i hi => ?_, fun s s0 s1 => ?_, ⟨TC_e hT (fun c i x y => hψ c i (by omega) (by omega)), fun i i0 i1 => ?_, fun i i0 i1 => ?_⟩, ?_⟩
  · rw [hψ c' i (fun w => q (by unfold wsT3; omega)) (fun w => q (by unfold wsT3; omega)), vo c' i (fun w => q (by unfold wsT3; omega)) (fun w => q (by unfold wsT3; omega))]; exact a c' i q
  · rcases (show s < t ∨ s = t by omega) with w | w
    · obtain ⟨d1, ⟨d2, d3⟩, d4, d5, d6⟩ := d s s0 w su
      have sl : tmN σ s < tmN σ t := cn_lt s0 w su
      have zs := hP.2.2.1 s s0 (by omega)
      refine ⟨by rw [hψ _ _ (by omega) (by omega), vo _ _ (by omega) (by omega)]; exact d1, ⟨d2, by rw [p187]; omega⟩, by rw [p20, v20, if_neg (by omega)]; exact d4, by rw [p21, v21, if_neg (by omega)]; exact d5, fun x x0 x1 => by rw [p19, v19, if_neg (by omega)]; exact d6 x x0 x1⟩
    · rw [w]
      refine ⟨by rw [h49]; exact hy, ⟨tb.1, by rw [p187]; omega⟩, by rw [p20, v20, if_pos rfl]; exact f2.1, by rw [p21, v21, if_pos rfl], fun x x0 x1 => ?_⟩
      rw [p19, v19, if_pos (by omega), show 20 * tmN σ t + x - 20 * tmN σ t = x by omega]; exact g _ (by omega)
  · rw [hψ _ _ (by omega) (by omega), vo _ _ (by omega) (by omega)]; exact e' s (by omega) s1
  · rw [z] at hs
    rw [p20, p21, v20, v21, if_neg (by omega), if_neg (by omega)]; exact f s (by omega)
  · rw [z] at hi
    rw [p19, v19, if_neg (by omega)]; exact g i (by omega)
  · rw [z] at s1
    rw [hψ _ _ (by omega) (by omega), hψ _ _ (by omega) (by omega), v22 22 s (by omega), v22 23 s (by omega)]
    rcases (show s = tmN σ t ∨ s < tmN σ t by omega) with w | w
    · rw [if_pos w, if_pos w]; exact ⟨rfl, rfl⟩
    · rw [if_neg (by omega), if_neg (by omega)]; exact k s s0 w
  · rw [p21, v21]
    by_cases w : i = tmN σ t
    · rw [if_pos w]; exact sz
    · rw [if_neg w]; exact l.2.1 i i0 i1
  · rw [p20, v20]
    by_cases w : i = tmN σ t
    · rw [if_pos w, f2.1]; exact sf
    · rw [if_neg w]; exact l.2.2 i i0 i1
  · rw [h32, vo _ _ (by omega) (by omega), m]
    rcases Int.lt_or_le t mk with w | w
    · rw [if_pos w, show min t mk = t by omega, show min (t + 1) mk = t + 1 by omega, z]
    · rw [if_neg (by omega), show min t mk = mk by omega, show min (t + 1) mk = mk by omega]
/-- the terms are all different -/
theorem TA3_TU {σ τ : Sto} {n mk : Int} (h : TA3 σ τ n mk) (hP : TAP σ n) : TU τ := by
  obtain ⟨_, _, c, d, _⟩ := h
  have n0 := hP.1
  intro s t s0 st t1 ⟨q1, q2, q3⟩
  rw [c] at t1
  obtain ⟨s', a1, a2, a3⟩ := tmN_on (σ := σ) s0 n.toNat (by rw [show ((n.toNat : Nat) : Int) = n by omega]; omega)
  obtain ⟨t', b1, b2, b3⟩ := tmN_on (σ := σ) (j := t) (by omega) n.toNat (by rw [show ((n.toNat : Nat) : Int) = n by omega]; exact t1)
  obtain ⟨_, ⟨_, r1, r2, r3⟩⟩ := d s' a1.1 (by omega) a2
  obtain ⟨_, ⟨_, u1, u2, u3⟩⟩ := d t' b1.1 (by omega) b2
  rw [a3] at r1 r2 r3
  rw [b3] at u1 u2 u3
  have lt : s' < t' := by
    rcases Int.lt_or_le s' t' with z | z
    · exact z
    · rcases (show t' = s' ∨ t' < s' by omega) with w | w
      · rw [w, a3] at b3; omega
      · have := cn_lt (p := ust σ) b1.1 w b2
        have e1 : tmN σ t' = cn (ust σ) t' := rfl
        have e2 : tmN σ s' = cn (ust σ) s' := rfl
        omega
  refine hP.2.1 s' t' a1.1 lt (by omega) ⟨by rw [← r1, ← u1]; exact q1, by rw [← r2, ← u2]; exact q2, fun k k0 k1 => ?_⟩
  have y := q3 k k0 (by omega)
  have w1 : τ.I 19 (20 * s + k) = σ.I 19 (20 * s' + k) := r3 k k0 (by omega)
  have w2 : τ.I 19 (20 * t + k) = σ.I 19 (20 * t' + k) := u3 k k0 (by omega)
  rw [← w1, ← w2]; exact y
theorem PT_ag {σ τ : Sto} {K : Int} (h : PT σ K) (e1 : ∀ k, 0 ≤ k → k < K → τ.I 36 k = σ.I 36 k) (e : ∀ c, c = 16 ∨ c = 20 ∨ c = 22 ∨ c = 23 → τ.I c = σ.I c) (e4 : τ.I 18 7 = σ.I 18 7) (e5 : ∀ k, 0 ≤ k → k < K → τ.I 37 k = σ.I 37 k) : PT τ K := by
  have ew : isWt τ = isWt σ := by funext s; unfold isWt; rw [e 20 (by omega), e 16 (by omega)]
  refine ⟨fun s s0 s1 sw => ?_, fun k k0 k1 => ?_⟩
  · rw [ew] at sw; rw [e4] at s1
    have w := h.1 s s0 s1 sw
    rw [e 22 (by omega), e 23 (by omega), fsF_cg2 (p := tkQ τ s) (q := tkQ σ s) (fun k a b => by unfold tkQ; rw [e1 k a b]), ls_cg (p := tkQ τ s) (q := tkQ σ s) (fun k a b => by unfold tkQ; rw [e1 k a b])]
    exact w
  · have w := h.2 k k0 k1
    rw [e5 k k0 k1, e1 k k0 k1, fsF_ag (q' := tkQ τ (σ.I 36 k)) (q := tkQ σ (σ.I 36 k)) (n := K) _ (k + 1) rfl (fun j a b => by unfold tkQ; rw [e1 j (by omega) b])]
    exact w
theorem PW_ag {σ τ : Sto} {V : Int} (h : PW σ V) (e1 : ∀ k, 0 ≤ k → k < V → τ.I 33 k = σ.I 33 k) (e : ∀ c, c = 16 ∨ c = 20 ∨ c = 22 ∨ c = 23 ∨ c = 26 → τ.I c = σ.I c) (e4 : τ.I 18 7 = σ.I 18 7) (e5 : ∀ k, 0 ≤ k → k < V → τ.I 34 k = σ.I 34 k) : PW τ V := by
  have ew : isWt τ = isWt σ := by funext s; unfold isWt; rw [e 20 (by omega), e 16 (by omega)]
  have eq : ∀ s k, 0 ≤ k → k < V → (wkQ τ s k ↔ wkQ σ s k) := fun s k a b => by unfold wkQ; rw [e 16 (by omega), e 26 (by omega), e1 k a b]
  refine ⟨fun s s0 s1 sw => ?_, fun k k0 k1 kw => ?_⟩
  · rw [ew] at sw; rw [e4] at s1
    have w := h.1 s s0 s1 sw
    rw [e 22 (by omega), e 23 (by omega), fsF_cg2 (p := wkQ τ s) (q := wkQ σ s) (fun k a b => eq s k a b), ls_cg (p := wkQ τ s) (q := wkQ σ s) (fun k a b => eq s k a b)]
    exact w
  · rw [e 16 (by omega), e 26 (by omega)] at kw
    have w := h.2 k k0 k1 kw
    rw [e5 k k0 k1, e1 k k0 k1, fsF_ag (q' := wkQ τ (σ.I 33 k)) (q := wkQ σ (σ.I 33 k)) (n := V) _ (k + 1) rfl (fun j a b => eq _ j (by omega) b)]
    exact w
def wsT4 (c : Nat) : Prop := c = 33 ∨ c = 36 ∨ c = 22 ∨ c = 23 ∨ c = 37 ∨ c = 34
/-- the values below v have their new terms, and the first e tokens; W: value v too -/
def TA4 (σ τ : Sto) (n mk v e : Int) (W : Prop) : Prop := ∃ ψ, TA3 σ ψ n mk ∧ (∀ c i, ¬ wsT4 c → τ.I c i = ψ.I c i) ∧ τ.2 = ψ.2 ∧ (∀ u, (0 ≤ u ∧ (u < v ∨ (u = v ∧ W))) → isWv σ u → τ.I 33 u = tmN σ (σ.I 33 u)) ∧ (∀ u, ¬ ((0 ≤ u ∧ (u < v ∨ (u = v ∧ W))) ∧ isWv σ u) → τ.I 33 u = σ.I 33 u) ∧ (∀ k, 0 ≤ k → k < e → τ.I 36 k = tmN σ (σ.I 36 k)) ∧ (∀ k, e ≤ k → τ.I 36 k = σ.I 36 k) ∧ PT τ (tkAt σ (min v (σ.I 0 31))) ∧ PW τ (min v (σ.I 0 31))
/-- what the making anew of the terms leaves -/
def TAN (σ τ : Sto) (n mk : Int) : Prop := TA4 σ τ n mk (σ.I 0 20) (tkAt σ (σ.I 0 20)) False ∧ TU τ
end
section
/-! contracts: printed by tools/mk.py out of s98zzm_anewX.py -/
set_option maxRecDepth 100000
set_option maxHeartbeats 1600000
/-! terms are made anew: steps of the last loop -/
section TA4S
variable {σ τ υ : Sto} {n mk v e : Int} {W : Prop}
theorem us_w (h0 : 0 ≤ v) (h1 : v < σ.I 0 20) (hw : isWv σ v) : ust σ (σ.I 33 v) := ⟨v, h0, h1, Or.inl ⟨hw, rfl⟩⟩
theorem us_k (h0 : 0 ≤ v) (h1 : v < σ.I 0 20) {i : Int} (i0 : 0 ≤ i) (i1 : i < σ.I 32 v) : ust σ (σ.I 36 (σ.I 31 v + i)) := ⟨v, h0, h1, Or.inr ⟨i, i0, i1, rfl⟩⟩
theorem TA4_0 (h : TA3 σ τ n mk) (hP : TAP σ n) : TA4 σ τ n mk 0 0 False := by
  have hP5 := hP.2.2.2.2.2.1
  have z : tkAt σ (min 0 (σ.I 0 31)) = 0 := by rw [show min 0 (σ.I 0 31) = 0 by omega]; exact hP5.2.1
  obtain ⟨a, b, c, d, e, f, g, k, l, m⟩ := h
  have e33 : ∀ c, c = 33 ∨ c = 36 → τ.I c = σ.I c := fun c q => funext fun i => a c i (by unfold wsT3; omega)
  refine ⟨τ, ⟨a, b, c, d, e, f, g, k, l, m⟩, fun c i q => rfl, rfl, fun u q => ?_, fun u q => by rw [e33 33 (by omega)], fun k a b => by omega, fun k q => by rw [e33 36 (by omega)], ?_, ?_⟩
  · rcases q with ⟨q0, q1 | q1⟩
    · omega
    · exact q1.2.elim
  · rw [z]
    exact ⟨fun s s0 s1 _ => by rw [fsF_e _ _ _ (Int.le_refl _), ls_0 _ _ (Int.le_refl _)]; rw [c] at s1; exact k s s0 s1, fun k a b => by omega⟩
  · rw [show min 0 (σ.I 0 31) = 0 by omega]
    exact ⟨fun s s0 s1 _ => by rw [fsF_e _ _ _ (Int.le_refl _), ls_0 _ _ (Int.le_refl _)]; rw [c] at s1; exact k s s0 s1, fun k a b => by omega⟩
theorem TA4_f (h : TA4 σ τ n mk v e W) {c : Nat} {i : Int} (q : ¬ wsT4 c) (q3 : ¬ wsT3 c i) : τ.I c i = σ.I c i := by
  obtain ⟨ψ, a, b, _⟩ := h
  rw [b c i q]; exact a.1 c i q3
theorem TA4_49 (h : TA4 σ τ n mk v e W) {s : Int} (s0 : 0 ≤ s) (s1 : s < n) (su : ust σ s) : τ.I 49 s = tmN σ s := by
  obtain ⟨ψ, a, b, _⟩ := h
  rw [b 49 s (by unfold wsT4; omega)]; exact (a.2.2.2.1 s s0 s1 su).1
theorem TA4_nw (h : TA4 σ τ n mk v e False) (hw : ¬ isWv σ v) : TA4 σ τ n mk v e True := by
  obtain ⟨ψ, a, b, c, d, f, g⟩ := h
  refine ⟨ψ, a, b, c, fun u q uw => ?_, fun u q => ?_, g⟩
  · rcases q with ⟨q0, q1 | q1⟩
    · exact d u ⟨q0, Or.inl q1⟩ uw
    · rw [q1.1] at uw; contradiction
  · exact f u (fun w => q ⟨⟨w.1.1, w.1.2.elim Or.inl (fun z => z.2.elim)⟩, w.2⟩)
theorem TA4_w (h : TA4 σ τ n mk v e False) (hP : TAP σ n) (h0 : 0 ≤ v) (h1 : v < σ.I 0 20) (hw : isWv σ v) (ex : υ = τ.wI 33 v (τ.I 49 (τ.I 33 v))) : TA4 σ υ n mk v e True := by
  have t33 := (hP.2.2.2.2.2.2 v h0 h1).2.2.1 hw
  have v49 := TA4_49 h t33.1.1 t33.1.2 (us_w h0 h1 hw)
  obtain ⟨ψ, a, b, c, d, f, g1, g2, pt, pw⟩ := h
  have e33 : τ.I 33 v = σ.I 33 v := f v (fun w => by rcases w.1.2 with z | z; (omega); (exact z.2))
  rw [e33, v49] at ex
  have k : ∀ c i, ¬ (c = 33 ∧ i = v) → υ.I c i = τ.I c i := fun c i q => by rw [ex]; exact I_ot _ _ _ _ _ _ q
  refine ⟨ψ, a, fun c i q => by rw [k c i (fun z => q (by unfold wsT4; omega))]; exact b c i q, by rw [ex]; exact c, fun u q uw => ?_, fun u q => ?_, fun x x0 x1 => by rw [k _ _ (by omega)]; exact g1 x x0 x1, fun x x0 => by rw [k _ _ (by omega)]; exact g2 x x0, PT_ag pt (fun x _ _ => k _ _ (by omega)) (fun c q => funext fun i => k _ _ (by omega)) (k _ _ (by omega)) (fun x _ _ => k _ _ (by omega)), PW_ag pw (fun x x0 x1 => k _ _ (by omega)) (fun c q => funext fun i => k _ _ (by omega)) (k _ _ (by omega)) (fun x _ _ => k _ _ (by omega))⟩
  · rcases (show u = v ∨ u ≠ v by omega) with z | z
    · rw [z, ex, I_same]
    · rw [k _ _ (by omega)]; exact d u ⟨q.1, Or.inl (by rcases q.2 with y | y; (exact y); (exact absurd y.1 z))⟩ uw
  · rw [k _ _ (fun z => q ⟨⟨by omega, Or.inr ⟨z.2, trivial⟩⟩, by rw [z.2]; exact hw⟩)]
    exact f u (fun w => q ⟨⟨w.1.1, w.1.2.elim Or.inl (fun z => z.2.elim)⟩, w.2⟩)
theorem TA4_k (h : TA4 σ τ n mk v e True) (hP : TAP σ n) (h0 : 0 ≤ v) (h1 : v < σ.I 0 20) (he : σ.I 31 v ≤ e) (he2 : e < σ.I 31 v + σ.I 32 v) (ex : υ = τ.wI 36 e (τ.I 49 (τ.I 36 e))) : TA4 σ υ n mk v (e + 1) True := by
  have hv := hP.2.2.2.2.2.2 v h0 h1
  have t36 := hv.2.2.2.1 (e - σ.I 31 v) (by omega) (by omega)
  have uk := us_k h0 h1 (i := e - σ.I 31 v) (by omega) (by omega)
  rw [show σ.I 31 v + (e - σ.I 31 v) = e by omega] at t36 uk
  have v49 := TA4_49 h t36.1.1 t36.1.2 uk
  have tl := tk_le hP (v := min v (σ.I 0 31)) (w := v) (by have := hP.2.2.2.2.2.1.1; omega) (by omega) (by omega)
  have te : tkAt σ v = σ.I 31 v := by unfold tkAt; rw [if_pos h1]
  obtain ⟨ψ, a, b, c, d, f, g1, g2, pt, pw⟩ := h
  have e36 : τ.I 36 e = σ.I 36 e := g2 e (Int.le_refl _)
  rw [e36, v49] at ex
  have k : ∀ c i, ¬ (c = 36 ∧ i = e) → υ.I c i = τ.I c i := fun c i q => by rw [ex]; exact I_ot _ _ _ _ _ _ q
  refine ⟨ψ, a, fun c i q => by rw [k c i (fun z => q (by unfold wsT4; omega))]; exact b c i q, by rw [ex]; exact c, fun u q uw => by rw [k _ _ (by omega)]; exact d u q uw, fun u q => by rw [k _ _ (by omega)]; exact f u q, fun x x0 x1 => ?_, fun x x0 => by rw [k _ _ (by omega)]; exact g2 x (by omega), PT_ag pt (fun x _ _ => k _ _ (by omega)) (fun c q => funext fun i => k _ _ (by omega)) (k _ _ (by omega)) (fun x _ _ => k _ _ (by omega)), PW_ag pw (fun x x0 x1 => k _ _ (by omega)) (fun c q => funext fun i => k _ _ (by omega)) (k _ _ (by omega)) (fun x _ _ => k _ _ (by omega))⟩
  rcases (show x = e ∨ x < e by omega) with z | z
  · rw [z, ex, I_same]
  · rw [k _ _ (by omega)]; exact g1 x x0 z
theorem TA4_m (h : TA4 σ τ n mk v e True) (hP : TAP σ n) (h0 : 0 ≤ v) (h1 : v < σ.I 0 20) (he : e = σ.I 31 v + σ.I 32 v) (hd : σ.I 0 31 ≤ v) : TA4 σ τ n mk (v + 1) (tkAt σ (v + 1)) False := by
  have te := (hP.2.2.2.2.2.2 v h0 h1).2.1.2.2.2
  obtain ⟨ψ, a, b, c, d, f, g1, g2, pt, pw⟩ := h
  rw [he, te] at g1 g2
  rw [show min v (σ.I 0 31) = min (v + 1) (σ.I 0 31) by omega] at pt pw
  refine ⟨ψ, a, b, c, fun u q uw => d u ⟨q.1, ?_⟩ uw, fun u q => f u (fun w => q ⟨⟨w.1.1, Or.inl ?_⟩, w.2⟩), g1, g2, pt, pw⟩
  · rcases q.2 with z | z
    · rcases (show u < v ∨ u = v by omega) with y | y
      · exact Or.inl y
      · exact Or.inr ⟨y, trivial⟩
    · exact z.2.elim
  · rcases w.1.2 with z | z <;> omega
theorem TA4_l (h : TA4 σ τ n mk v e True) (hP : TAP σ n) (h0 : 0 ≤ v) (h1 : v < σ.I 0 20) (he : e = σ.I 31 v + σ.I 32 v) (hd : v < σ.I 0 31) (er : υ.2 = τ.2) (ef : ∀ c i, ¬ (c = 22 ∨ c = 23 ∨ c = 37 ∨ c = 34) → υ.I c i = τ.I c i) (pt : PT υ (σ.I 31 v + σ.I 32 v)) (pw : PW υ (v + 1)) : TA4 σ υ n mk (v + 1) (tkAt σ (v + 1)) False := by
  have te := (hP.2.2.2.2.2.2 v h0 h1).2.1.2.2.2
  obtain ⟨ψ, a, b, c, d, f, g1, g2, _, _⟩ := h
  rw [he, te] at g1 g2
  refine ⟨ψ, a, fun c i q => by rw [ef c i (fun z => q (by unfold wsT4; omega))]; exact b c i q, er.trans c, fun u q uw => (ef _ _ (by omega)).trans (d u ⟨q.1, ?_⟩ uw), fun u q => (ef _ _ (by omega)).trans (f u (fun w => q ⟨⟨w.1.1, Or.inl ?_⟩, w.2⟩)), fun x x0 x1 => by rw [ef _ _ (by omega)]; exact g1 x x0 x1, fun x x0 => by rw [ef _ _ (by omega)]; exact g2 x x0, by rw [show min (v + 1) (σ.I 0 31) = v + 1 by omega, ← te]; exact pt, by rw [show min (v + 1) (σ.I 0 31) = v + 1 by omega]; exact pw⟩
  · rcases q.2 with z | z
    · rcases (show u < v ∨ u = v by omega) with y | y
      · exact Or.inl y
      · exact Or.inr ⟨y, trivial⟩
    · exact z.2.elim
  · rcases w.1.2 with z | z <;> omega
/-- what linking asks for -/
theorem TA4_p (h : TA4 σ τ n mk v e True) (hP : TAP σ n) (h0 : 0 ≤ v) (h1 : v < σ.I 0 20) (he : e = σ.I 31 v + σ.I 32 v) (hd : v < σ.I 0 31) : PT τ (σ.I 31 v) ∧ PW τ v ∧ (σ.I 16 (σ.I 26 v) = 1 → 0 ≤ τ.I 33 v ∧ τ.I 33 v < τ.I 18 7 ∧ isWt τ (τ.I 33 v)) ∧ TKB τ (σ.I 31 v) (σ.I 31 v + σ.I 32 v) ∧ 0 ≤ τ.I 18 7 ∧ τ.I 18 7 < 36500 := by
  have hv := hP.2.2.2.2.2.2 v h0 h1
  have n1 := hP.1
  have te : tkAt σ v = σ.I 31 v := by unfold tkAt; rw [if_pos h1]
  obtain ⟨ψ, a, b, c, d, f, g1, g2, pt, pw⟩ := h
  rw [show min v (σ.I 0 31) = v by omega] at pt pw
  rw [te] at pt
  have e18 : τ.I 18 7 = tmN σ n := (b 18 7 (by unfold wsT4; omega)).trans a.2.2.1
  have tb := tmN_b (σ := σ) (t := n) n1.1
  have row : ∀ s, 0 ≤ s → s < n → ust σ s → (0 ≤ tmN σ s ∧ tmN σ s < τ.I 18 7) ∧ (isWt τ (tmN σ s) ↔ isWt σ s) := fun s s0 s1 su => by
    have r := (a.2.2.2.1 s s0 s1 su).2
    have l := cn_lt (p := ust σ) s0 s1 su
    have e1 : tmN σ s = cn (ust σ) s := rfl
    have e2 : tmN σ n = cn (ust σ) n := rfl
    refine ⟨⟨r.1.1, by omega⟩, ?_⟩
    unfold isWt
    rw [b 16 _ (by unfold wsT4; omega), b 20 _ (by unfold wsT4; omega), r.2.1, a.1 16 _ (by unfold wsT3; omega)]
  refine ⟨pt, pw, fun hw => ?_, fun k k0 k1 => ?_, by omega, by omega⟩
  · have t33 := hv.2.2.1 hw
    have r := row _ t33.1.1 t33.1.2 (us_w h0 h1 hw)
    rw [d v ⟨h0, Or.inr ⟨rfl, trivial⟩⟩ hw]
    exact ⟨r.1.1, r.1.2, r.2.mpr t33.2⟩
  · have t36 := hv.2.2.2.1 (k - σ.I 31 v) (by omega) (by omega)
    have uk := us_k h0 h1 (i := k - σ.I 31 v) (by omega) (by omega)
    rw [show σ.I 31 v + (k - σ.I 31 v) = k by omega] at t36 uk
    have r := row _ t36.1.1 t36.1.2 uk
    rw [g1 k (by omega) (by omega)]
    exact ⟨r.1.1, r.1.2, fun z => t36.2 (r.2.mp z)⟩
end TA4S

theorem sp_X0_makeTermsAnew {E : XE} {d : Nat} {σ : Sto} {x1 : Int} (hd : 4 ≤ d) (hL : Lay σ)  (p0 : TAP σ x1) : CC E mX0_makeTermsAnew d [aO 0, aI (x1)] σ (RV (fun τ => (TAN σ τ x1 (σ.I 0 32)))) := by sorry
end
section
/-! contracts: printed by tools/mk.py out of s98zzn_layX.py -/
set_option maxRecDepth 100000
set_option maxHeartbeats 1600000
/-! values lie together, plain -/
def ofsX (σ : Sto) (k : Int) : Int := if k < σ.I 0 39 then σ.I 42 k else σ.I 0 31
def LOX (σ : Sto) : Prop := (0 ≤ σ.I 0 39 ∧ σ.I 0 39 ≤ 600) ∧ (0 ≤ σ.I 0 31 ∧ σ.I 0 31 ≤ σ.I 0 20) ∧ ofsX σ 0 = 0 ∧ ∀ k, 0 ≤ k → k < σ.I 0 39 → 0 ≤ σ.I 43 k ∧ σ.I 42 k + σ.I 43 k = ofsX σ (k + 1)
theorem ofs_lt {σ : Sto} {k : Int} (h : k < σ.I 0 39) : ofsX σ k = σ.I 42 k := by unfold ofsX; rw [if_pos h]
theorem ofs_ge {σ : Sto} {k : Int} (h : σ.I 0 39 ≤ k) : ofsX σ k = σ.I 0 31 := by unfold ofsX; rw [if_neg (by omega)]
theorem ofs_mo' {σ : Sto} (h : LOX σ) : ∀ (j : Nat) (k : Int), 0 ≤ k → ofsX σ k ≤ ofsX σ (k + j) := by
  intro j
  induction j with
  | zero => intro k _; rw [show k + ((0 : Nat) : Int) = k by omega]; exact Int.le_refl _
  | succ j ih =>
    intro k k0
    have i2 := ih k k0
    rw [show k + ((j + 1 : Nat) : Int) = k + j + 1 by omega]
    rcases Int.lt_or_le (k + j) (σ.I 0 39) with z | z
    · have w := h.2.2.2 (k + j) (by omega) z
      rw [ofs_lt z] at i2; omega
    · rw [ofs_ge z] at i2; rw [ofs_ge (show σ.I 0 39 ≤ k + j + 1 by omega)]; exact i2
theorem ofs_mo {σ : Sto} (h : LOX σ) {j k : Int} (j0 : 0 ≤ j) (jk : j ≤ k) : ofsX σ j ≤ ofsX σ k := by
  have z := ofs_mo' h (k - j).toNat j j0
  rw [show j + (((k - j).toNat : Nat) : Int) = k by omega] at z
  exact z
theorem ofs_b {σ : Sto} (h : LOX σ) {k : Int} (k0 : 0 ≤ k) : 0 ≤ ofsX σ k ∧ ofsX σ k ≤ σ.I 0 31 := by
  have a := ofs_mo h (Int.le_refl 0) k0
  rw [h.2.2.1] at a
  rcases Int.lt_or_le k (σ.I 0 39) with z | z
  · have b := ofs_mo h k0 (show k ≤ σ.I 0 39 by omega)
    rw [ofs_ge (Int.le_refl _)] at b; exact ⟨a, b⟩
  · rw [ofs_ge z] at a ⊢; omega
theorem kp_h {σ : Sto} (h : LOX σ) {k v : Int} (k0 : 0 ≤ k) (k1 : k < σ.I 0 39) (hv : σ.I 42 k ≤ v) (hv2 : v < ofsX σ (k + 1)) : kpX σ v ↔ σ.I 47 k ≠ 0 := by
  have w := h.2.2.2 k k0 k1
  constructor
  · rintro (⟨j, j0, j1, j2, j3, j4⟩ | q)
    · have wj := h.2.2.2 j j0 j1
      rcases (show j < k ∨ j = k ∨ k < j by omega) with z | z | z
      · have m := ofs_mo h (j := j + 1) (k := k) (by omega) (by omega)
        rw [ofs_lt k1] at m; omega
      · rw [← z]; exact j2
      · have m := ofs_mo h (j := k + 1) (k := j) (by omega) (by omega)
        rw [ofs_lt j1] at m; omega
    · have m := ofs_b h (k := k + 1) (by omega); omega
  · intro q; exact Or.inl ⟨k, k0, k1, q, hv, by omega⟩
def wsLy (c : Nat) (i : Int) : Prop := (26 ≤ c ∧ c ≤ 36 ∧ c ≠ 34) ∨ (38 ≤ c ∧ c ≤ 43) ∨ c = 49 ∨ (c = 0 ∧ (i = 20 ∨ i = 22 ∨ i = 29 ∨ i = 30 ∨ i = 31))
def PK1 (σ τ : Sto) (n : Int) : Prop := (∀ c i, c ≠ 49 → τ.I c i = σ.I c i) ∧ τ.2 = σ.2 ∧ ∀ t, 0 ≤ t → t < n → τ.I 49 t = -1
/-- objects below k have their new rows -/
def PKF (σ τ : Sto) (k : Int) : Prop := (∀ c i, ¬ wsLy c i → τ.I c i = σ.I c i) ∧ τ.2 = σ.2 ∧ (∀ j, 0 ≤ j → j < k → τ.I 42 j = nX σ (σ.I 42 j) ∧ τ.I 43 j = if σ.I 47 j ≠ 0 then σ.I 43 j else 0) ∧ (∀ j, k ≤ j → τ.I 42 j = σ.I 42 j ∧ τ.I 43 j = σ.I 43 j) ∧ ∀ t, 0 ≤ t → t < σ.I 18 7 → τ.I 49 t = -1
/-- all lies together; terms are old -/
def PKX (σ τ : Sto) : Prop := MVA σ τ (σ.I 0 20) ∧ PKF σ τ (σ.I 0 39) ∧ τ.I 0 31 = nX σ (σ.I 0 31)
theorem PKF_e {σ τ υ : Sto} {k : Int} (h : PKF σ τ k) (e : ∀ c i, ¬ (wsLy c i ∧ c ≠ 42 ∧ c ≠ 43 ∧ c ≠ 49) → υ.I c i = τ.I c i) (er : υ.2 = τ.2) : PKF σ υ k := by
  obtain ⟨a, b, c, d, f⟩ := h
  exact ⟨fun c i q => by rw [e c i (fun z => q z.1)]; exact a c i q, er.trans b, fun j j0 j1 => by rw [e _ _ (by omega), e _ _ (by omega)]; exact c j j0 j1, fun j j0 => by rw [e _ _ (by omega), e _ _ (by omega)]; exact d j j0, fun t t0 t1 => by rw [e _ _ (by omega)]; exact f t t0 t1⟩
theorem PKF_0 {σ τ s1 s2 s3 υ : Sto} {n : Int} (h : PK1 σ τ n) (hn : n = σ.I 18 7) (e1 : s1 = τ.wI 0 20 0) (e2 : s2 = s1.wI 0 22 0) (e3 : s3 = s2.wI 0 29 0) (e4 : υ = s3.wI 0 30 0) : MVA σ υ 0 ∧ PKF σ υ 0 := by
  obtain ⟨a, b, c⟩ := h
  have f : ∀ c i, ¬ (c = 0 ∧ (i = 20 ∨ i = 22 ∨ i = 29 ∨ i = 30)) → υ.I c i = τ.I c i := fun c i q => by rw [e4, I_ot _ _ _ _ _ _ (by omega), e3, I_ot _ _ _ _ _ _ (by omega), e2, I_ot _ _ _ _ _ _ (by omega), e1, I_ot _ _ _ _ _ _ (by omega)]
  refine ⟨MVA_0 ⟨?_, ?_, ?_, ?_⟩ (fun c i q => by rw [f _ _ (by omega)]; exact a c i (by omega)), fun c i q => ?_, by rw [e4, e3, e2, e1]; exact b, fun j j0 j1 => by omega, fun j j0 => by rw [f _ _ (by omega), f _ _ (by omega)]; exact ⟨a _ _ (by decide), a _ _ (by decide)⟩, fun t t0 t1 => by rw [f _ _ (by omega)]; exact c t t0 (by omega)⟩
  · rw [e4, I_nj _ _ _ _ (by decide), e3, I_nj _ _ _ _ (by decide), e2, I_nj _ _ _ _ (by decide), e1, I_same]
  · rw [e4, I_nj _ _ _ _ (by decide), e3, I_nj _ _ _ _ (by decide), e2, I_same]
  · rw [e4, I_nj _ _ _ _ (by decide), e3, I_same]
  · rw [e4, I_same]
  · rw [f c i (fun z => q (by unfold wsLy; omega))]; exact a c i (fun z => q (by unfold wsLy; omega))
/-- an object's row -/
theorem PKF_k {σ τ υ ψ : Sto} {k : Int} (h : PKF σ τ k) (hM : MVA σ τ (σ.I 42 k)) (k0 : 0 ≤ k) (e1 : υ = τ.wI 42 k (τ.I 0 20)) (e2 : (σ.I 47 k ≠ 0 ∧ ψ = υ) ∨ (σ.I 47 k = 0 ∧ ψ = υ.wI 43 k 0)) : MVA σ ψ (σ.I 42 k) ∧ PKF σ ψ (k + 1) := by
  have n := hM.2.2.2.2.1
  rw [n] at e1
  obtain ⟨a, b, c, d, f⟩ := h
  have g : ∀ c i, ¬ ((c = 42 ∨ c = 43) ∧ i = k) → ψ.I c i = τ.I c i := fun c i q => by
    rcases e2 with ⟨_, e2⟩ | ⟨_, e2⟩
    · rw [e2, e1, I_ot _ _ _ _ _ _ (fun z => q ⟨by omega, z.2⟩)]
    · rw [e2, I_ot _ _ _ _ _ _ (fun z => q ⟨by omega, z.2⟩), e1, I_ot _ _ _ _ _ _ (fun z => q ⟨by omega, z.2⟩)]
  have g42 : ψ.I 42 k = nX σ (σ.I 42 k) := by
    rcases e2 with ⟨_, e2⟩ | ⟨_, e2⟩
    · rw [e2, e1, I_same]
    · rw [e2, I_ne _ _ _ _ (by decide), e1, I_same]
  have g43 : ψ.I 43 k = if σ.I 47 k ≠ 0 then σ.I 43 k else 0 := by
    rcases e2 with ⟨q, e2⟩ | ⟨q, e2⟩
    · rw [if_pos q, e2, e1, I_ne _ _ _ _ (by decide)]; exact (d k (Int.le_refl _)).2
    · rw [if_neg (fun z => z q), e2, I_same]
  refine ⟨MVA_e hM (fun c i q => g c i (by omega)), fun c i q => by rw [g c i (fun z => q (by unfold wsLy; omega))]; exact a c i q, by rcases e2 with ⟨_, e2⟩ | ⟨_, e2⟩ <;> rw [e2, e1] <;> exact b, fun j j0 j1 => ?_, fun j j0 => by rw [g _ _ (by omega), g _ _ (by omega)]; exact d j (by omega), fun t t0 t1 => by rw [g _ _ (by omega)]; exact f t t0 t1⟩
  rcases (show j = k ∨ j < k by omega) with z | z
  · rw [z]; exact ⟨g42, g43⟩
  · rw [g _ _ (by omega), g _ _ (by omega)]; exact c j j0 z
theorem PKF_m {σ τ υ : Sto} {k v : Int} (h : PKF σ τ k) (hm : MVR τ υ v) : PKF σ υ k := by
  obtain ⟨⟨r1, r2, r3⟩, e⟩ := hm.2.2.2.2.2.2.2
  exact PKF_e h (fun c i q => e c i (fun z => q (by unfold wsMv at z; unfold wsLy; omega))) (Prod.ext r1 (Prod.ext r2 r3))
theorem MVA_m {σ τ υ : Sto} {k v : Int} (h : MVA σ τ v) (hF : PKF σ τ k) (hB : BOX σ) (h0 : 0 ≤ v) (h1 : v < σ.I 0 20) (hk : kpX σ v) (hm : MVR τ υ v) : MVA σ υ (v + 1) := MVA_s h hB h0 h1 hk hm (fun i => hF.1 16 i (by unfold wsLy; omega))
/-- from an object's end to the next one -/
theorem MVA_j {σ τ : Sto} {k v : Int} (h : MVA σ τ v) (hLo : LOX σ) (k0 : 0 ≤ k) (k1 : k < σ.I 0 39) (hv : σ.I 42 k ≤ v) (hx : (σ.I 47 k ≠ 0 → σ.I 42 k + σ.I 43 k ≤ v) ) (hu : v ≤ σ.I 42 k + σ.I 43 k) : MVA σ τ (ofsX σ (k + 1)) := by
  have w := hLo.2.2.2 k k0 k1
  have o := ofs_b hLo (k := k) k0
  rw [ofs_lt k1] at o
  refine MVA_n h (by omega) (by omega) (fun u a b => ?_)
  rw [kp_h hLo k0 k1 (by omega) b]
  intro q
  have := hx q
  omega
/-- what lying together rests on -/
def LAP (σ : Sto) : Prop := BOX σ ∧ LOX σ ∧ (0 ≤ σ.I 18 7 ∧ σ.I 18 7 ≤ 36499) ∧ TU σ ∧ bd_0_20 σ 21 36500 ∧ bd_0_12 σ 20 36500 ∧ (0 ≤ σ.I 0 32 ∧ σ.I 0 32 ≤ 36500) ∧ ∀ v, 0 ≤ v → v < σ.I 0 20 → (σ.I 16 (σ.I 26 v) = 1 → (0 ≤ σ.I 33 v ∧ σ.I 33 v < σ.I 18 7) ∧ isWt σ (σ.I 33 v)) ∧ (∀ i, 0 ≤ i → i < σ.I 32 v → (0 ≤ σ.I 36 (σ.I 31 v + i) ∧ σ.I 36 (σ.I 31 v + i) < σ.I 18 7) ∧ ¬ isWt σ (σ.I 36 (σ.I 31 v + i)))
theorem cn_on {p : Int → Prop} {j : Int} (j0 : 0 ≤ j) : ∀ n : Nat, j < cn p n → ∃ s, (0 ≤ s ∧ s < (n : Int)) ∧ p s ∧ cn p s = j := by
  intro n
  induction n with
  | zero => intro h; rw [cn_0 _ _ (show ((0 : Nat) : Int) ≤ 0 by omega)] at h; omega
  | succ n ih =>
    intro h
    rw [cn_s p n ((n + 1 : Nat) : Int) (by omega) (by omega)] at h
    rcases zb_cs (p n) with ⟨z, y⟩ | ⟨z, y⟩
    · rw [y] at h
      rcases Int.lt_or_le j (cn p n) with w | w
      · obtain ⟨s, a, b, c⟩ := ih w
        exact ⟨s, ⟨a.1, by omega⟩, b, c⟩
      · exact ⟨n, ⟨by omega, by omega⟩, z, by omega⟩
    · rw [y] at h
      obtain ⟨s, a, b, c⟩ := ih (by omega)
      exact ⟨s, ⟨a.1, by omega⟩, b, c⟩
theorem nX_on {σ : Sto} {j n : Int} (n0 : 0 ≤ n) (j0 : 0 ≤ j) (h : j < nX σ n) : ∃ s, (0 ≤ s ∧ s < n) ∧ kpX σ s ∧ nX σ s = j := by
  have z := cn_on (p := kpX σ) j0 n.toNat (by rw [show ((n.toNat : Nat) : Int) = n by omega]; exact h)
  rw [show ((n.toNat : Nat) : Int) = n by omega] at z
  exact z
/-- between two kept neighbours there is nothing -/
theorem nX_gap {σ : Sto} {a b : Int} (a0 : 0 ≤ a) (h : nX σ a = nX σ b) : ∀ k, a ≤ k → k < b → ¬ kpX σ k := by
  intro k k0 k1 z
  have l := cn_lt (p := kpX σ) (u := k) (v := b) (by omega) k1 z
  have m := cn_mo (p := kpX σ) (a := a) (b := k) a0 k0
  have e1 : nX σ a = cn (kpX σ) a := rfl
  have e2 : nX σ b = cn (kpX σ) b := rfl
  omega
theorem PKX_tk {σ τ : Sto} {u n : Int} (h : MVA σ τ n) (u0 : 0 ≤ u) (u1 : u ≤ n) : tkAt τ (nX σ u) = sTX σ u := by
  have e20 := h.2.2.2.2.1
  have e29 := h.2.2.2.2.2.2.1
  unfold tkAt
  have m := cn_mo (p := kpX σ) (a := u) (b := n) u0 u1
  have e1 : nX σ u = cn (kpX σ) u := rfl
  have e2 : nX σ n = cn (kpX σ) n := rfl
  have cb := cn_in (kpX σ) u
  by_cases z : nX σ u < τ.I 0 20
  · rw [if_pos z]
    rw [e20] at z
    obtain ⟨s, s0, sk, s1⟩ := nX_on (by omega) (by omega) z
    rw [← s1, (h.1 s s0.1 s0.2 sk).2.2.1]
    rcases (show s < u ∨ u ≤ s by omega) with y | y
    · have := cn_lt (p := kpX σ) (u := s) (v := u) s0.1 y sk
      have e3 : nX σ s = cn (kpX σ) s := rfl
      omega
    · exact smP_ex u0 y (nX_gap u0 s1.symm)
  · rw [if_neg z, e29]
    exact smP_ex u0 u1 (nX_gap u0 (by rw [e20] at z; omega))
theorem PKX_TAP {σ τ : Sto} (h : PKX σ τ) (hP : LAP σ) : TAP τ (σ.I 18 7) := by
  obtain ⟨hB, hLo, h18, hTU, b21, b20, h32, hv⟩ := hP
  obtain ⟨hM, hF, h31⟩ := h
  have f : ∀ c i, ¬ wsLy c i → τ.I c i = σ.I c i := hF.1
  have bN := MVA_b (v := σ.I 0 20) hB hB.1.1 (Int.le_refl _)
  have e20 := hM.2.2.2.2.1
  have eT : ∀ c, 18 ≤ c → c ≤ 21 → τ.I c = σ.I c := fun c x y => funext fun i => f c i (by unfold wsLy; omega)
  have m31 := cn_mo (p := kpX σ) (a := σ.I 0 31) (b := σ.I 0 20) hLo.2.1.1 hLo.2.1.2
  have c31 := cn_in (kpX σ) (σ.I 0 31)
  have x1 : nX σ (σ.I 0 31) = cn (kpX σ) (σ.I 0 31) := rfl
  have x2 : nX σ (σ.I 0 20) = cn (kpX σ) (σ.I 0 20) := rfl
  have hB1 := hB.1
  have z0 : nX σ 0 = 0 := cn_0 _ _ (Int.le_refl _)
  have ew : ∀ s, isWt τ s ↔ isWt σ s := fun s => by unfold isWt; rw [f 20 s (by unfold wsLy; omega), f 16 _ (by unfold wsLy; omega)]
  refine ⟨⟨h18.1, h18.2, (f _ _ (by unfold wsLy; omega)).symm⟩, TU_eq hTU eT, bd_0_20_eq b21 (eT 21 (by omega) (by omega)), bd_0_12_eq b20 (eT 20 (by omega) (by omega)), hF.2.2.2.2, ⟨⟨by omega, by omega, by omega⟩, ?_, by rw [f 0 32 (by unfold wsLy; omega)]; exact h32⟩, fun v v0 v1 => ?_⟩
  · have := PKX_tk (u := 0) hM (Int.le_refl _) hB1.1
    rw [z0] at this; rw [this]; exact smP_0 _ _ _ (Int.le_refl _)
  · rw [e20] at v1
    obtain ⟨s, s0, sk, rfl⟩ := nX_on hB1.1 v0 v1
    obtain ⟨k1, k2, k3, k4, k5, k6⟩ := hM.1 s s0.1 s0.2 sk
    have hs := hB.2.1 s s0.1 s0.2
    have ws := hv s s0.1 s0.2
    have n1 : nX σ (s + 1) = nX σ s + 1 := by unfold nX; rw [cn_s _ s (s + 1) s0.1 rfl, zb_t sk]
    have s3 : sTX σ (s + 1) = sTX σ s + σ.I 32 s := smP_t _ _ s (s + 1) s0.1 rfl sk
    have tk := PKX_tk (u := s + 1) hM (by omega) (by omega)
    rw [n1] at tk
    have bs := MVA_b (v := s) hB s0.1 (by omega)
    rw [k1 26 (by omega), k1 27 (by omega), k1 32 (by omega), k1 33 (by omega), k3, f 16 _ (by unfold wsLy; omega), tk, s3]
    refine ⟨hs.2.2.2.1, ⟨bs.2.2.1.1, hs.2.2.1.1, by omega, rfl⟩, fun q => ?_, fun i i0 i1 => ?_, fun _ => hs.2.2.2.2⟩
    · have w := ws.1 q
      exact ⟨w.1, (ew _).mpr w.2⟩
    · rw [k5 36 i (by omega) i0 i1]
      have w := ws.2 i i0 i1
      exact ⟨w.1, fun z => w.2 ((ew _).mp z)⟩
/-- what lying together leaves -/
def LAYR (σ τ : Sto) : Prop := ∃ ψ, PKX σ ψ ∧ TAN ψ τ (σ.I 18 7) (σ.I 0 32)

theorem sp_X0_layTogether {E : XE} {d : Nat} {σ : Sto}  (hd : 5 ≤ d) (hL : Lay σ)  (p0 : LAP σ) : CC E mX0_layTogether d [aO 0] σ (RV (fun τ => (LAYR σ τ))) := by sorry
end
section
/-! contracts: printed by tools/mk.py out of s98zzo_swpX.py -/
set_option maxRecDepth 100000
set_option maxHeartbeats 1600000
/-! sweep and crash: the program -/
def ndS (σ : Sto) (k : Int) : Prop := ndd (σ.I 47) (σ.I 45) (σ.I 46) (σ.I 48) (σ.I 0 40) (σ.I 0 42) k
def drX (σ : Sto) (k : Int) : Prop := σ.I 47 k ≠ 0 ∧ ¬ ndS σ k
def SWQ (σ τ : Sto) (n : Int) : Prop := (∀ c i, c ≠ 47 → τ.I c i = σ.I c i) ∧ τ.2 = σ.2 ∧ (∀ k, (0 ≤ k ∧ k < n) → drX σ k → τ.I 47 k = 0) ∧ ∀ k, ¬ ((0 ≤ k ∧ k < n) ∧ drX σ k) → τ.I 47 k = σ.I 47 k
theorem SWQ_nd {σ τ : Sto} {n : Int} (h : SWQ σ τ n) : ndd (τ.I 47) (τ.I 45) (τ.I 46) (τ.I 48) (τ.I 0 40) (τ.I 0 42) n ↔ ndS σ n := by
  have e : ∀ c, c ≠ 47 → τ.I c = σ.I c := fun c q => funext fun i => h.1 c i q
  have e7 : τ.I 47 n = σ.I 47 n := h.2.2.2 n (fun z => by omega)
  unfold ndS ndd inV
  rw [e 45 (by decide), e 46 (by decide), e 48 (by decide), e 0 (by decide), e7]
theorem SWQ_n {σ τ : Sto} {n : Int} (h : SWQ σ τ n) (hn : ¬ drX σ n) : SWQ σ τ (n + 1) := by
  obtain ⟨a, b, c, d⟩ := h
  refine ⟨a, b, fun k k0 kd => ?_, fun k kd => d k (fun z => kd ⟨⟨z.1.1, by omega⟩, z.2⟩)⟩
  rcases (show k < n ∨ k = n by omega) with z | z
  · exact c k ⟨k0.1, z⟩ kd
  · rw [z] at kd; contradiction
theorem SWQ_y {σ τ υ : Sto} {n : Int} (h : SWQ σ τ n) (h0 : 0 ≤ n) (hn : drX σ n) (e : υ = τ.wI 47 n 0) : SWQ σ υ (n + 1) := by
  obtain ⟨a, b, c, d⟩ := h
  refine ⟨fun c i q => by rw [e, I_ne _ _ _ _ q]; exact a c i q, by rw [e]; exact b, fun k k0 kd => ?_, fun k kd => ?_⟩
  · rw [e]
    rcases (show k < n ∨ k = n by omega) with z | z
    · rw [I_nj _ _ _ _ (by omega)]; exact c k ⟨k0.1, z⟩ kd
    · rw [z, I_same]
  · rw [e, I_nj _ _ _ _ (fun z => kd ⟨by omega, by rw [z]; exact hn⟩)]; exact d k (fun z => kd ⟨⟨z.1.1, by omega⟩, z.2⟩)
theorem LAP_e {σ τ : Sto} (h : LAP σ) (e : ∀ c, ¬ (45 ≤ c ∧ c ≤ 48) → τ.I c = σ.I c) : LAP τ := by
  obtain ⟨hB, hLo, h18, hTU, b21, b20, h32, hv⟩ := h
  refine ⟨?_, ?_, by rw [e 18 (by omega)]; exact h18, TU_eq hTU (fun c a b => e c (by omega)), bd_0_20_eq b21 (e 21 (by omega)), bd_0_12_eq b20 (e 20 (by omega)), by rw [e 0 (by omega)]; exact h32, ?_⟩
  · unfold BOX; rw [e 0 (by omega), e 28 (by omega), e 29 (by omega), e 31 (by omega), e 32 (by omega), e 26 (by omega), e 27 (by omega), e 39 (by omega), e 40 (by omega), e 41 (by omega)]; exact hB
  · unfold LOX ofsX; rw [e 0 (by omega), e 42 (by omega), e 43 (by omega)]; exact hLo
  · unfold isWt; rw [e 0 (by omega), e 16 (by omega), e 26 (by omega), e 33 (by omega), e 18 (by omega), e 20 (by omega), e 31 (by omega), e 32 (by omega), e 36 (by omega)]; exact hv
theorem SWQ_L {σ τ : Sto} {n : Int} (h : SWQ σ τ n) (hP : LAP σ) : LAP τ := LAP_e hP (fun c q => funext fun i => h.1 c i (by omega))
/-- what a sweep leaves -/
def SWR (σ τ : Sto) : Prop := ∃ ψ, SWQ σ ψ (σ.I 0 39) ∧ ((cn (drX σ) (σ.I 0 39) ≤ 0 ∧ RD ψ τ (fun c i => if fgX c i then 0 else ψ.I c i)) ∨ (0 < cn (drX σ) (σ.I 0 39) ∧ ∃ ρ, LAYR ψ ρ ∧ RD ρ τ (fun c i => if fgX c i then 0 else ρ.I c i)))
/-- a draft is dropped -/
def DIX (σ τ : Sto) : Prop := RD σ τ (fun c i => if at2 c i 0 30 then σ.I 0 30 - cn (fun j => isWv σ (σ.I 0 31 + j)) (σ.I 0 20 - σ.I 0 31) else if at2 c i 18 7 then (if σ.I 0 32 < σ.I 18 7 then σ.I 0 32 else σ.I 18 7) else if rg c i 25 0 8192 then ls (fun t => hT σ t = i) (if σ.I 0 32 < σ.I 18 7 then σ.I 0 32 else σ.I 18 7) else if σ.I 0 31 < σ.I 0 20 then (if at2 c i 0 22 then σ.I 28 (σ.I 0 31) else if at2 c i 0 29 then σ.I 31 (σ.I 0 31) else if at2 c i 0 20 then σ.I 0 31 else σ.I c i) else σ.I c i)
/-- terms of values that are in come before the draft's -/
def DTX (σ : Sto) : Prop := σ.I 0 32 ≤ σ.I 18 7 ∧ ∀ v, 0 ≤ v → v < σ.I 0 31 → (σ.I 16 (σ.I 26 v) = 1 → σ.I 33 v < σ.I 0 32) ∧ ∀ i, 0 ≤ i → i < σ.I 32 v → σ.I 36 (σ.I 31 v + i) < σ.I 0 32
theorem DIX_f {σ τ : Sto} (h : DIX σ τ) {c : Nat} {i : Int} (q : ¬ (c = 0 ∧ (i = 20 ∨ i = 22 ∨ i = 29 ∨ i = 30)) ∧ ¬ (c = 18 ∧ i = 7) ∧ c ≠ 25) : τ.I c i = σ.I c i := by
  have e := congrFun (congrFun h.2 c) i
  refine e.trans ?_
  show (if _ then _ else _) = _
  rw [if_neg (fun z => q.1 ⟨z.1, Or.inr (Or.inr (Or.inr z.2))⟩), if_neg (fun z => q.2.1 z), if_neg (fun z => q.2.2 z.1)]
  by_cases y : σ.I 0 31 < σ.I 0 20
  · rw [if_pos y, if_neg (fun z => q.1 ⟨z.1, Or.inr (Or.inl z.2)⟩), if_neg (fun z => q.1 ⟨z.1, Or.inr (Or.inr (Or.inl z.2))⟩), if_neg (fun z => q.1 ⟨z.1, Or.inl z.2⟩)]
  · rw [if_neg y]
theorem DIX_n {σ τ : Sto} (h : DIX σ τ) (hl : σ.I 0 31 ≤ σ.I 0 20) : τ.I 0 20 = σ.I 0 31 ∧ τ.I 18 7 = (if σ.I 0 32 < σ.I 18 7 then σ.I 0 32 else σ.I 18 7) := by
  constructor
  · refine (congrFun (congrFun h.2 0) 20).trans ?_
    show (if _ then _ else _) = _
    rw [if_neg (fun z => absurd z.2 (by decide)), if_neg (fun z => absurd z.1 (by decide)), if_neg (fun z => absurd z.1 (by decide))]
    by_cases y : σ.I 0 31 < σ.I 0 20
    · rw [if_pos y, if_neg (fun z => absurd z.2 (by decide)), if_neg (fun z => absurd z.2 (by decide)), if_pos ⟨rfl, rfl⟩]
    · rw [if_neg y]; omega
  · refine (congrFun (congrFun h.2 18) 7).trans ?_
    show (if _ then _ else _) = _
    rw [if_neg (fun z => absurd z.1 (by decide)), if_pos ⟨rfl, rfl⟩]
theorem DIX_L {σ τ : Sto} (h : DIX σ τ) (hP : LAP σ) (hD : DTX σ) : LAP τ := by
  obtain ⟨hB, hLo, h18, hTU, b21, b20, h32, hv⟩ := hP
  have n := DIX_n h hLo.2.1.2
  have n2 : τ.I 18 7 = σ.I 0 32 := by rw [n.2]; have := hD.1; by_cases z : σ.I 0 32 < σ.I 18 7; (rw [if_pos z]); (rw [if_neg z]; omega)
  have e : ∀ c, c ≠ 0 → c ≠ 18 → c ≠ 25 → τ.I c = σ.I c := fun c x y z => funext fun i => DIX_f h ⟨fun w => x w.1, fun w => y w.1, z⟩
  have l20 := hLo.2.1.2
  have ew : ∀ s, isWt τ s ↔ isWt σ s := fun s => by unfold isWt; rw [e 20 (by decide) (by decide) (by decide), e 16 (by decide) (by decide) (by decide)]
  refine ⟨?_, ?_, by rw [n2]; have := hD.1; omega, ?_, bd_0_20_eq b21 (e 21 (by decide) (by decide) (by decide)), bd_0_12_eq b20 (e 20 (by decide) (by decide) (by decide)), by rw [DIX_f h (c := 0) (i := 32) (by omega)]; exact h32, fun v v0 v1 => ?_⟩
  · unfold BOX
    rw [n.1, e 28 (by decide) (by decide) (by decide), e 29 (by decide) (by decide) (by decide), e 31 (by decide) (by decide) (by decide), e 32 (by decide) (by decide) (by decide), e 26 (by decide) (by decide) (by decide), e 27 (by decide) (by decide) (by decide), e 39 (by decide) (by decide) (by decide), e 40 (by decide) (by decide) (by decide), e 41 (by decide) (by decide) (by decide)]
    exact ⟨⟨hLo.2.1.1, by have := hB.1; omega⟩, fun v a b => hB.2.1 v a (by omega), hB.2.2⟩
  · unfold LOX ofsX
    rw [n.1, DIX_f h (c := 0) (i := 39) (by omega), DIX_f h (c := 0) (i := 31) (by omega), e 42 (by decide) (by decide) (by decide), e 43 (by decide) (by decide) (by decide)]
    exact ⟨hLo.1, ⟨hLo.2.1.1, Int.le_refl _⟩, hLo.2.2⟩
  · intro s t s0 st t1
    rw [n2] at t1
    rw [e 19 (by decide) (by decide) (by decide), e 20 (by decide) (by decide) (by decide), e 21 (by decide) (by decide) (by decide)]
    exact hTU s t s0 st (by have := hD.1; omega)
  · rw [n.1] at v1
    have w := hv v v0 (by omega)
    have d := hD.2 v v0 v1
    rw [n2, e 16 (by decide) (by decide) (by decide), e 26 (by decide) (by decide) (by decide), e 33 (by decide) (by decide) (by decide), e 31 (by decide) (by decide) (by decide), e 32 (by decide) (by decide) (by decide), e 36 (by decide) (by decide) (by decide)]
    exact ⟨fun q => ⟨⟨(w.1 q).1.1, d.1 q⟩, (ew _).mpr (w.1 q).2⟩, fun i i0 i1 => ⟨⟨(w.2 i i0 i1).1.1, d.2 i i0 i1⟩, fun z => (w.2 i i0 i1).2 ((ew _).mp z)⟩⟩
/-- objects that came after the commit are not held; those that went are back -/
def CR1 (σ τ : Sto) (n p : Int) : Prop := (∀ c i, c ≠ 46 → c ≠ 47 → c ≠ 48 → τ.I c i = σ.I c i) ∧ τ.2 = σ.2 ∧ (∀ k, τ.I 47 k = if (0 ≤ k ∧ k < n) ∧ σ.I 0 42 < σ.I 45 k then 0 else σ.I 47 k) ∧ (∀ k, τ.I 46 k = if (0 ≤ k ∧ k < n) ∧ σ.I 0 42 < σ.I 46 k then 2147483647 else σ.I 46 k) ∧ ∀ k, τ.I 48 k = if (0 ≤ k ∧ k < p) ∧ σ.I 0 42 < σ.I 48 k then -1 else σ.I 48 k
theorem CR1_s {σ τ υ : Sto} {n p : Int} (h : CR1 σ τ n p) (h0 : 0 ≤ n) (e : ∀ c i, ¬ ((c = 46 ∨ c = 47) ∧ i = n) → υ.I c i = τ.I c i) (e7 : υ.I 47 n = if σ.I 0 42 < σ.I 45 n then 0 else σ.I 47 n) (e6 : υ.I 46 n = if σ.I 0 42 < σ.I 46 n then 2147483647 else σ.I 46 n) (er : υ.2 = τ.2) : CR1 σ υ (n + 1) p := by
  obtain ⟨a, b, c, d, f⟩ := h
  refine ⟨fun c i x y z => by rw [e c i (by omega)]; exact a c i x y z, er.trans b, fun k => ?_, fun k => ?_, fun k => by rw [e _ _ (by omega)]; exact f k⟩
  · rcases (show k = n ∨ k ≠ n by omega) with z | z
    · rw [z, e7]
      by_cases y : σ.I 0 42 < σ.I 45 n
      · rw [if_pos y, if_pos ⟨by omega, y⟩]
      · rw [if_neg y, if_neg (fun w => y w.2)]
    · rw [e _ _ (by omega), c k]
      by_cases y : (0 ≤ k ∧ k < n) ∧ σ.I 0 42 < σ.I 45 k
      · rw [if_pos y, if_pos ⟨by omega, y.2⟩]
      · rw [if_neg y, if_neg (fun w => y ⟨by omega, w.2⟩)]
  · rcases (show k = n ∨ k ≠ n by omega) with z | z
    · rw [z, e6]
      by_cases y : σ.I 0 42 < σ.I 46 n
      · rw [if_pos y, if_pos ⟨by omega, y⟩]
      · rw [if_neg y, if_neg (fun w => y w.2)]
    · rw [e _ _ (by omega), d k]
      by_cases y : (0 ≤ k ∧ k < n) ∧ σ.I 0 42 < σ.I 46 k
      · rw [if_pos y, if_pos ⟨by omega, y.2⟩]
      · rw [if_neg y, if_neg (fun w => y ⟨by omega, w.2⟩)]
theorem CR1_p {σ τ υ : Sto} {n p : Int} (h : CR1 σ τ n p) (h0 : 0 ≤ p) (e : ∀ c i, ¬ (c = 48 ∧ i = p) → υ.I c i = τ.I c i) (e7 : υ.I 48 p = if σ.I 0 42 < σ.I 48 p then -1 else σ.I 48 p) (er : υ.2 = τ.2) : CR1 σ υ n (p + 1) := by
  obtain ⟨a, b, c, d, f⟩ := h
  refine ⟨fun c i x y z => by rw [e c i (by omega)]; exact a c i x y z, er.trans b, fun k => by rw [e _ _ (by omega)]; exact c k, fun k => by rw [e _ _ (by omega)]; exact d k, fun k => ?_⟩
  rcases (show k = p ∨ k ≠ p by omega) with z | z
  · rw [z, e7]
    by_cases y : σ.I 0 42 < σ.I 48 p
    · rw [if_pos y, if_pos ⟨by omega, y⟩]
    · rw [if_neg y, if_neg (fun w => y w.2)]
  · rw [e _ _ (by omega), f k]
    by_cases y : (0 ≤ k ∧ k < p) ∧ σ.I 0 42 < σ.I 48 k
    · rw [if_pos y, if_pos ⟨by omega, y.2⟩]
    · rw [if_neg y, if_neg (fun w => y ⟨by omega, w.2⟩)]
theorem CR1_0 (σ : Sto) : CR1 σ σ 0 0 := ⟨fun _ _ _ _ _ => rfl, rfl, fun k => by rw [if_neg (by omega)], fun k => by rw [if_neg (by omega)], fun k => by rw [if_neg (by omega)]⟩
theorem CR1_f {σ τ : Sto} {n p k : Int} (h : CR1 σ τ n p) : (n ≤ k → τ.I 47 k = σ.I 47 k ∧ τ.I 46 k = σ.I 46 k) ∧ (p ≤ k → τ.I 48 k = σ.I 48 k) ∧ τ.I 45 k = σ.I 45 k ∧ τ.I 0 42 = σ.I 0 42 ∧ τ.I 0 39 = σ.I 0 39 := by
  obtain ⟨a, b, c, d, f⟩ := h
  exact ⟨fun z => ⟨by rw [c, if_neg (by omega)], by rw [d, if_neg (by omega)]⟩, fun z => by rw [f, if_neg (by omega)], a _ _ (by decide) (by decide) (by decide), a _ _ (by decide) (by decide) (by decide), a _ _ (by decide) (by decide) (by decide)⟩
theorem CR1_L {σ τ : Sto} {n p : Int} (h : CR1 σ τ n p) (hP : LAP σ) : LAP τ := LAP_e hP (fun c q => funext fun i => h.1 c i (by omega) (by omega) (by omega))
/-- where a crash's packing begins -/
def CRX (σ τ : Sto) (n p : Int) : Prop := ∃ δ, DIX σ δ ∧ CR1 δ τ n p
/-- what a crash leaves -/
def CRR (σ τ : Sto) : Prop := ∃ γ ρ, CRX σ γ (σ.I 0 39) 4 ∧ LAYR γ ρ ∧ RD (ρ.wI 0 40 (ρ.I 0 42)) τ (fun c i => if fgX c i then 0 else (ρ.wI 0 40 (ρ.I 0 42)).I c i)
theorem CRX_f {σ τ : Sto} {n p k : Int} (h : CRX σ τ n p) : (n ≤ k → τ.I 47 k = σ.I 47 k ∧ τ.I 46 k = σ.I 46 k) ∧ (p ≤ k → τ.I 48 k = σ.I 48 k) ∧ τ.I 45 k = σ.I 45 k ∧ τ.I 0 42 = σ.I 0 42 ∧ τ.I 0 39 = σ.I 0 39 := by
  obtain ⟨δ, a, b⟩ := h
  have z := CR1_f (k := k) b
  rw [DIX_f a (c := 47) (by omega), DIX_f a (c := 46) (by omega), DIX_f a (c := 48) (by omega), DIX_f a (c := 45) (by omega), DIX_f a (c := 0) (i := 42) (by omega), DIX_f a (c := 0) (i := 39) (by omega)] at z
  exact z
theorem CRX_s {σ τ υ : Sto} {n p : Int} (h : CRX σ τ n p) (h0 : 0 ≤ n) (e : ∀ c i, ¬ ((c = 46 ∨ c = 47) ∧ i = n) → υ.I c i = τ.I c i) (e7 : υ.I 47 n = if τ.I 0 42 < τ.I 45 n then 0 else τ.I 47 n) (e6 : υ.I 46 n = if τ.I 0 42 < τ.I 46 n then 2147483647 else τ.I 46 n) (er : υ.2 = τ.2) : CRX σ υ (n + 1) p := by
  obtain ⟨δ, a, b⟩ := h
  have z := CR1_f (k := n) b
  rw [(z.1 (Int.le_refl _)).1, z.2.2.1, z.2.2.2.1] at e7
  rw [(z.1 (Int.le_refl _)).2, z.2.2.2.1] at e6
  exact ⟨δ, a, CR1_s b h0 e e7 e6 er⟩
theorem CRX_p {σ τ υ : Sto} {n p : Int} (h : CRX σ τ n p) (h0 : 0 ≤ p) (e : ∀ c i, ¬ (c = 48 ∧ i = p) → υ.I c i = τ.I c i) (e7 : υ.I 48 p = if τ.I 0 42 < τ.I 48 p then -1 else τ.I 48 p) (er : υ.2 = τ.2) : CRX σ υ n (p + 1) := by
  obtain ⟨δ, a, b⟩ := h
  have z := CR1_f (k := p) b
  rw [z.2.1 (Int.le_refl _), z.2.2.2.1] at e7
  exact ⟨δ, a, CR1_p b h0 e e7 er⟩
theorem CRX_L {σ τ : Sto} {n p : Int} (h : CRX σ τ n p) (hP : LAP σ) (hD : DTX σ) : LAP τ := by
  obtain ⟨δ, a, b⟩ := h
  exact CR1_L b (DIX_L a hP hD)
/-- cells that packing leaves -/
theorem LAYR_f {σ τ : Sto} (h : LAYR σ τ) {c : Nat} {i : Int} (q : ¬ wsLy c i) (q2 : ¬ wsT3 c i) (q3 : ¬ wsT4 c) : τ.I c i = σ.I c i := by
  obtain ⟨ψ, a, b⟩ := h
  rw [TA4_f b.1 q3 q2]; exact a.2.1.1 c i q

theorem sp_X0_sweep {E : XE} {d : Nat} {σ : Sto}  (hd : 6 ≤ d) (hL : Lay σ)  (p0 : LAP σ) : CC E mX0_sweep d [aO 0] σ (RVI (fun y τ => (y = cn (drX σ) (σ.I 0 39)) ∧ (SWR σ τ))) := by sorry
theorem sp_X0_crash {E : XE} {d : Nat} {σ : Sto}  (hd : 6 ≤ d) (hL : Lay σ)  (p0 : LAP σ) (p1 : DTX σ) (p2 : VFB σ (σ.I 0 20)) (p3 : 0 ≤ σ.I 0 9 ∧ σ.I 0 9 ≤ 12) (p4 : TC σ) (p5 : 0 ≤ σ.I 0 30 ∧ σ.I 0 30 ≤ 24000) (p6 : inR (σ.I 0 42)) : CC E mX0_crash d [aO 0] σ (RVI (fun y τ => (CRR σ τ) ∧ (y = cn (inV (τ.I 47) (τ.I 45) (τ.I 46) (τ.I 0 40)) (τ.I 0 39)))) := by sorry
end
section
/-! contracts: printed by tools/mk.py out of s98zzp_pckM.py -/
set_option maxRecDepth 100000
set_option maxHeartbeats 1600000
/-! the model packs: plain -/
def kpV (σ : Sto) (v : Int) : Prop := (∃ k, 0 ≤ k ∧ k < σ.I 555 52 ∧ σ.I 594 k ≠ 0 ∧ σ.I 595 k ≤ v ∧ v < σ.I 595 k + σ.I 596 k) ∨ (σ.I 555 45 ≤ v ∧ v < σ.I 555 30)
def lnT (σ : Sto) (v : Int) : Int := σ.I 582 (v + 1) - σ.I 582 v
noncomputable def nM (σ : Sto) (v : Int) : Int := cn (kpV σ) v
noncomputable def sBM (σ : Sto) (v : Int) : Int := smP (kpV σ) (σ.I 581) v
noncomputable def sTM (σ : Sto) (v : Int) : Int := smP (kpV σ) (lnT σ) v
/-- how values lie -/
def BOM (σ : Sto) : Prop := (0 ≤ σ.I 555 30 ∧ σ.I 555 30 ≤ 6000) ∧ σ.I 582 0 = 0 ∧ (∀ v, 0 ≤ v → v < σ.I 555 30 → σ.I 580 v = smP (fun _ => True) (σ.I 581) v ∧ (0 ≤ σ.I 581 v ∧ σ.I 580 v + σ.I 581 v ≤ 60000) ∧ 0 ≤ lnT σ v ∧ σ.I 582 (v + 1) ≤ 24000) ∧ bd_0_20 σ 587 24000
/-- how objects lie -/
def LOM (σ : Sto) : Prop := (0 ≤ σ.I 555 52 ∧ σ.I 555 52 ≤ 600) ∧ (0 ≤ σ.I 555 45 ∧ σ.I 555 45 ≤ σ.I 555 30) ∧ (∀ j, 0 ≤ j → j < σ.I 555 52 → σ.I 594 j ≠ 0 → 0 ≤ σ.I 595 j ∧ 0 ≤ σ.I 596 j ∧ σ.I 595 j + σ.I 596 j ≤ σ.I 555 45) ∧ ∀ j k, 0 ≤ j → j < k → k < σ.I 555 52 → σ.I 594 j ≠ 0 → σ.I 594 k ≠ 0 → σ.I 595 j + σ.I 596 j ≤ σ.I 595 k
theorem tel_T {σ : Sto} (h : σ.I 582 0 = 0) : ∀ n : Nat, smP (fun _ => True) (lnT σ) n = σ.I 582 n := by
  intro n
  induction n with
  | zero => rw [smP_0 _ _ _ (show ((0 : Nat) : Int) ≤ 0 by omega)]; exact h.symm
  | succ n ih =>
    rw [smP_t (fun _ => True) (lnT σ) n ((n + 1 : Nat) : Int) (by omega) (by omega) trivial, ih]
    unfold lnT
    rw [show ((n + 1 : Nat) : Int) = (n : Int) + 1 by omega]; omega
theorem BOM_b {σ : Sto} {v : Int} (hB : BOM σ) (h0 : 0 ≤ v) (h1 : v ≤ σ.I 555 30) : (0 ≤ nM σ v ∧ nM σ v ≤ v) ∧ (0 ≤ sBM σ v ∧ sBM σ v ≤ smP (fun _ => True) (σ.I 581) v) ∧ 0 ≤ sTM σ v ∧ sTM σ v ≤ σ.I 582 v := by
  have c := cn_in (kpV σ) v
  have e1 : nM σ v = cn (kpV σ) v := rfl
  have t := tel_T hB.2.1 v.toNat
  rw [show ((v.toNat : Nat) : Int) = v by omega] at t
  have s := smP_sub' (p := kpV σ) (g := lnT σ) h0 (fun k a b => (hB.2.2.1 k a (by omega)).2.2.1)
  rw [t] at s
  exact ⟨by omega, smP_sub' h0 (fun k a b => (hB.2.2.1 k a (by omega)).2.1.1), s⟩
def KV1 (σ τ : Sto) (u : Int) : Prop := (∀ c, c = 579 ∨ c = 581 ∨ c = 583 → τ.I c (nM σ u) = σ.I c u) ∧ (∀ k, 0 ≤ k → k < 4 → τ.I 584 (4 * nM σ u + k) = σ.I 584 (4 * u + k)) ∧ τ.I 580 (nM σ u) = sBM σ u ∧ τ.I 582 (nM σ u) = sTM σ u ∧ ∀ b, 0 ≤ b → b < σ.I 581 u → τ.I 585 (sBM σ u + b) = σ.I 585 (σ.I 580 u + b)
def KV2 (σ τ : Sto) (u m : Int) : Prop := ∀ t, 0 ≤ t → t < m → (∀ c, 587 ≤ c ∧ c ≤ 590 → τ.I c (sTM σ u + t) = σ.I c (σ.I 582 u + t)) ∧ ∀ j, 0 ≤ j → j < σ.I 587 (σ.I 582 u + t) → τ.I 586 (20 * (sTM σ u + t) + j) = σ.I 586 (20 * (σ.I 582 u + t) + j)
/-- kept values below v have moved; A rows, B bytes, T tokens -/
def GM5 (σ τ : Sto) (v A B T : Int) : Prop := (∀ u, 0 ≤ u → u < v → kpV σ u → KV1 σ τ u ∧ KV2 σ τ u (lnT σ u)) ∧ (∀ c i, (579 ≤ c ∧ c ≤ 583) → A ≤ i → τ.I c i = σ.I c i) ∧ (∀ i, 4 * A ≤ i → τ.I 584 i = σ.I 584 i) ∧ (∀ i, B ≤ i → τ.I 585 i = σ.I 585 i) ∧ (∀ c i, (587 ≤ c ∧ c ≤ 590) → T ≤ i → τ.I c i = σ.I c i) ∧ (∀ i, 20 * T ≤ i → τ.I 586 i = σ.I 586 i) ∧ bd_0_20 τ 587 24000
def GM6 (σ τ : Sto) (v A B T : Int) : Prop := GM5 σ τ v A B T ∧ A = nM σ v ∧ B = sBM σ v ∧ T = sTM σ v
def GM7 (σ τ : Sto) (v m A B T : Int) : Prop := GM5 σ τ v (A + 1) B T ∧ KV1 σ τ v ∧ KV2 σ τ v m ∧ A = nM σ v ∧ B = sBM σ v + σ.I 581 v ∧ T = sTM σ v + m
section GMS
variable {σ τ υ ψ : Sto} {v w m A B T : Int}
theorem GM_lt {u : Int} (hB : BOM σ) (u0 : 0 ≤ u) (uv : u < v) (v1 : v ≤ σ.I 555 30) (uk : kpV σ u) : nM σ u < nM σ v ∧ sBM σ u + σ.I 581 u ≤ sBM σ v ∧ sTM σ u + lnT σ u ≤ sTM σ v := ⟨cn_lt u0 uv uk, smP_mo u0 uv uk (fun k x y => (hB.2.2.1 k x (by omega)).2.1.1), smP_mo u0 uv uk (fun k x y => (hB.2.2.1 k x (by omega)).2.2.1)⟩
theorem GM6_0 (h : BOM σ) : GM6 σ σ 0 0 0 0 := ⟨⟨fun u a b => by omega, fun _ _ _ _ => rfl, fun _ _ => rfl, fun _ _ => rfl, fun _ _ _ _ => rfl, fun _ _ => rfl, h.2.2.2⟩, (cn_0 _ _ (Int.le_refl _)).symm, (smP_0 _ _ _ (Int.le_refl _)).symm, (smP_0 _ _ _ (Int.le_refl _)).symm⟩
theorem GM6_n (h : GM6 σ τ v A B T) (h0 : 0 ≤ v) (hw : v ≤ w) (hk : ∀ u, v ≤ u → u < w → ¬ kpV σ u) : GM6 σ τ w A B T := by
  have e1 : nM σ w = nM σ v := cn_ext h0 hw hk
  have e2 : sBM σ w = sBM σ v := smP_ex h0 hw hk
  have e3 : sTM σ w = sTM σ v := smP_ex h0 hw hk
  obtain ⟨⟨a, b⟩, c⟩ := h
  refine ⟨⟨fun u u0 u1 uk => ?_, b⟩, by rw [e1, e2, e3]; exact c⟩
  rcases Int.lt_or_le u v with z | z
  · exact a u u0 z uk
  · exact absurd uk (hk u z u1)
theorem GM6_e (h : GM6 σ τ v A B T) (e : ∀ c i, (579 ≤ c ∧ c ≤ 590) → υ.I c i = τ.I c i) : GM6 σ υ v A B T := by
  obtain ⟨⟨a, b, c, d, f, g, k⟩, q⟩ := h
  refine ⟨⟨fun u u0 u1 uk => ⟨⟨fun c z => by rw [e c _ (by omega)]; exact (a u u0 u1 uk).1.1 c z, fun k x y => by rw [e _ _ (by omega)]; exact (a u u0 u1 uk).1.2.1 k x y, by rw [e _ _ (by omega)]; exact (a u u0 u1 uk).1.2.2.1, by rw [e _ _ (by omega)]; exact (a u u0 u1 uk).1.2.2.2.1, fun b x y => by rw [e _ _ (by omega)]; exact (a u u0 u1 uk).1.2.2.2.2 b x y⟩, fun t t0 t1 => ⟨fun c z => by rw [e c _ (by omega)]; exact ((a u u0 u1 uk).2 t t0 t1).1 c z, fun j x y => by rw [e _ _ (by omega)]; exact ((a u u0 u1 uk).2 t t0 t1).2 j x y⟩⟩, fun c i z y => by rw [e c i (by omega)]; exact b c i z y, fun i y => by rw [e _ _ (by omega)]; exact c i y, fun i y => by rw [e _ _ (by omega)]; exact d i y, fun c i z y => by rw [e c i (by omega)]; exact f c i z y, fun i y => by rw [e _ _ (by omega)]; exact g i y, bd_0_20_eq k (funext fun i => e _ i (by omega))⟩, q⟩
theorem GM_s1 (h : GM6 σ τ v A B T) (hB : BOM σ) (h0 : 0 ≤ v) (h1 : v < σ.I 555 30) (e : υ.I = fun c i => if at2 c i 579 A then τ.I 579 v else if at2 c i 581 A then τ.I 581 v else if at2 c i 583 A then τ.I 583 v else if rg c i 584 (4 * A) (4 * A + 4) then τ.I 584 (4 * v + (i - 4 * A)) else if rg c i 585 B (B + τ.I 581 v) then τ.I 585 (τ.I 580 v + (i - B)) else if at2 c i 580 A then B else τ.I c i) (e2 : ψ = υ.wI 582 A T) : GM7 σ ψ v 0 A (B + υ.I 581 A) T := by
  obtain ⟨⟨a, b, c, d, f, g, k⟩, hA, hBB, hT⟩ := h
  have bb := BOM_b (v := v) hB h0 (by omega)
  have hv := hB.2.2.1 v h0 h1
  have t : ∀ c, (579 ≤ c ∧ c ≤ 583) → τ.I c v = σ.I c v := fun c q => b c v q (by omega)
  rw [t 579 (by omega), t 581 (by omega), t 583 (by omega), t 580 (by omega)] at e
  have e3 : ∀ c i, υ.I c i = if at2 c i 579 A then σ.I 579 v else if at2 c i 581 A then σ.I 581 v else if at2 c i 583 A then σ.I 583 v else if rg c i 584 (4 * A) (4 * A + 4) then τ.I 584 (4 * v + (i - 4 * A)) else if rg c i 585 B (B + σ.I 581 v) then τ.I 585 (σ.I 580 v + (i - B)) else if at2 c i 580 A then B else τ.I c i := fun c i => congrFun (congrFun e c) i
  have ne : ∀ c i, ¬ ((579 ≤ c ∧ c ≤ 583 ∧ i = A) ∨ (c = 584 ∧ 4 * A ≤ i ∧ i < 4 * A + 4) ∨ (c = 585 ∧ B ≤ i ∧ i < B + σ.I 581 v)) → υ.I c i = τ.I c i := fun c i q => by
    rw [e3]
    rw [if_neg (fun z => q (by have := z.1; have := z.2; omega)), if_neg (fun z => q (by have := z.1; have := z.2; omega)), if_neg (fun z => q (by have := z.1; have := z.2; omega)), if_neg (fun z => q (by have := z.1; have := z.2; omega)), if_neg (fun z => q (by have := z.1; have := z.2; omega)), if_neg (fun z => q (by have := z.1; have := z.2; omega))]
  have p : ∀ c i, ¬ (c = 582 ∧ i = A) → ψ.I c i = υ.I c i := fun c i q => by rw [e2]; exact I_ot _ _ _ _ _ _ q
  have v579 : υ.I 579 A = σ.I 579 v := by rw [e3]; rw [if_pos ⟨rfl, rfl⟩]
  have v581 : υ.I 581 A = σ.I 581 v := by rw [e3]; rw [if_neg (fun z => absurd z.1 (by decide)), if_pos ⟨rfl, rfl⟩]
  have v583 : υ.I 583 A = σ.I 583 v := by rw [e3]; rw [if_neg (fun z => absurd z.1 (by decide)), if_neg (fun z => absurd z.1 (by decide)), if_pos ⟨rfl, rfl⟩]
  have v580 : υ.I 580 A = B := by rw [e3]; rw [if_neg (fun z => absurd z.1 (by decide)), if_neg (fun z => absurd z.1 (by decide)), if_neg (fun z => absurd z.1 (by decide)), if_neg (fun z => absurd z.1 (by decide)), if_neg (fun z => absurd z.1 (by decide)), if_pos ⟨rfl, rfl⟩]
  have v584 : ∀ k, 0 ≤ k → k < 4 → υ.I 584 (4 * A + k) = σ.I 584 (4 * v + k) := fun k k0 k1 => by
    rw [e3]; rw [if_neg (fun z => absurd z.1 (by decide)), if_neg (fun z => absurd z.1 (by decide)), if_neg (fun z => absurd z.1 (by decide)), if_pos ⟨rfl, by omega, by omega⟩, c _ (by omega)]; congr 1; omega
  have v585 : ∀ x, 0 ≤ x → x < σ.I 581 v → υ.I 585 (B + x) = σ.I 585 (σ.I 580 v + x) := fun x x0 x1 => by
    rw [e3]; rw [if_neg (fun z => absurd z.1 (by decide)), if_neg (fun z => absurd z.1 (by decide)), if_neg (fun z => absurd z.1 (by decide)), if_neg (fun z => absurd z.1 (by decide)), if_pos ⟨rfl, by omega, by omega⟩, d _ (by omega)]; congr 1; omega
  have hA0 : 0 ≤ A := by omega
  refine ⟨⟨fun u u0 u1 uk => ?_, fun c' i q hi => ?_, fun i hi => ?_, fun i hi => ?_, fun c' i q hi => ?_, fun i hi => ?_, bd_0_20_eq k (funext fun i => by rw [p _ _ (by omega), ne _ _ (by omega)])⟩, ⟨fun c' q => ?_, fun x x0 x1 => ?_, ?_, ?_, fun x x0 x1 => ?_⟩, fun t t0 t1 => by omega, hA, by rw [hBB, v581], by omega⟩
  · obtain ⟨⟨k1, k2, k3, k4, k5⟩, k6⟩ := a u u0 u1 uk
    obtain ⟨l1, l2, l3⟩ := GM_lt hB u0 u1 (by omega) uk
    refine ⟨⟨fun c q => by rw [p _ _ (by omega), ne _ _ (by omega)]; exact k1 c q, fun x x0 x1 => by rw [p _ _ (by omega), ne _ _ (by omega)]; exact k2 x x0 x1, by rw [p _ _ (by omega), ne _ _ (by omega)]; exact k3, by rw [p _ _ (by omega), ne _ _ (by omega)]; exact k4, fun x x0 x1 => by rw [p _ _ (by omega), ne _ _ (by omega)]; exact k5 x x0 x1⟩, fun t t0 t1 => ⟨fun c q => by rw [p _ _ (by omega), ne _ _ (by omega)]; exact (k6 t t0 t1).1 c q, fun j j0 j1 => by rw [p _ _ (by omega), ne _ _ (by omega)]; exact (k6 t t0 t1).2 j j0 j1⟩⟩
  · rw [p _ _ (by omega), ne _ _ (by omega)]; exact b c' i q (by omega)
  · rw [p _ _ (by omega), ne _ _ (by omega)]; exact c i (by omega)
  · rw [v581] at hi; rw [p _ _ (by omega), ne _ _ (by omega)]; exact d i (by omega)
  · rw [p _ _ (by omega), ne _ _ (by omega)]; exact f c' i q hi
  · rw [p _ _ (by omega), ne _ _ (by omega)]; exact g i hi
  · rw [← hA, p _ _ (by omega)]
    rcases q with q | q | q <;> subst q
    · exact v579
    · exact v581
    · exact v583
  · rw [← hA, p _ _ (by omega)]; exact v584 x x0 x1
  · rw [← hA, ← hBB, p _ _ (by omega)]; exact v580
  · rw [← hA, ← hT, e2, I_same]
  · rw [← hBB, p _ _ (by omega)]; exact v585 x x0 x1
theorem GM_s2 (h : GM7 σ τ v m A B T) (hB : BOM σ) (h0 : 0 ≤ v) (h1 : v < σ.I 555 30) (m0 : 0 ≤ m) (m1 : m < lnT σ v) (e : υ.I = fun c i => if at2 c i 587 T then τ.I 587 (σ.I 582 v + m) else if rg c i 586 (20 * T) (20 * T + τ.I 587 (σ.I 582 v + m)) then τ.I 586 (20 * (σ.I 582 v + m) + (i - 20 * T)) else if at2 c i 588 T then τ.I 588 (σ.I 582 v + m) else if at2 c i 589 T then τ.I 589 (σ.I 582 v + m) else if at2 c i 590 T then τ.I 590 (σ.I 582 v + m) else τ.I c i) : GM7 σ υ v (m + 1) A B (T + 1) := by
  obtain ⟨⟨a, b, c, d, f, g, k⟩, ⟨q1, q2, q3, q4, q5⟩, q6, hA, hBB, hT⟩ := h
  have bb := BOM_b (v := v) hB h0 (by omega)
  have hv := hB.2.2.1 v h0 h1
  have hl : lnT σ v = σ.I 582 (v + 1) - σ.I 582 v := rfl
  have t : ∀ c, (587 ≤ c ∧ c ≤ 590) → τ.I c (σ.I 582 v + m) = σ.I c (σ.I 582 v + m) := fun c q => f c _ q (by omega)
  have sz := hB.2.2.2 (σ.I 582 v + m) (by omega) (by omega)
  rw [t 587 (by omega), t 588 (by omega), t 589 (by omega), t 590 (by omega)] at e
  have e3 : ∀ c i, υ.I c i = if at2 c i 587 T then σ.I 587 (σ.I 582 v + m) else if rg c i 586 (20 * T) (20 * T + σ.I 587 (σ.I 582 v + m)) then τ.I 586 (20 * (σ.I 582 v + m) + (i - 20 * T)) else if at2 c i 588 T then σ.I 588 (σ.I 582 v + m) else if at2 c i 589 T then σ.I 589 (σ.I 582 v + m) else if at2 c i 590 T then σ.I 590 (σ.I 582 v + m) else τ.I c i := fun c i => congrFun (congrFun e c) i
  have ne : ∀ c i, ¬ ((587 ≤ c ∧ c ≤ 590 ∧ i = T) ∨ (c = 586 ∧ 20 * T ≤ i ∧ i < 20 * T + σ.I 587 (σ.I 582 v + m))) → υ.I c i = τ.I c i := fun c i q => by
    rw [e3]
    rw [if_neg (fun z => q (by have := z.1; have := z.2; omega)), if_neg (fun z => q (by have := z.1; have := z.2; omega)), if_neg (fun z => q (by have := z.1; have := z.2; omega)), if_neg (fun z => q (by have := z.1; have := z.2; omega)), if_neg (fun z => q (by have := z.1; have := z.2; omega))]
  have vc : ∀ c, (587 ≤ c ∧ c ≤ 590) → υ.I c T = σ.I c (σ.I 582 v + m) := fun c q => by
    rcases (show c = 587 ∨ c = 588 ∨ c = 589 ∨ c = 590 by omega) with z | z | z | z <;> subst z
    · rw [e3]; rw [if_pos ⟨rfl, rfl⟩]
    · rw [e3]; rw [if_neg (fun z => absurd z.1 (by decide)), if_neg (fun z => absurd z.1 (by decide)), if_pos ⟨rfl, rfl⟩]
    · rw [e3]; rw [if_neg (fun z => absurd z.1 (by decide)), if_neg (fun z => absurd z.1 (by decide)), if_neg (fun z => absurd z.1 (by decide)), if_pos ⟨rfl, rfl⟩]
    · rw [e3]; rw [if_neg (fun z => absurd z.1 (by decide)), if_neg (fun z => absurd z.1 (by decide)), if_neg (fun z => absurd z.1 (by decide)), if_neg (fun z => absurd z.1 (by decide)), if_pos ⟨rfl, rfl⟩]
  have v586 : ∀ j, 0 ≤ j → j < σ.I 587 (σ.I 582 v + m) → υ.I 586 (20 * T + j) = σ.I 586 (20 * (σ.I 582 v + m) + j) := fun j j0 j1 => by
    rw [e3]; rw [if_neg (fun z => absurd z.1 (by decide)), if_pos ⟨rfl, by omega, by omega⟩, g _ (by omega)]; congr 1; omega
  refine ⟨⟨fun u u0 u1 uk => ?_, fun c' i q hi => by rw [ne _ _ (by omega)]; exact b c' i q hi, fun i hi => by rw [ne _ _ (by omega)]; exact c i hi, fun i hi => by rw [ne _ _ (by omega)]; exact d i hi, fun c' i q hi => by rw [ne _ _ (by omega)]; exact f c' i q (by omega), fun i hi => by rw [ne _ _ (by omega)]; exact g i (by omega), fun i i0 i1 => ?_⟩, ⟨fun c q => by rw [ne _ _ (by omega)]; exact q1 c q, fun x x0 x1 => by rw [ne _ _ (by omega)]; exact q2 x x0 x1, by rw [ne _ _ (by omega)]; exact q3, by rw [ne _ _ (by omega)]; exact q4, fun x x0 x1 => by rw [ne _ _ (by omega)]; exact q5 x x0 x1⟩, fun t' t0 t1 => ?_, hA, hBB, by omega⟩
  · obtain ⟨⟨k1, k2, k3, k4, k5⟩, k6⟩ := a u u0 u1 uk
    obtain ⟨l1, l2, l3⟩ := GM_lt hB u0 u1 (by omega) uk
    have hu := hB.2.2.1 u u0 (by omega)
    have bu := BOM_b (v := u) hB u0 (by omega)
    have hlu : lnT σ u = σ.I 582 (u + 1) - σ.I 582 u := rfl
    refine ⟨⟨fun c q => by rw [ne _ _ (by omega)]; exact k1 c q, fun x x0 x1 => by rw [ne _ _ (by omega)]; exact k2 x x0 x1, by rw [ne _ _ (by omega)]; exact k3, by rw [ne _ _ (by omega)]; exact k4, fun x x0 x1 => by rw [ne _ _ (by omega)]; exact k5 x x0 x1⟩, fun t t0 t1 => ⟨fun c q => by rw [ne _ _ (by omega)]; exact (k6 t t0 t1).1 c q, fun j j0 j1 => ?_⟩⟩
    have s2 := hB.2.2.2 (σ.I 582 u + t) (by omega) (by omega)
    rw [ne _ _ (by omega)]; exact (k6 t t0 t1).2 j j0 j1
  · rcases (show i = T ∨ i ≠ T by omega) with z | z
    · rw [z, vc 587 (by omega)]; exact sz
    · rw [ne _ _ (by omega)]; exact k i i0 i1
  · rcases (show t' = m ∨ t' < m by omega) with z | z
    · rw [z, ← hT]
      exact ⟨fun c q => vc c q, fun j j0 j1 => v586 j j0 j1⟩
    · have s2 := hB.2.2.2 (σ.I 582 v + t') (by omega) (by omega)
      exact ⟨fun c q => by rw [ne _ _ (by omega)]; exact (q6 t' t0 z).1 c q, fun j j0 j1 => by rw [ne _ _ (by omega)]; exact (q6 t' t0 z).2 j j0 j1⟩
theorem GM_s3 (h : GM7 σ τ v m A B T) (hB : BOM σ) (h0 : 0 ≤ v) (hk : kpV σ v) (hm : m = lnT σ v) : GM6 σ τ (v + 1) (A + 1) B T := by
  obtain ⟨⟨a, b⟩, q1, q2, hA, hBB, hT⟩ := h
  have s1 : nM σ (v + 1) = nM σ v + 1 := by unfold nM; rw [cn_s _ v (v + 1) h0 rfl, zb_t hk]
  have s2 : sBM σ (v + 1) = sBM σ v + σ.I 581 v := smP_t _ _ v (v + 1) h0 rfl hk
  have s3 : sTM σ (v + 1) = sTM σ v + lnT σ v := smP_t _ _ v (v + 1) h0 rfl hk
  refine ⟨⟨fun u u0 u1 uk => ?_, b⟩, by omega, by omega, by omega⟩
  rcases (show u < v ∨ u = v by omega) with z | z
  · exact a u u0 z uk
  · rw [z]; rw [hm] at q2; exact ⟨q1, q2⟩
/-- what a move of value v asks for -/
theorem GM_p (h : GM6 σ τ v A B T) (hB : BOM σ) (h0 : 0 ≤ v) (h1 : v < σ.I 555 30) : (0 ≤ A ∧ A ≤ v) ∧ (0 ≤ B ∧ B ≤ τ.I 580 v) ∧ (0 ≤ τ.I 581 v ∧ τ.I 580 v + τ.I 581 v ≤ 60000) ∧ (0 ≤ T ∧ T ≤ τ.I 582 v) ∧ τ.I 582 v = σ.I 582 v ∧ τ.I 582 (v + 1) = σ.I 582 (v + 1) ∧ (σ.I 582 v ≤ σ.I 582 (v + 1) ∧ σ.I 582 (v + 1) ≤ 24000) ∧ τ.I 581 v = σ.I 581 v := by
  obtain ⟨⟨a, b, _⟩, hA, hBB, hT⟩ := h
  have bb := BOM_b (v := v) hB h0 (by omega)
  have hv := hB.2.2.1 v h0 h1
  have t : ∀ c i, (579 ≤ c ∧ c ≤ 583) → v ≤ i → τ.I c i = σ.I c i := fun c i q z => b c i q (by omega)
  have hl : lnT σ v = σ.I 582 (v + 1) - σ.I 582 v := rfl
  rw [t 580 v (by omega) (by omega), t 581 v (by omega) (by omega), t 582 v (by omega) (by omega), t 582 (v + 1) (by omega) (by omega)]
  exact ⟨by omega, by omega, by omega, by omega, rfl, rfl, by omega, rfl⟩
end GMS
def wsPm (c : Nat) (i : Int) : Prop := (579 ≤ c ∧ c ≤ 590) ∨ c = 595 ∨ (c = 555 ∧ i = 45)
/-- rows of objects below o -/
def PFM (σ τ : Sto) (o : Int) : Prop := (∀ c i, ¬ wsPm c i → τ.I c i = σ.I c i) ∧ τ.2 = σ.2 ∧ (∀ j, (0 ≤ j ∧ j < o) → j < σ.I 555 52 → σ.I 594 j ≠ 0 → τ.I 595 j = nM σ (σ.I 595 j)) ∧ (∀ j, ¬ ((0 ≤ j ∧ j < o) ∧ j < σ.I 555 52 ∧ σ.I 594 j ≠ 0) → τ.I 595 j = σ.I 595 j) ∧ τ.I 555 45 = if σ.I 555 52 < o then nM σ (σ.I 555 45) else σ.I 555 45
/-- between objects -/
def PMv (σ τ : Sto) (o A B T : Int) : Prop := ∃ v, GM6 σ τ v A B T ∧ 0 ≤ v ∧ (∀ j, (0 ≤ j ∧ j < o) → j < σ.I 555 52 → σ.I 594 j ≠ 0 → σ.I 595 j + σ.I 596 j ≤ v) ∧ (∀ j, (0 ≤ j ∧ o ≤ j) → j < σ.I 555 52 → σ.I 594 j ≠ 0 → v ≤ σ.I 595 j) ∧ (o ≤ σ.I 555 52 → v ≤ σ.I 555 45) ∧ (σ.I 555 52 < o → v = σ.I 555 30)
/-- the block of o -/
def blM (σ : Sto) (o a n : Int) : Prop := (o < σ.I 555 52 ∧ σ.I 594 o ≠ 0 ∧ a = σ.I 595 o ∧ n = σ.I 596 o) ∨ (o = σ.I 555 52 ∧ a = σ.I 555 45 ∧ n = σ.I 555 30 - σ.I 555 45)
section PMS
variable {σ τ υ : Sto} {o a n v A B T : Int}
theorem bl_k (h : blM σ o a n) (o0 : 0 ≤ o) (v0 : a ≤ v) (v1 : v < a + n) : kpV σ v := by
  rcases h with ⟨h1, h2, h3, h4⟩ | ⟨h1, h2, h3⟩
  · exact Or.inl ⟨o, o0, h1, h2, by omega, by omega⟩
  · exact Or.inr ⟨by omega, by omega⟩
theorem bl_b (h : blM σ o a n) (hLm : LOM σ) (o0 : 0 ≤ o) : (0 ≤ a ∧ 0 ≤ n) ∧ a + n ≤ σ.I 555 30 := by
  have l := hLm.2.1
  rcases h with ⟨h1, h2, h3, h4⟩ | ⟨h1, h2, h3⟩
  · have w := hLm.2.2.1 o o0 h1 h2; omega
  · omega
theorem PMv_i (h : PMv σ τ o A B T) (hLm : LOM σ) (o0 : 0 ≤ o) (hb : blM σ o a n) : GM6 σ τ a A B T := by
  obtain ⟨v, g, v0, x, y, z, _⟩ := h
  have l := hLm.2.1
  have hva : v ≤ a := by
    rcases hb with ⟨h1, h2, h3, h4⟩ | ⟨h1, h2, h3⟩
    · rw [h3]; exact y o ⟨o0, Int.le_refl _⟩ h1 h2
    · rw [h2]; exact z (by omega)
  refine GM6_n g v0 hva (fun u u0 u1 q => ?_)
  rcases q with ⟨k, k0, k1, k2, k3, k4⟩ | q
  · rcases (show k < o ∨ o ≤ k by omega) with w | w
    · have := x k ⟨k0, w⟩ k1 k2; omega
    · rcases hb with ⟨h1, h2, h3, h4⟩ | ⟨h1, h2, h3⟩
      · rcases (show k = o ∨ o < k by omega) with r | r
        · rw [r] at k3; omega
        · have := hLm.2.2.2 o k o0 r k1 h2 k2
          have := hLm.2.2.1 o o0 h1 h2
          omega
      · omega
  · rcases hb with ⟨h1, h2, h3, h4⟩ | ⟨h1, h2, h3⟩
    · have := hLm.2.2.1 o o0 h1 h2; omega
    · omega
theorem PMv_o (h : GM6 σ τ v A B T) (hLm : LOM σ) (o0 : 0 ≤ o) (hb : blM σ o a n) (hv : v = a + n) : PMv σ τ (o + 1) A B T := by
  have bb := bl_b hb hLm o0
  refine ⟨v, h, by omega, fun j j0 j1 j2 => ?_, fun j j0 j1 j2 => ?_, fun q => ?_, fun q => ?_⟩
  · have w := hLm.2.2.1 j j0.1 j1 j2
    rcases hb with ⟨h1, h2, h3, h4⟩ | ⟨h1, h2, h3⟩
    · rcases (show j = o ∨ j < o by omega) with r | r
      · rw [r]; omega
      · have := hLm.2.2.2 j o j0.1 r h1 j2 h2; omega
    · omega
  · rcases hb with ⟨h1, h2, h3, h4⟩ | ⟨h1, h2, h3⟩
    · have := hLm.2.2.2 o j o0 (by omega) j1 h2 j2; omega
    · omega
  · rcases hb with ⟨h1, h2, h3, h4⟩ | ⟨h1, h2, h3⟩
    · have := hLm.2.2.1 o o0 h1 h2; omega
    · omega
  · rcases hb with ⟨h1, h2, h3, h4⟩ | ⟨h1, h2, h3⟩
    · omega
    · omega
theorem PMv_u (h : PMv σ τ o A B T) (o1 : o < σ.I 555 52) (hu : σ.I 594 o = 0) : PMv σ τ (o + 1) A B T := by
  obtain ⟨v, g, v0, x, y, z, _⟩ := h
  refine ⟨v, g, v0, fun j j0 j1 j2 => ?_, fun j j0 j1 j2 => y j (by omega) j1 j2, fun q => z (by omega), fun q => by omega⟩
  rcases (show j = o ∨ j < o by omega) with r | r
  · rw [r] at j2; contradiction
  · exact x j ⟨j0.1, r⟩ j1 j2
theorem PFM_0 (h : 0 ≤ σ.I 555 52) : PFM σ σ 0 := ⟨fun _ _ _ => rfl, rfl, fun j a => by omega, fun _ _ => rfl, by rw [if_neg (by omega)]⟩
theorem PFM_u (h : PFM σ τ o) (o1 : o < σ.I 555 52) (hu : σ.I 594 o = 0) : PFM σ τ (o + 1) := by
  obtain ⟨a, b, c, d, e⟩ := h
  refine ⟨a, b, fun j j0 j1 j2 => ?_, fun j q => d j (fun z => q ⟨⟨z.1.1, by omega⟩, z.2⟩), by rw [e, if_neg (by omega), if_neg (by omega)]⟩
  rcases (show j = o ∨ j < o by omega) with r | r
  · rw [r] at j2; contradiction
  · exact c j ⟨j0.1, r⟩ j1 j2
theorem PFM_h (h : PFM σ τ o) (o0 : 0 ≤ o) (o1 : o < σ.I 555 52) (hu : σ.I 594 o ≠ 0) (hA : A = nM σ (σ.I 595 o)) (e1 : υ = τ.wI 595 o A) : PFM σ υ (o + 1) := by
  obtain ⟨a, b, c, d, e⟩ := h
  refine ⟨fun c i q => by rw [e1, I_ot _ _ _ _ _ _ (fun z => q (by unfold wsPm; omega))]; exact a c i q, by rw [e1]; exact b, fun j j0 j1 j2 => ?_, fun j q => ?_, by rw [e1, I_ne _ _ _ _ (by decide), e, if_neg (by omega), if_neg (by omega)]⟩
  · rw [e1]
    rcases (show j = o ∨ j < o by omega) with r | r
    · rw [r, I_same]; exact hA
    · rw [I_nj _ _ _ _ (by omega)]; exact c j ⟨j0.1, r⟩ j1 j2
  · rw [e1, I_nj _ _ _ _ (fun z => q ⟨by omega, by omega, by rw [z]; exact hu⟩)]; exact d j (fun z => q ⟨⟨z.1.1, by omega⟩, z.2⟩)
theorem PFM_d (h : PFM σ τ o) (o1 : o = σ.I 555 52) (hA : A = nM σ (σ.I 555 45)) (e1 : υ = τ.wI 555 45 A) : PFM σ υ (o + 1) := by
  obtain ⟨a, b, c, d, e⟩ := h
  exact ⟨fun c i q => by rw [e1, I_ot _ _ _ _ _ _ (fun z => q (by unfold wsPm; omega))]; exact a c i q, by rw [e1]; exact b, fun j j0 j1 j2 => by rw [e1, I_ne _ _ _ _ (by decide)]; exact c j ⟨j0.1, by omega⟩ j1 j2, fun j q => by rw [e1, I_ne _ _ _ _ (by decide)]; exact d j (fun z => q ⟨⟨z.1.1, by omega⟩, z.2⟩), by rw [e1, I_same, if_pos (by omega)]; exact hA⟩
theorem PFM_e (h : PFM σ τ o) (e : ∀ c i, ¬ (579 ≤ c ∧ c ≤ 590) → υ.I c i = τ.I c i) (er : υ.2 = τ.2) : PFM σ υ o := by
  obtain ⟨a, b, c, d, f⟩ := h
  exact ⟨fun c i q => by rw [e c i (fun z => q (Or.inl z))]; exact a c i q, er.trans b, fun j j0 j1 j2 => by rw [e _ _ (by omega)]; exact c j j0 j1 j2, fun j q => by rw [e _ _ (by omega)]; exact d j q, by rw [e _ _ (by omega)]; exact f⟩
end PMS
/-- what packing leaves -/
def PKM (σ τ : Sto) : Prop := ∃ ψ A B T, GM6 σ ψ (σ.I 555 30) A B T ∧ PFM σ ψ (σ.I 555 52 + 1) ∧ τ = (((ψ.wI 555 30 A).wI 555 38 B).wI 555 44 T).wI 582 A T
end
section
/-! contracts: printed by tools/mk.py out of s98zzq_pckW.py -/
set_option maxRecDepth 100000
set_option maxHeartbeats 1600000
theorem sp_X9_pack {E : XE} {d : Nat} {σ : Sto}  (hd : 2 ≤ d) (hL : Lay σ)  (p0 : BOM σ) (p1 : LOM σ) : CC E mX9_pack d [aO 555] σ (RV (fun τ => (PKM σ τ))) := by sorry
end
