/-! contracts: printed by tools/mk.py out of s98zzzzzc_pckT.py -/
set_option maxRecDepth 100000
set_option maxHeartbeats 2000000
/-! terms anew behind the packing -/
theorem cn_or {p q : Int → Prop} : ∀ n : Nat, cn (fun t => p t ∨ q t) n ≤ cn p n + cn q n := by
  intro n
  induction n with
  | zero => rw [cn_0 _ _ (by omega), cn_0 _ _ (by omega), cn_0 _ _ (by omega)]; omega
  | succ n ih =>
    rw [cn_s _ (n : Int) _ (by omega) (by omega), cn_s p (n : Int) _ (by omega) (by omega), cn_s q (n : Int) _ (by omega) (by omega)]
    have a := zb_in (p n)
    have b := zb_in (q n)
    by_cases hp : p n
    · have e1 := zb_in (p n ∨ q n)
      rw [zb_t hp]
      omega
    · by_cases hq : q n
      · have e1 := zb_in (p n ∨ q n)
        rw [zb_t hq]
        omega
      · rw [zb_f (show ¬ (p n ∨ q n) from fun z => z.elim hp hq)]
        omega
theorem cn_q1 {a : Int} : ∀ n : Nat, cn (fun t => a = t) n ≤ 1 ∧ ((n : Int) ≤ a → cn (fun t => a = t) n = 0) := by
  intro n
  induction n with
  | zero => rw [cn_0 _ _ (by omega)]; exact ⟨by omega, fun _ => rfl⟩
  | succ n ih =>
    rw [cn_s _ (n : Int) _ (by omega) (by omega)]
    by_cases q : a = n
    · rw [zb_t q, ih.2 (by omega)]
      exact ⟨by omega, fun z => by omega⟩
    · rw [zb_f q]
      exact ⟨by omega, fun z => by rw [ih.2 (by omega)]; rfl⟩
theorem cn_ex1 {f : Int → Int} (n : Nat) : ∀ m : Nat, cn (fun t => exN (fun i => f i = t) m) n ≤ m := by
  intro m
  induction m with
  | zero =>
    rw [cn_no n (fun j _ _ h => by obtain ⟨k, a, b, _⟩ := h; omega)]
    omega
  | succ m ih =>
    have e : cn (fun t => exN (fun i => f i = t) ((m + 1 : Nat) : Int)) n = cn (fun t => exN (fun i => f i = t) m ∨ f m = t) n := by
      refine cn_ag n (fun t _ _ => ?_)
      constructor
      · rintro ⟨k, a, b, c⟩
        by_cases q : k = m
        · rw [q] at c; exact Or.inr c
        · exact Or.inl ⟨k, a, by omega, c⟩
      · rintro (⟨k, a, b, c⟩ | c)
        · exact ⟨k, a, by omega, c⟩
        · exact ⟨m, by omega, by omega, c⟩
    rw [e]
    have a := cn_or (p := fun t => exN (fun i => f i = t) m) (q := fun t => f m = t) n
    have b := (cn_q1 (a := f m) n).1
    omega
theorem us_cn {σ : Sto} (h : ∀ v, 0 ≤ v → v < σ.I 0 20 → 0 ≤ σ.I 32 v) (n : Nat) : ∀ V : Nat, (V : Int) ≤ σ.I 0 20 → cn (usV σ V) n ≤ smP (fun _ => True) (σ.I 32) V + cn (isWv σ) V := by
  intro V
  induction V with
  | zero =>
    intro _
    rw [cn_no n (fun j _ _ h => by obtain ⟨k, a, b, _⟩ := h; omega), smP_0 _ _ _ (by omega), cn_0 _ _ (by omega)]
    omega
  | succ V ih =>
    intro hV
    have i := ih (by omega)
    have nn := h V (by omega) (by omega)
    rw [smP_t _ _ (V : Int) _ (by omega) (by omega) trivial, cn_s (isWv σ) (V : Int) _ (by omega) (by omega)]
    have e : cn (usV σ ((V + 1 : Nat) : Int)) n = cn (fun t => usV σ V t ∨ ((isWv σ V ∧ σ.I 33 V = t) ∨ exN (fun i => σ.I 36 (σ.I 31 V + i) = t) (σ.I 32 V))) n := by
      refine cn_ag n (fun t _ _ => ?_)
      constructor
      · rintro ⟨k, a, b, c⟩
        by_cases q : k = V
        · rw [q] at c; exact Or.inr c
        · exact Or.inl ⟨k, a, by omega, c⟩
      · rintro (⟨k, a, b, c⟩ | c)
        · exact ⟨k, a, by omega, c⟩
        · exact ⟨V, by omega, by omega, c⟩
    rw [e]
    have a := cn_or (p := usV σ V) (q := fun t => (isWv σ V ∧ σ.I 33 V = t) ∨ exN (fun i => σ.I 36 (σ.I 31 V + i) = t) (σ.I 32 V)) n
    have b := cn_or (p := fun t => isWv σ V ∧ σ.I 33 V = t) (q := fun t => exN (fun i => σ.I 36 (σ.I 31 V + i) = t) (σ.I 32 V)) n
    have c := cn_ex1 (f := fun i => σ.I 36 (σ.I 31 V + i)) n (σ.I 32 V).toNat
    rw [Int.toNat_of_nonneg nn] at c
    have d : cn (fun t => isWv σ V ∧ σ.I 33 V = t) n ≤ zb (isWv σ V) := by
      by_cases w : isWv σ V
      · rw [zb_t w, cn_ag (q := fun t => σ.I 33 V = t) n (fun t _ _ => ⟨fun z => z.2, fun z => ⟨w, z⟩⟩)]
        exact (cn_q1 n).1
      · rw [zb_f w, cn_no n (fun j _ _ z => w z.1)]
        exact Int.le_refl _
    omega
section LYR
variable {κ ρ : Sto}
/-- what the packing of the program leaves -/
theorem LAYR_all (hP : LAP κ) (h : LAYR κ ρ) : PKY κ ρ ∧ (∀ u, 0 ≤ u → u < κ.I 0 20 → kpX κ u → ρ.I 27 (nX κ u) = κ.I 27 u) ∧ (∀ c i, 26 ≤ c → c ≤ 32 → nX κ (κ.I 0 20) ≤ i → ρ.I c i = κ.I c i) ∧ (∀ c i, 38 ≤ c → c ≤ 41 → sTX κ (κ.I 0 20) ≤ i → ρ.I c i = κ.I c i) ∧
    (∀ j, 0 ≤ j → j < κ.I 0 39 → ρ.I 42 j = nX κ (κ.I 42 j) ∧ ρ.I 43 j = if κ.I 47 j ≠ 0 then κ.I 43 j else 0) ∧ (∀ c j, c = 42 ∨ c = 43 → κ.I 0 39 ≤ j → ρ.I c j = κ.I c j) ∧ (∀ c i, ¬ wsLy c i → ¬ wsT3 c i → ¬ wsT4 c → ρ.I c i = κ.I c i) ∧ ρ.2 = κ.2 ∧ bd_0_20 ρ 21 36500 ∧ bd_0_12 ρ 20 36500 ∧ TC ρ ∧ TU ρ := by
  have h' := h
  obtain ⟨ψ, pk, ⟨φ, t3, f1, f2, f3, f4, f5, f6, pt, pw⟩, tu⟩ := h
  have tap := PKX_TAP pk hP
  obtain ⟨mva, pkf, p31⟩ := pk
  obtain ⟨t31, t32, t37, t3r, -, -, -, -, ⟨ttc, tb21, tb20⟩, -⟩ := t3
  have A : ∀ (c : Nat) (i : Int), ¬ wsT3 c i → ¬ wsT4 c → ρ.I c i = ψ.I c i := fun c i q0 q1 => (f1 c i q1).trans (t31 c i q0)
  have B : ∀ (c : Nat) (i : Int), ¬ wsLy c i → ψ.I c i = κ.I c i := pkf.1
  obtain ⟨m1, m2, m3, m4, m5, m6, m7, m8⟩ := mva
  have n0 : 0 ≤ κ.I 0 20 := hP.1.1.1
  have rwx : ∀ s, 0 ≤ s → s < κ.I 18 7 → ust ψ s → rowX ρ (tmN ψ s) (κ.I 20 s) (κ.I 21 s) (fun k => κ.I 19 (20 * s + k)) := fun s s0 s1 us => by
    have z := (t3r s s0 s1 us).2
    rw [B 20 s (by unfold wsLy; omega), B 21 s (by unfold wsLy; omega), show (fun k => ψ.I 19 (20 * s + k)) = (fun k => κ.I 19 (20 * s + k)) from funext fun k => B 19 _ (by unfold wsLy; omega)] at z
    unfold rowX at z ⊢
    rw [f1 18 7 (by unfold wsT4; omega), f1 20 _ (by unfold wsT4; omega), f1 21 _ (by unfold wsT4; omega)]
    exact ⟨z.1, z.2.1, z.2.2.1, fun k k0 k1 => by rw [f1 19 _ (by unfold wsT4; omega)]; exact z.2.2.2 k k0 k1⟩
  have e16 : ψ.I 16 = κ.I 16 := funext fun i => B 16 i (by unfold wsLy; omega)
  have kyx : ∀ u, 0 ≤ u → u < κ.I 0 20 → kpX κ u → KVY κ ρ u := fun u u0 u1 uk => by
    obtain ⟨k1, k2, k3, k4, k5, k6⟩ := m1 u u0 u1 uk
    have hB := hP.2.2.2.2.2.2.2 u u0 u1
    have lt : nX κ u < ψ.I 0 20 := by rw [m5]; exact cn_lt u0 u1 uk
    have nn : 0 ≤ nX κ u := by have := cn_in (kpX κ) u; unfold nX; omega
    refine ⟨⟨?_, ?_, ?_, ?_⟩, ?_, ?_, fun b b0 b1 => ?_, fun t t0 t1 => ?_, fun w => ?_⟩
    · rw [A 26 _ (by unfold wsT3; omega) (by unfold wsT4; omega)]; exact k1 26 (by omega)
    · rw [A 29 _ (by unfold wsT3; omega) (by unfold wsT4; omega)]; exact k1 29 (by omega)
    · rw [A 30 _ (by unfold wsT3; omega) (by unfold wsT4; omega)]; exact k1 30 (by omega)
    · rw [A 32 _ (by unfold wsT3; omega) (by unfold wsT4; omega)]; exact k1 32 (by omega)
    · rw [A 28 _ (by unfold wsT3; omega) (by unfold wsT4; omega)]; exact k2
    · rw [A 31 _ (by unfold wsT3; omega) (by unfold wsT4; omega)]; exact k3
    · rw [A 35 _ (by unfold wsT3; omega) (by unfold wsT4; omega)]; exact k4 b b0 b1
    · have e36 := k5 36 t (by omega) t0 t1
      have h36 := hB.2 t t0 t1
      have nt : 0 ≤ sTX κ u := (MVA_b hP.1 u0 (by omega)).2.2.1.1
      have inn : sTX κ u + t < tkAt ψ (ψ.I 0 20) := by
        unfold tkAt
        rw [if_neg (by omega), m7]
        have z : sTX κ u + κ.I 32 u ≤ sTX κ (κ.I 0 20) := smP_mo u0 u1 uk (fun k k0 k1 => (hP.1.2.1 k k0 (by omega)).2.2.1.1)
        omega
      have g5 := f5 (sTX κ u + t) (by omega) inn
      rw [e36] at g5
      have us : ust ψ (κ.I 36 (κ.I 31 u + t)) := by
        refine ⟨nX κ u, nn, lt, Or.inr ⟨t, t0, by rw [k1 32 (by omega)]; exact t1, ?_⟩⟩
        rw [k3]
        exact e36
      refine ⟨by rw [g5]; exact rwx _ h36.1.1 h36.1.2 us, ?_, ?_, ?_, ?_⟩
      · rw [A 38 _ (by unfold wsT3; omega) (by unfold wsT4; omega)]; exact k6 t t0 t1
      · rw [A 39 _ (by unfold wsT3; omega) (by unfold wsT4; omega)]; exact k5 39 t (by omega) t0 t1
      · rw [A 40 _ (by unfold wsT3; omega) (by unfold wsT4; omega)]; exact k5 40 t (by omega) t0 t1
      · rw [A 41 _ (by unfold wsT3; omega) (by unfold wsT4; omega)]; exact k5 41 t (by omega) t0 t1
    · have e33 := k1 33 (by omega)
      have h33 := hB.1 w
      have w2 : isWv ψ (nX κ u) := by unfold isWv; rw [e16, k1 26 (by omega)]; exact w
      have g3 := f3 (nX κ u) ⟨nn, Or.inl lt⟩ w2
      rw [e33] at g3
      have us : ust ψ (κ.I 33 u) := ⟨nX κ u, nn, lt, Or.inl ⟨w2, e33⟩⟩
      rw [g3]
      exact rwx _ h33.1.1 h33.1.2 us
  have O : ∀ (c : Nat) (i : Int), 26 ≤ c → c ≤ 32 → ρ.I c i = ψ.I c i := fun c i q0 q1 => A c i (by unfold wsT3; omega) (by unfold wsT4; omega)
  refine ⟨⟨kyx, ⟨?_, ?_, ?_, ?_⟩, ?_, ?_, ?_⟩, fun u u0 u1 uk => ?_, fun c i q0 q1 q2 => ?_, fun c i q0 q1 q2 => ?_, fun j j0 j1 => ?_, fun c j q0 q1 => ?_, fun c i q0 q1 q2 => ?_, ?_, ?_, ?_, ?_, tu⟩
  · rw [A 0 20 (by unfold wsT3; omega) (by unfold wsT4; omega)]; exact m5
  · rw [A 0 22 (by unfold wsT3; omega) (by unfold wsT4; omega)]; exact m6
  · rw [A 0 29 (by unfold wsT3; omega) (by unfold wsT4; omega)]; exact m7
  · rw [A 0 30 (by unfold wsT3; omega) (by unfold wsT4; omega)]; exact m8
  · rw [A 0 31 (by unfold wsT3; omega) (by unfold wsT4; omega)]; exact p31
  · exact funext fun i => (A 16 i (by unfold wsT3; omega) (by unfold wsT4; omega)).trans (B 16 i (by unfold wsLy; omega))
  · exact (A 0 9 (by unfold wsT3; omega) (by unfold wsT4; omega)).trans (B 0 9 (by unfold wsLy; omega))
  · rw [O 27 _ (by omega) (by omega)]; exact (m1 u u0 u1 uk).1 27 (by omega)
  · rw [O c i q0 q1]; exact m2 c i ⟨q0, by omega⟩ q2
  · rw [A c i (by unfold wsT3; omega) (by unfold wsT4; omega)]; exact m4 c i (by omega) q2
  · rw [A 42 j (by unfold wsT3; omega) (by unfold wsT4; omega), A 43 j (by unfold wsT3; omega) (by unfold wsT4; omega)]; exact pkf.2.2.1 j j0 j1
  · rw [A c j (by unfold wsT3; omega) (by unfold wsT4; omega)]
    have z := pkf.2.2.2.1 j q1
    rcases q0 with rfl | rfl
    · exact z.1
    · exact z.2
  · exact (A c i q1 q2).trans (B c i q0)
  · rw [f2, t32, pkf.2.1]
  · exact bd_0_20_eq tb21 (funext fun i => f1 21 i (by unfold wsT4; omega))
  · exact bd_0_12_eq tb20 (funext fun i => f1 20 i (by unfold wsT4; omega))
  · exact TC_cg (funext fun i => f1 19 i (by unfold wsT4; omega)) (funext fun i => f1 20 i (by unfold wsT4; omega)) (funext fun i => f1 21 i (by unfold wsT4; omega)) (funext fun i => f1 24 i (by unfold wsT4; omega)) (funext fun i => f1 25 i (by unfold wsT4; omega)) (f1 18 7 (by unfold wsT4; omega)) ttc
/-- what the terms want to know of the values -/
def XVF (σ : Sto) : Prop := (0 ≤ σ.I 0 31 ∧ σ.I 0 31 ≤ σ.I 0 20 ∧ σ.I 0 20 ≤ σ.I 0 31 + 24) ∧ (σ.I 0 29 = smP (fun _ => True) (σ.I 32) (σ.I 0 20) ∧ σ.I 0 30 = cn (isWv σ) (σ.I 0 20)) ∧ ∀ v, 0 ≤ v → v < σ.I 0 20 → (0 ≤ σ.I 32 v ∧ σ.I 32 v ≤ 250) ∧ (isWv σ v → σ.I 32 v = 0)
theorem XVF_of (va : rVA κ) : XVF κ := by
  have dr := va.1.2.1
  exact ⟨⟨dr.1, dr.2.1, dr.2.2.2⟩, va.2.1.2.2.2, fun v v0 v1 => ⟨(va.2.2.1 v v0 v1).2.2.2.2.1, fun w => ((va.2.2.1 v v0 v1).2.2.2.2.2.2.1 w).2.1⟩⟩
/-- tokens and words of a draft are few -/
theorem dr_cn (va : XVF κ) : smP (fun _ => True) (κ.I 32) (κ.I 0 20) + cn (isWv κ) (κ.I 0 20) ≤ smP (fun _ => True) (κ.I 32) (κ.I 0 31) + cn (isWv κ) (κ.I 0 31) + 6000 := by
  have dr := va.1
  have key : ∀ j : Nat, κ.I 0 31 + j ≤ κ.I 0 20 → smP (fun _ => True) (κ.I 32) (κ.I 0 31 + j) + cn (isWv κ) (κ.I 0 31 + j) ≤ smP (fun _ => True) (κ.I 32) (κ.I 0 31) + cn (isWv κ) (κ.I 0 31) + 250 * j := by
    intro j
    induction j with
    | zero =>
      intro _
      rw [show κ.I 0 31 + ((0 : Nat) : Int) = κ.I 0 31 by omega]
      omega
    | succ j ih =>
      intro hj
      have i := ih (by omega)
      have z := va.2.2 (κ.I 0 31 + j) (by omega) (by omega)
      rw [smP_t _ _ (κ.I 0 31 + j) _ (by omega) (by omega) trivial, cn_s _ (κ.I 0 31 + j) _ (by omega) (by omega)]
      have b := z.1
      by_cases w : isWv κ (κ.I 0 31 + j)
      · have y := z.2 w
        rw [zb_t w]
        omega
      · rw [zb_f w]
        omega
  have k := key (κ.I 0 20 - κ.I 0 31).toNat (by omega)
  rw [show κ.I 0 31 + (((κ.I 0 20 - κ.I 0 31).toNat : Nat) : Int) = κ.I 0 20 by omega] at k
  omega
/-- what of the terms the packing wants -/
def TEK (κ : Sto) : Prop := 0 ≤ κ.I 18 7 ∧ (0 ≤ κ.I 0 32 ∧ κ.I 0 32 ≤ κ.I 18 7) ∧ DTX κ ∧ ∀ s, 0 ≤ s → s < κ.I 18 7 → 0 ≤ κ.I 20 s ∧ κ.I 20 s < κ.I 0 9
theorem TEK_of (te : rTE κ) : TEK κ := ⟨te.2.1.1, ⟨te.2.2.1.1, te.2.2.1.2.1⟩, te.2.2.2.1, te.2.2.2.2.1⟩
theorem TE_pk (te : TEK κ) (dr : 0 ≤ κ.I 0 31 ∧ κ.I 0 31 ≤ κ.I 0 20) (hP : LAP κ) (h : LAYR κ ρ) (va' : XVF ρ) : rTE ρ := by
  have al := LAYR_all hP h
  obtain ⟨py, -, -, -, -, -, fr, -, -, -, tc, tu⟩ := al
  obtain ⟨ψ, pk, ⟨φ, t3, f1, f2, f3, f4, f5, f6, pt, pw⟩, -⟩ := h
  have tap := PKX_TAP pk hP
  obtain ⟨mva, pkf, p31⟩ := pk
  obtain ⟨m1, m2, m3, m4, m5, m6, m7, m8⟩ := mva
  obtain ⟨t31, t32, t37, t3r, -, -, -, -, -, t3m⟩ := t3
  obtain ⟨r3, r4, r5, r6⟩ := te
  have A : ∀ (c : Nat) (i : Int), ¬ wsT3 c i → ¬ wsT4 c → ρ.I c i = ψ.I c i := fun c i q0 q1 => (f1 c i q1).trans (t31 c i q0)
  have B : ∀ (c : Nat) (i : Int), ¬ wsLy c i → ψ.I c i = κ.I c i := pkf.1
  have dr' := va'.1
  have c20 := A 0 20 (by unfold wsT3; omega) (by unfold wsT4; omega)
  have c29 := A 0 29 (by unfold wsT3; omega) (by unfold wsT4; omega)
  have c30 := A 0 30 (by unfold wsT3; omega) (by unfold wsT4; omega)
  have c31 := A 0 31 (by unfold wsT3; omega) (by unfold wsT4; omega)
  have g31 : ρ.I 31 = ψ.I 31 := funext fun i => A 31 i (by unfold wsT3; omega) (by unfold wsT4; omega)
  have g32 : ρ.I 32 = ψ.I 32 := funext fun i => A 32 i (by unfold wsT3; omega) (by unfold wsT4; omega)
  have g26 : ρ.I 26 = ψ.I 26 := funext fun i => A 26 i (by unfold wsT3; omega) (by unfold wsT4; omega)
  have g16 : ρ.I 16 = ψ.I 16 := funext fun i => A 16 i (by unfold wsT3; omega) (by unfold wsT4; omega)
  have wv : isWv ρ = isWv ψ := by funext v; unfold isWv; rw [g16, g26]
  have c187 : ρ.I 18 7 = tmN ψ (κ.I 18 7) := (f1 18 7 (by unfold wsT4; omega)).trans t37
  have c032 : ρ.I 0 32 = tmN ψ (min (κ.I 18 7) (κ.I 0 32)) := (f1 0 32 (by unfold wsT4; omega)).trans t3m
  have n7 : 0 ≤ κ.I 18 7 := r3
  have cnt : tmN ψ (κ.I 18 7) ≤ smP (fun _ => True) (ρ.I 32) (ρ.I 0 20) + cn (isWv ρ) (ρ.I 0 20) := by
    have z := us_cn (σ := ψ) (fun v v0 v1 => by rw [← g32]; exact (va'.2.2 v v0 (by rw [c20]; exact v1)).1.1) (κ.I 18 7).toNat (ψ.I 0 20).toNat (by rw [Int.toNat_of_nonneg (by omega)]; exact Int.le_refl _)
    rw [Int.toNat_of_nonneg n7, Int.toNat_of_nonneg (show 0 ≤ ψ.I 0 20 by omega)] at z
    rw [g32, wv, c20]
    exact z
  have tot := va'.2.1
  have few := dr_cn va'
  have nn7 : 0 ≤ tmN ψ (κ.I 18 7) := by have := cn_in (ust ψ) (κ.I 18 7); unfold tmN; omega
  have nm : 0 ≤ tmN ψ (min (κ.I 18 7) (κ.I 0 32)) := by have := cn_in (ust ψ) (min (κ.I 18 7) (κ.I 0 32)); unfold tmN; omega
  have mo : tmN ψ (min (κ.I 18 7) (κ.I 0 32)) ≤ tmN ψ (κ.I 18 7) := cn_mo (by omega) (by omega)
  have ta : ∀ x, tkAt ρ x = tkAt ψ x := fun x => by unfold tkAt; rw [c20, c29, g31]
  have low : ∀ s, 0 ≤ s → s < κ.I 0 32 → ust ψ s → tmN ψ s < tmN ψ (min (κ.I 18 7) (κ.I 0 32)) := fun s s0 s1 us => cn_lt s0 (by omega) us
  refine ⟨⟨tc, tu⟩, ?_, ?_, ?_, fun s s0 s1 => ?_, ?_, ?_⟩
  · rw [c187]; omega
  · rw [c032, c187]; omega
  · refine ⟨by rw [c032, c187]; exact mo, fun v v0 v1 => ?_⟩
    rw [c31, p31] at v1
    obtain ⟨u, ⟨u0, u1⟩, uk, ue⟩ := nX_on dr.1 v0 v1
    have u2 : u < κ.I 0 20 := by omega
    obtain ⟨k1, k2, k3, k4, k5, k6⟩ := m1 u u0 u2 uk
    have d5 := r5.2 u u0 u1
    have lt : nX κ u < ψ.I 0 20 := by rw [m5]; exact cn_lt u0 u2 uk
    have nn : 0 ≤ nX κ u := by omega
    have e16 : ψ.I 16 = κ.I 16 := funext fun i => B 16 i (by unfold wsLy; omega)
    rw [← ue]
    refine ⟨fun w => ?_, fun i i0 i1 => ?_⟩
    · rw [g16, g26] at w
      have g3 := f3 (nX κ u) ⟨nn, Or.inl lt⟩ w
      rw [g3, c032, k1 33 (by omega)]
      have w' : κ.I 16 (κ.I 26 u) = 1 := by rw [e16, k1 26 (by omega)] at w; exact w
      have h33 := (hP.2.2.2.2.2.2.2 u u0 u2).1 w'
      exact low _ h33.1.1 (d5.1 w') ⟨nX κ u, nn, lt, Or.inl ⟨w, k1 33 (by omega)⟩⟩
    · rw [g32, k1 32 (by omega)] at i1
      have e36 := k5 36 i (by omega) i0 i1
      have nt : 0 ≤ sTX κ u := (MVA_b hP.1 u0 (by omega)).2.2.1.1
      have inn : sTX κ u + i < tkAt ψ (ψ.I 0 20) := by
        unfold tkAt
        rw [if_neg (by omega), m7]
        have z : sTX κ u + κ.I 32 u ≤ sTX κ (κ.I 0 20) := smP_mo u0 u2 uk (fun k k0 k1 => (hP.1.2.1 k k0 (by omega)).2.2.1.1)
        omega
      rw [g31, k3, f5 _ (by omega) inn, c032, e36]
      exact low _ ((hP.2.2.2.2.2.2.2 u u0 u2).2 i i0 i1).1.1 (d5.2 i i0 i1) ⟨nX κ u, nn, lt, Or.inr ⟨i, i0, by rw [k1 32 (by omega)]; exact i1, by rw [k3]; exact e36⟩⟩
  · rw [c187] at s1
    have z := cn_on (p := ust ψ) s0 (κ.I 18 7).toNat (by rw [Int.toNat_of_nonneg n7]; exact s1)
    rw [Int.toNat_of_nonneg n7] at z
    obtain ⟨t, ⟨t0, t1⟩, us, te'⟩ := z
    have w := (t3r t t0 t1 us).2.2.1
    have w2 := r6 t t0 t1
    rw [show tmN ψ t = s from te', B 20 t (by unfold wsLy; omega)] at w
    rw [f1 20 s (by unfold wsT4; omega), w, py.2.2.2.2]
    exact w2
  · rw [ta, c31]
    rw [show min (ψ.I 0 20) (ψ.I 0 31) = ψ.I 0 31 by omega] at pt
    exact pt
  · rw [c31]
    rw [show min (ψ.I 0 20) (ψ.I 0 31) = ψ.I 0 31 by omega] at pw
    exact pw
end LYR

