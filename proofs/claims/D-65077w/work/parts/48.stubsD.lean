section
/-! contracts: printed by tools/mk.py out of s48_pars.py -/
set_option maxRecDepth 100000
set_option maxHeartbeats 1500000
/-! the reading of a question -/
abbrev PE : Type := (Int → Int) × Int × (Int → Int) × Int
abbrev PE.B (e : PE) : Int → Int := e.1
abbrev PE.n (e : PE) : Int := e.2.1
abbrev PE.K (e : PE) : Int → Int := e.2.2.1
abbrev PE.f (e : PE) : Int := e.2.2.2
/-- where it is, how many ones, how many nodes, the table: kind first next sign times field from to slop low high radius -/
abbrev PS : Type := Int × Int × Int × (Nat → Int → Int)
abbrev PS.p (s : PS) : Int := s.1
abbrev PS.on (s : PS) : Int := s.2.1
abbrev PS.nc (s : PS) : Int := s.2.2.1
abbrev PS.T (s : PS) : Nat → Int → Int := s.2.2.2
noncomputable def hc (e : PE) (p : Int) : Int := if p < e.n then e.B p % 256 else -1
abbrev dg (c : Int) : Prop := 48 ≤ c ∧ c ≤ 57
def ptb (c : Int) : Prop := isLet c ∨ c = 42 ∨ c = 63
def bgn (c : Int) : Prop := c = 40 ∨ c = 123 ∨ c = 62 ∨ c = 60 ∨ c = 34 ∨ c = 91 ∨ c = 64 ∨ ptb c
def PS.to (s : PS) (p : Int) : PS := ⟨p, s.on, s.nc, s.T⟩
def PS.o1 (s : PS) : PS := ⟨s.p, s.on + 1, s.nc, s.T⟩
def PS.up (s : PS) (c : Nat) (k v : Int) : PS := ⟨s.p, s.on, s.nc, fun c' k' => if c' = c ∧ k' = k then v else s.T c' k'⟩
def PS.ad (s : PS) (p : Int) (g : Nat → Int) : PS := ⟨p, s.on, s.nc + 1, fun c k => if k = s.nc then g c else s.T c k⟩
def rowN (kd fi fr : Int) : Nat → Int := fun c => if c = 0 then kd else if c = 1 then fi else if c = 2 then -1 else if c = 4 then 1 else if c = 6 then fr else 0
abbrev LD : Type := Int × Int × Int × Int × Int × Int × Int × Int
abbrev LD.p (l : LD) : Int := l.1
abbrev LD.kd (l : LD) : Int := l.2.1
abbrev LD.fr (l : LD) : Int := l.2.2.1
abbrev LD.to (l : LD) : Int := l.2.2.2.1
abbrev LD.sl (l : LD) : Int := l.2.2.2.2.1
abbrev LD.lo (l : LD) : Int := l.2.2.2.2.2.1
abbrev LD.hi (l : LD) : Int := l.2.2.2.2.2.2.1
abbrev LD.rd (l : LD) : Int := l.2.2.2.2.2.2.2
def rowL (l : LD) (f : Int) : Nat → Int := fun c => if c = 0 then l.kd else if c = 1 ∨ c = 2 then -1 else if c = 4 then 1 else if c = 5 then f else if c = 6 then l.fr else if c = 7 then l.to else if c = 8 then l.sl else if c = 9 then l.lo else if c = 10 then l.hi else if c = 11 then l.rd else 0
def bd {A C : Type} (x : Int ⊕ A) (f : A → Int ⊕ C) : Int ⊕ C := match x with
  | .inl c => .inl c
  | .inr a => f a
theorem bd_l {A C : Type} {x : Int ⊕ A} {f : A → Int ⊕ C} {c : Int} (h : x = .inl c) : bd x f = .inl c := by rw [h]; rfl
theorem bd_r {A C : Type} {x : Int ⊕ A} {f : A → Int ⊕ C} {a : A} (h : x = .inr a) : bd x f = f a := by rw [h]; rfl
/-- a byte that must be there -/
noncomputable def nb (e : PE) (c p : Int) : Int ⊕ Int := if hc e p = c then .inr (p + 1) else .inl (-10 - p)
theorem nb_t {e : PE} {c p : Int} (h : hc e p = c) : nb e c p = .inr (p + 1) := if_pos h
theorem nb_f {e : PE} {c p : Int} (h : hc e p ≠ c) : nb e c p = .inl (-10 - p) := if_neg h
/-- where what is of a kind from b on ends -/
noncomputable def enF (P : Int → Prop) (b to : Int) : Int := if fsF (fun k => ¬ P k) b to = -1 then to else fsF (fun k => ¬ P k) b to
theorem enF_e {P : Int → Prop} {b to : Int} (h : to ≤ b) : enF P b to = to := by unfold enF; rw [fsF_e _ _ _ h, if_pos rfl]
theorem enF_t {P : Int → Prop} {b to : Int} (h0 : 0 ≤ b) (h : b < to) (hp : ¬ P b) : enF P b to = b := by unfold enF; rw [fsF_t _ _ _ h hp, if_neg (by omega)]
theorem enF_s {P : Int → Prop} {b to : Int} (h : b < to) (hp : P b) : enF P b to = enF P (b + 1) to := by unfold enF; rw [fsF_f _ b (b + 1) to h rfl (fun z => z hp)]
theorem enF_b {P : Int → Prop} {b to : Int} (h0 : 0 ≤ b) (h : b ≤ to) : b ≤ enF P b to ∧ enF P b to ≤ to := by
  unfold enF
  rcases fsF_in (fun k => ¬ P k) b to with z | ⟨z1, z2, _⟩
  · rw [if_pos z]; omega
  · rw [if_neg (by omega)]; omega
theorem enF_gt {P : Int → Prop} {b to : Int} (h0 : 0 ≤ b) (h : b < to) (hp : P b) : b < enF P b to := by
  rw [enF_s h hp]
  have := (enF_b (P := P) (b := b + 1) (to := to) (by omega) (by omega)).1
  omega
/-! digits -/
def dVN (B : Int → Int) (i : Int) : Nat → Int
  | 0 => 0
  | k + 1 => 10 * dVN B i k + (B (i + k) - 48)
def dV (B : Int → Int) (i j : Int) : Int := dVN B i (j - i).toNat
theorem dV_0 {B : Int → Int} {i j : Int} (h : j ≤ i) : dV B i j = 0 := by unfold dV; rw [show (j - i).toNat = 0 by omega]; rfl
theorem dV_s {B : Int → Int} {i j m : Int} (h : i ≤ j) (hm : m = j + 1) : dV B i m = 10 * dV B i j + (B j - 48) := by
  unfold dV
  rw [show (m - i).toNat = (j - i).toNat + 1 by omega]
  show 10 * dVN B i (j - i).toNat + (B (i + ((j - i).toNat : Nat)) - 48) = _
  rw [show i + (((j - i).toNat : Nat) : Int) = j by omega]
theorem dVN_b {B : Int → Int} {i : Int} : ∀ k : Nat, (∀ j : Int, i ≤ j → j < i + k → dg (B j)) → 0 ≤ dVN B i k ∧ dVN B i k + 1 ≤ 10 ^ k := by
  intro k
  induction k with
  | zero => intro _; exact ⟨Int.le_refl _, Int.le_refl _⟩
  | succ k ih =>
    intro h
    have h1 := ih (fun j a b => h j a (by omega))
    have h2 := h (i + k) (by omega) (by omega)
    have e : (10 : Int) ^ (k + 1) = 10 ^ k * 10 := Int.pow_succ 10 k
    constructor
    · show 0 ≤ 10 * dVN B i k + (B (i + k) - 48); omega
    · show 10 * dVN B i k + (B (i + k) - 48) + 1 ≤ _; omega
theorem p10_le : ∀ k : Fin 19, (10 : Int) ^ k.val ≤ 1000000000000000000 := by decide
theorem p10_le9 : ∀ k : Fin 10, (10 : Int) ^ k.val ≤ 1000000000 := by decide
theorem dV_b {B : Int → Int} {i j : Int} (h : alF (fun k => dg (B k)) i j) (hj : j - i ≤ 18) : 0 ≤ dV B i j ∧ dV B i j < 1000000000000000000 := by
  have h1 := dVN_b (B := B) (i := i) (j - i).toNat (fun q a b => h q a (by omega))
  have h2 := p10_le ⟨(j - i).toNat, by omega⟩
  unfold dV
  simp only at h2
  omega
theorem dV_b9 {B : Int → Int} {i j : Int} (h : alF (fun k => dg (B k)) i j) (hj : j - i ≤ 9) : 0 ≤ dV B i j ∧ dV B i j < 1000000000 := by
  have h1 := dVN_b (B := B) (i := i) (j - i).toNat (fun q a b => h q a (by omega))
  have h2 := p10_le9 ⟨(j - i).toNat, by omega⟩
  unfold dV
  simp only at h2
  omega
/-- a number's first digit's place; what it is -/
noncomputable def vS (e : PE) (p : Int) : Int := if hc e p = 45 then p + 1 else p
noncomputable def vE (e : PE) (p : Int) : Int := enF (fun k => dg (hc e k)) (vS e p) e.n
noncomputable def vR (e : PE) (m p : Int) : Int ⊕ (Int × Int) :=
  if ¬ dg (hc e (vS e p)) then .inl (-10 - vS e p) else if m < vE e p - vS e p then .inl (-10 - (vS e p + m))
  else .inr (if hc e p = 45 then -dV (hc e) (vS e p) (vE e p) else dV (hc e) (vS e p) (vE e p), vE e p)
noncomputable def rgR (e : PE) (p : Int) : Int ⊕ LD :=
  bd (if hc e (p + 1) = 46 then .inr (-9223372036854775808, p + 1) else vR e 18 (p + 1)) fun a => bd (nb e 46 a.2) fun p2 => bd (nb e 46 p2) fun p3 =>
    bd (if hc e p3 = 93 then .inr (9223372036854775807, p3) else vR e 18 p3) fun b => bd (nb e 93 b.2) fun p5 => .inr ⟨p5, 9, 0, 0, 0, a.1, b.1, 0⟩
noncomputable def nrR (e : PE) (p : Int) : Int ⊕ LD :=
  bd (vR e 9 (p + 1)) fun a => bd (nb e 44 a.2) fun p2 => bd (vR e 9 p2) fun b => bd (nb e 44 b.2) fun p4 =>
    if hc e p4 = 45 then .inl (-10 - p4) else bd (vR e 9 p4) fun c => .inr ⟨c.2, 10, 0, 0, 0, a.1, b.1, c.1⟩
/-- a text in quotes -/
noncomputable def qtE (e : PE) (p : Int) : Int := enF (fun k => hc e k ≠ 34) (p + 1) e.n
noncomputable def qtR (e : PE) (kd p : Int) : Int ⊕ LD :=
  if e.n ≤ qtE e p then .inl (-10 - e.n)
  else if kd = 0 ∧ hc e (qtE e p + 1) = 126 then
    (if dg (hc e (qtE e p + 2)) then .inr ⟨qtE e p + 3, 7, p + 1, qtE e p, hc e (qtE e p + 2) - 48, 0, 0, 0⟩ else .inl (-10 - (qtE e p + 2)))
  else .inr ⟨qtE e p + 1, if kd = 0 then 7 else 8, p + 1, qtE e p, 0, 0, 0, 0⟩
/-- a pattern -/
noncomputable def ptE (e : PE) (p : Int) : Int := enF (fun k => ptb (hc e k)) p e.n
noncomputable def ptW (e : PE) (p : Int) : Int := zb (exF (fun k => hc e k = 42 ∨ hc e k = 63) p (ptE e p))
noncomputable def ptR (e : PE) (kd p : Int) : Int ⊕ LD :=
  if 20 < ptE e p - p then .inl (-10 - (p + 20))
  else if ptE e p = p + 1 ∧ e.B p = 42 then .inl (-10 - ptE e p)
  else if ptW e p = 1 then .inr ⟨ptE e p, 11, p, ptE e p, 0, 0, 0, 0⟩
  else if hc e (ptE e p) = 126 then
    (if 48 ≤ hc e (ptE e p + 1) ∧ hc e (ptE e p + 1) ≤ 51 then .inr ⟨ptE e p + 2, 12, p, ptE e p, hc e (ptE e p + 1) - 48, 0, 0, 0⟩ else .inl (-10 - (ptE e p + 1)))
  else .inr ⟨ptE e p, if kd = 0 then 7 else 8, p, ptE e p, 0, 0, 0, 0⟩
/-- a field's number with a colon -/
noncomputable def fhN (e : PE) (p : Int) : Int := if p < e.n ∧ dg (e.B p) then (if p + 1 < e.n ∧ dg (e.B (p + 1)) then 2 else 1) else 0
def fhT (e : PE) (p : Int) : Prop := fhN e p ≠ 0 ∧ p + fhN e p < e.n ∧ e.B (p + fhN e p) = 58
noncomputable def fhF (e : PE) (p : Int) : Int := if zb (fhT e p) = 1 then dV e.B p (p + fhN e p) else 0
noncomputable def fhP (e : PE) (p : Int) : Int := if zb (fhT e p) = 1 then p + fhN e p + 1 else p
/-- a leaf from p on, its field f -/
def lfG (e : PE) (f p : Int) : Prop := (0 ≤ f ∧ f < e.f) ∧ (if hc e p = 34 then e.K f = 0 ∨ e.K f = 1 else if hc e p = 91 then e.K f = 2 else if hc e p = 64 then e.K f = 3 else ptb (hc e p) ∧ (e.K f = 0 ∨ e.K f = 1))
noncomputable def lfR (e : PE) (f p : Int) : Int ⊕ LD :=
  if zb (lfG e f p) = 0 then .inl (-10 - p)
  else if hc e p = 34 then qtR e (e.K f) p else if hc e p = 91 then rgR e p else if hc e p = 64 then nrR e p else ptR e (e.K f) p
section LVS
variable {e : PE} {p q q1 q2 q3 k m f kd lo hi x y r c : Int} {l : LD}
theorem hc_b {e : PE} {p : Int} (h : hc e p ≠ -1) : p < e.n := by
  unfold hc at h
  split at h
  · assumption
  · exact absurd rfl h
theorem hc_o {e : PE} {p : Int} (h : e.n ≤ p) : hc e p = -1 := by unfold hc; rw [if_neg (by omega)]
theorem hc_i {e : PE} {p : Int} : hc e p = -1 ∨ (-1 < hc e p ∧ hc e p ≤ 255) := by
  unfold hc
  split
  · omega
  · exact Or.inl rfl
theorem vR_1 (h : ¬ dg (hc e (vS e p))) : vR e m p = .inl (-10 - vS e p) := if_pos h
theorem vR_2 (h0 : 0 ≤ vS e p) (hm : 0 ≤ m) (h : dg (hc e (vS e p))) (hq : enF (fun k => dg (hc e k)) (vS e p + m) e.n = vE e p) (hd : dg (hc e (vS e p + m))) : vR e m p = .inl (-10 - (vS e p + m)) := by
  have h1 := enF_gt (P := fun k => dg (hc e k)) (b := vS e p + m) (to := e.n) (by omega) (hc_b (by omega)) hd
  unfold vR
  rw [if_neg (fun z => z h), if_pos (by omega)]
theorem vR_3 (h0 : 0 ≤ vS e p) (hk : 0 ≤ k ∧ k ≤ m) (hn : vS e p + k ≤ e.n) (h : dg (hc e (vS e p))) (hq : enF (fun k => dg (hc e k)) (vS e p + k) e.n = vE e p) (hd : ¬ dg (hc e (vS e p + k))) : vR e m p = .inr (if hc e p = 45 then -dV (hc e) (vS e p) (vS e p + k) else dV (hc e) (vS e p) (vS e p + k), vS e p + k) := by
  have h1 : vE e p = vS e p + k := by
    rw [← hq]
    by_cases z : vS e p + k < e.n
    · exact enF_t (by omega) z hd
    · rw [enF_e (by omega)]; omega
  unfold vR
  rw [if_neg (fun z => z h), h1, if_neg (by omega)]
theorem rgR_ok (h1 : (if hc e (p + 1) = 46 then (.inr (-9223372036854775808, p + 1) : Int ⊕ (Int × Int)) else vR e 18 (p + 1)) = .inr (lo, q1)) (h2 : hc e q1 = 46) (h3 : hc e (q1 + 1) = 46) (h4 : (if hc e (q1 + 1 + 1) = 93 then (.inr (9223372036854775807, q1 + 1 + 1) : Int ⊕ (Int × Int)) else vR e 18 (q1 + 1 + 1)) = .inr (hi, q2)) (h5 : hc e q2 = 93) : rgR e p = .inr ⟨q2 + 1, 9, 0, 0, 0, lo, hi, 0⟩ := by
  unfold rgR
  rw [h1]
  show bd (nb e 46 q1) _ = _
  rw [nb_t h2]
  show bd (nb e 46 (q1 + 1)) _ = _
  rw [nb_t h3]
  show bd (if hc e (q1 + 1 + 1) = 93 then _ else _) _ = _
  rw [h4]
  show bd (nb e 93 q2) _ = _
  rw [nb_t h5]
  rfl
theorem rgR_1 (h1 : (if hc e (p + 1) = 46 then (.inr (-9223372036854775808, p + 1) : Int ⊕ (Int × Int)) else vR e 18 (p + 1)) = .inl c) : rgR e p = .inl c := by unfold rgR; rw [h1]; rfl
theorem rgR_2 (h1 : (if hc e (p + 1) = 46 then (.inr (-9223372036854775808, p + 1) : Int ⊕ (Int × Int)) else vR e 18 (p + 1)) = .inr (lo, q1)) (h2 : hc e q1 ≠ 46) : rgR e p = .inl (-10 - q1) := by
  unfold rgR
  rw [h1]
  show bd (nb e 46 q1) _ = _
  rw [nb_f h2]; rfl
theorem rgR_3 (h1 : (if hc e (p + 1) = 46 then (.inr (-9223372036854775808, p + 1) : Int ⊕ (Int × Int)) else vR e 18 (p + 1)) = .inr (lo, q1)) (h2 : hc e q1 = 46) (h3 : hc e (q1 + 1) ≠ 46) : rgR e p = .inl (-10 - (q1 + 1)) := by
  unfold rgR
  rw [h1]
  show bd (nb e 46 q1) _ = _
  rw [nb_t h2]
  show bd (nb e 46 (q1 + 1)) _ = _
  rw [nb_f h3]; rfl
theorem rgR_4 (h1 : (if hc e (p + 1) = 46 then (.inr (-9223372036854775808, p + 1) : Int ⊕ (Int × Int)) else vR e 18 (p + 1)) = .inr (lo, q1)) (h2 : hc e q1 = 46) (h3 : hc e (q1 + 1) = 46) (h4 : (if hc e (q1 + 1 + 1) = 93 then (.inr (9223372036854775807, q1 + 1 + 1) : Int ⊕ (Int × Int)) else vR e 18 (q1 + 1 + 1)) = .inl c) : rgR e p = .inl c := by
  unfold rgR
  rw [h1]
  show bd (nb e 46 q1) _ = _
  rw [nb_t h2]
  show bd (nb e 46 (q1 + 1)) _ = _
  rw [nb_t h3]
  show bd (if hc e (q1 + 1 + 1) = 93 then _ else _) _ = _
  rw [h4]; rfl
theorem rgR_5 (h1 : (if hc e (p + 1) = 46 then (.inr (-9223372036854775808, p + 1) : Int ⊕ (Int × Int)) else vR e 18 (p + 1)) = .inr (lo, q1)) (h2 : hc e q1 = 46) (h3 : hc e (q1 + 1) = 46) (h4 : (if hc e (q1 + 1 + 1) = 93 then (.inr (9223372036854775807, q1 + 1 + 1) : Int ⊕ (Int × Int)) else vR e 18 (q1 + 1 + 1)) = .inr (hi, q2)) (h5 : hc e q2 ≠ 93) : rgR e p = .inl (-10 - q2) := by
  unfold rgR
  rw [h1]
  show bd (nb e 46 q1) _ = _
  rw [nb_t h2]
  show bd (nb e 46 (q1 + 1)) _ = _
  rw [nb_t h3]
  show bd (if hc e (q1 + 1 + 1) = 93 then _ else _) _ = _
  rw [h4]
  show bd (nb e 93 q2) _ = _
  rw [nb_f h5]; rfl
theorem nrR_ok (h1 : vR e 9 (p + 1) = .inr (x, q1)) (h2 : hc e q1 = 44) (h3 : vR e 9 (q1 + 1) = .inr (y, q2)) (h4 : hc e q2 = 44) (h5 : hc e (q2 + 1) ≠ 45) (h6 : vR e 9 (q2 + 1) = .inr (r, q3)) : nrR e p = .inr ⟨q3, 10, 0, 0, 0, x, y, r⟩ := by
  unfold nrR
  rw [h1]
  show bd (nb e 44 q1) _ = _
  rw [nb_t h2]
  show bd (vR e 9 (q1 + 1)) _ = _
  rw [h3]
  show bd (nb e 44 q2) _ = _
  rw [nb_t h4]
  show (if hc e (q2 + 1) = 45 then _ else _) = _
  rw [if_neg h5, h6]; rfl
theorem nrR_1 (h1 : vR e 9 (p + 1) = .inl c) : nrR e p = .inl c := by unfold nrR; rw [h1]; rfl
theorem nrR_2 (h1 : vR e 9 (p + 1) = .inr (x, q1)) (h2 : hc e q1 ≠ 44) : nrR e p = .inl (-10 - q1) := by
  unfold nrR
  rw [h1]
  show bd (nb e 44 q1) _ = _
  rw [nb_f h2]; rfl
theorem nrR_3 (h1 : vR e 9 (p + 1) = .inr (x, q1)) (h2 : hc e q1 = 44) (h3 : vR e 9 (q1 + 1) = .inl c) : nrR e p = .inl c := by
  unfold nrR
  rw [h1]
  show bd (nb e 44 q1) _ = _
  rw [nb_t h2]
  show bd (vR e 9 (q1 + 1)) _ = _
  rw [h3]; rfl
theorem nrR_4 (h1 : vR e 9 (p + 1) = .inr (x, q1)) (h2 : hc e q1 = 44) (h3 : vR e 9 (q1 + 1) = .inr (y, q2)) (h4 : hc e q2 ≠ 44) : nrR e p = .inl (-10 - q2) := by
  unfold nrR
  rw [h1]
  show bd (nb e 44 q1) _ = _
  rw [nb_t h2]
  show bd (vR e 9 (q1 + 1)) _ = _
  rw [h3]
  show bd (nb e 44 q2) _ = _
  rw [nb_f h4]; rfl
theorem nrR_5 (h1 : vR e 9 (p + 1) = .inr (x, q1)) (h2 : hc e q1 = 44) (h3 : vR e 9 (q1 + 1) = .inr (y, q2)) (h4 : hc e q2 = 44) (h5 : hc e (q2 + 1) = 45) : nrR e p = .inl (-10 - (q2 + 1)) := by
  unfold nrR
  rw [h1]
  show bd (nb e 44 q1) _ = _
  rw [nb_t h2]
  show bd (vR e 9 (q1 + 1)) _ = _
  rw [h3]
  show bd (nb e 44 q2) _ = _
  rw [nb_t h4]
  show (if hc e (q2 + 1) = 45 then _ else _) = _
  rw [if_pos h5]
theorem nrR_6 (h1 : vR e 9 (p + 1) = .inr (x, q1)) (h2 : hc e q1 = 44) (h3 : vR e 9 (q1 + 1) = .inr (y, q2)) (h4 : hc e q2 = 44) (h5 : hc e (q2 + 1) ≠ 45) (h6 : vR e 9 (q2 + 1) = .inl c) : nrR e p = .inl c := by
  unfold nrR
  rw [h1]
  show bd (nb e 44 q1) _ = _
  rw [nb_t h2]
  show bd (vR e 9 (q1 + 1)) _ = _
  rw [h3]
  show bd (nb e 44 q2) _ = _
  rw [nb_t h4]
  show (if hc e (q2 + 1) = 45 then _ else _) = _
  rw [if_neg h5, h6]; rfl
theorem qtE_at (h0 : 0 ≤ q) (hq : enF (fun k => hc e k ≠ 34) q e.n = qtE e p) (h : hc e q = 34) : qtE e p = q := by
  rw [← hq]
  exact enF_t h0 (hc_b (by omega)) (fun z => z h)
theorem qtR_0 (hq : enF (fun k => hc e k ≠ 34) q e.n = qtE e p) (h : e.n ≤ q) : qtR e kd p = .inl (-10 - e.n) := by
  rw [enF_e h] at hq
  unfold qtR
  rw [if_pos (by omega)]
theorem qtR_1 (hq : qtE e p = q) (h : q < e.n) (hk : ¬ (kd = 0 ∧ hc e (q + 1) = 126)) : qtR e kd p = .inr ⟨q + 1, if kd = 0 then 7 else 8, p + 1, q, 0, 0, 0, 0⟩ := by
  unfold qtR
  rw [hq, if_neg (by omega), if_neg hk]
theorem qtR_2 (hq : qtE e p = q) (h : q < e.n) (hk : kd = 0 ∧ hc e (q + 1) = 126) (hd : dg (hc e (q + 2))) : qtR e kd p = .inr ⟨q + 3, 7, p + 1, q, hc e (q + 2) - 48, 0, 0, 0⟩ := by
  unfold qtR
  rw [hq, if_neg (by omega), if_pos hk, if_pos hd]
theorem qtR_3 (hq : qtE e p = q) (h : q < e.n) (hk : kd = 0 ∧ hc e (q + 1) = 126) (hd : ¬ dg (hc e (q + 2))) : qtR e kd p = .inl (-10 - (q + 2)) := by
  unfold qtR
  rw [hq, if_neg (by omega), if_pos hk, if_neg hd]
theorem ptb_n (h : ptb (hc e p)) : p < e.n := hc_b (fun z => by rw [z] at h; unfold ptb isLet at h; omega)
theorem ptE_at (h0 : 0 ≤ q) (hn : q ≤ e.n) (hq : enF (fun k => ptb (hc e k)) q e.n = ptE e p) (h : ¬ ptb (hc e q)) : ptE e p = q := by
  rw [← hq]
  by_cases z : q < e.n
  · exact enF_t h0 z h
  · rw [enF_e (by omega)]; omega
theorem ptR_0 (h0 : 0 ≤ p) (hq : enF (fun k => ptb (hc e k)) (p + 20) e.n = ptE e p) (h : ptb (hc e (p + 20))) : ptR e kd p = .inl (-10 - (p + 20)) := by
  have h1 := enF_gt (P := fun k => ptb (hc e k)) (b := p + 20) (to := e.n) (by omega) (ptb_n h) h
  unfold ptR
  rw [if_pos (by omega)]
theorem ptR_1 (hq : ptE e p = q) (h : q ≤ p + 20) (hs : q = p + 1 ∧ e.B p = 42) : ptR e kd p = .inl (-10 - q) := by
  unfold ptR
  rw [hq, if_neg (by omega), if_pos hs]
theorem ptR_2 (hq : ptE e p = q) (h : q ≤ p + 20) (hs : ¬ (q = p + 1 ∧ e.B p = 42)) (hw : exF (fun k => hc e k = 42 ∨ hc e k = 63) p q) : ptR e kd p = .inr ⟨q, 11, p, q, 0, 0, 0, 0⟩ := by
  unfold ptR ptW
  rw [hq, if_neg (by omega), if_neg hs, if_pos (zb_t hw)]
theorem ptR_3 (hq : ptE e p = q) (h : q ≤ p + 20) (hs : ¬ (q = p + 1 ∧ e.B p = 42)) (hw : ¬ exF (fun k => hc e k = 42 ∨ hc e k = 63) p q) (ht : hc e q ≠ 126) : ptR e kd p = .inr ⟨q, if kd = 0 then 7 else 8, p, q, 0, 0, 0, 0⟩ := by
  unfold ptR ptW
  rw [hq, if_neg (by omega), if_neg hs, if_neg (by rw [zb_f hw]; omega), if_neg ht]
theorem ptR_4 (hq : ptE e p = q) (h : q ≤ p + 20) (hs : ¬ (q = p + 1 ∧ e.B p = 42)) (hw : ¬ exF (fun k => hc e k = 42 ∨ hc e k = 63) p q) (ht : hc e q = 126) (hd : 48 ≤ hc e (q + 1) ∧ hc e (q + 1) ≤ 51) : ptR e kd p = .inr ⟨q + 2, 12, p, q, hc e (q + 1) - 48, 0, 0, 0⟩ := by
  unfold ptR ptW
  rw [hq, if_neg (by omega), if_neg hs, if_neg (by rw [zb_f hw]; omega), if_pos ht, if_pos hd]
theorem ptR_5 (hq : ptE e p = q) (h : q ≤ p + 20) (hs : ¬ (q = p + 1 ∧ e.B p = 42)) (hw : ¬ exF (fun k => hc e k = 42 ∨ hc e k = 63) p q) (ht : hc e q = 126) (hd : ¬ (48 ≤ hc e (q + 1) ∧ hc e (q + 1) ≤ 51)) : ptR e kd p = .inl (-10 - (q + 1)) := by
  unfold ptR ptW
  rw [hq, if_neg (by omega), if_neg hs, if_neg (by rw [zb_f hw]; omega), if_pos ht, if_neg hd]
theorem fhN_at (h0 : p ≤ k) (h1 : k ≤ p + 2) (hn : k ≤ e.n ∨ k = p) (hd : alF (fun j => dg (e.B j)) p k) (hs : e.n ≤ k ∨ p + 2 ≤ k ∨ ¬ dg (e.B k)) : fhN e p = k - p := by
  unfold fhN
  have : k = p ∨ k = p + 1 ∨ k = p + 2 := by omega
  rcases this with rfl | rfl | rfl
  · rw [if_neg (fun z => by rcases hs with y | y | y; (omega); (omega); (exact y z.2))]; omega
  · have d0 := hd p (Int.le_refl _) (by omega)
    rw [if_pos ⟨by omega, d0⟩, if_neg (fun z => by rcases hs with y | y | y; (omega); (omega); (exact y z.2))]; omega
  · have d0 := hd p (Int.le_refl _) (by omega)
    have d1 := hd (p + 1) (by omega) (by omega)
    rw [if_pos ⟨by omega, d0⟩, if_pos ⟨by omega, d1⟩]; omega
end LVS
/-! the reading as an automaton with a stack -/
abbrev PCt : Type := Int ⊕ Int ⊕ Int ⊕ (Int × Int) ⊕ Int ⊕ Int ⊕ (Int × Int × Int) ⊕ (Int × Int × Int) ⊕ (Int × Int × Int × Int) ⊕ (Int × Int × Int × Int)
abbrev PCt.any (a : Int) : PCt := .inl a
abbrev PCt.best (a : Int) : PCt := .inr (.inl a)
abbrev PCt.all (a : Int) : PCt := .inr (.inr (.inl a))
abbrev PCt.part (a sg : Int) : PCt := .inr (.inr (.inr (.inl (a, sg))))
abbrev PCt.one (a : Int) : PCt := .inr (.inr (.inr (.inr (.inl a))))
abbrev PCt.ret (v : Int) : PCt := .inr (.inr (.inr (.inr (.inr (.inl v)))))
abbrev PCt.la (a f l : Int) : PCt := .inr (.inr (.inr (.inr (.inr (.inr (.inl (a, f, l)))))))
abbrev PCt.lb (a f l : Int) : PCt := .inr (.inr (.inr (.inr (.inr (.inr (.inr (.inl (a, f, l))))))))
abbrev PCt.lc (a f l w : Int) : PCt := .inr (.inr (.inr (.inr (.inr (.inr (.inr (.inr (.inl (a, f, l, w)))))))))
abbrev PCt.ls (a f l m : Int) : PCt := .inr (.inr (.inr (.inr (.inr (.inr (.inr (.inr (.inr (a, f, l, m)))))))))
abbrev PFr : Type := Int ⊕ (Int × Int × Int) ⊕ Int ⊕ (Int × Int × Int) ⊕ Int ⊕ (Int × Int × Int × Int) ⊕ Int ⊕ Unit ⊕ Int ⊕ (Int × Int) ⊕ (Int × Int × Int × Int)
abbrev PFr.a1 (a : Int) : PFr := .inl a
abbrev PFr.aL (a f l : Int) : PFr := .inr (.inl (a, f, l))
abbrev PFr.b1 (a : Int) : PFr := .inr (.inr (.inl a))
abbrev PFr.bL (a f l : Int) : PFr := .inr (.inr (.inr (.inl (a, f, l))))
abbrev PFr.c1 (a : Int) : PFr := .inr (.inr (.inr (.inr (.inl a))))
abbrev PFr.cL (a f l w : Int) : PFr := .inr (.inr (.inr (.inr (.inr (.inl (a, f, l, w))))))
abbrev PFr.pt (sg : Int) : PFr := .inr (.inr (.inr (.inr (.inr (.inr (.inl sg))))))
abbrev PFr.pr : PFr := .inr (.inr (.inr (.inr (.inr (.inr (.inr (.inl ())))))))
abbrev PFr.up (k : Int) : PFr := .inr (.inr (.inr (.inr (.inr (.inr (.inr (.inr (.inl k))))))))
abbrev PFr.s1 (a m : Int) : PFr := .inr (.inr (.inr (.inr (.inr (.inr (.inr (.inr (.inr (.inl (a, m))))))))))
abbrev PFr.sL (a f l m : Int) : PFr := .inr (.inr (.inr (.inr (.inr (.inr (.inr (.inr (.inr (.inr (a, f, l, m))))))))))
theorem PCt.cs {motive : PCt → Prop} (any : ∀ a : Int, motive (PCt.any a)) (best : ∀ a : Int, motive (PCt.best a)) (all : ∀ a : Int, motive (PCt.all a)) (part : ∀ a sg : Int, motive (PCt.part a sg)) (one : ∀ a : Int, motive (PCt.one a)) (ret : ∀ v : Int, motive (PCt.ret v)) (la : ∀ a f l : Int, motive (PCt.la a f l)) (lb : ∀ a f l : Int, motive (PCt.lb a f l)) (lc : ∀ a f l w : Int, motive (PCt.lc a f l w)) (ls : ∀ a f l m : Int, motive (PCt.ls a f l m)) (t : PCt) : motive t := by
  rcases t with a | a | a | ⟨a, sg⟩ | a | v | ⟨a, f, l⟩ | ⟨a, f, l⟩ | ⟨a, f, l, w⟩ | ⟨a, f, l, m⟩
  · exact any a
  · exact best a
  · exact all a
  · exact part a sg
  · exact one a
  · exact ret v
  · exact la a f l
  · exact lb a f l
  · exact lc a f l w
  · exact ls a f l m
theorem PFr.cs {motive : PFr → Prop} (a1 : ∀ a : Int, motive (PFr.a1 a)) (aL : ∀ a f l : Int, motive (PFr.aL a f l)) (b1 : ∀ a : Int, motive (PFr.b1 a)) (bL : ∀ a f l : Int, motive (PFr.bL a f l)) (c1 : ∀ a : Int, motive (PFr.c1 a)) (cL : ∀ a f l w : Int, motive (PFr.cL a f l w)) (pt : ∀ sg : Int, motive (PFr.pt sg)) (pr : motive (PFr.pr)) (up : ∀ k : Int, motive (PFr.up k)) (s1 : ∀ a m : Int, motive (PFr.s1 a m)) (sL : ∀ a f l m : Int, motive (PFr.sL a f l m)) (t : PFr) : motive t := by
  rcases t with a | ⟨a, f, l⟩ | a | ⟨a, f, l⟩ | a | ⟨a, f, l, w⟩ | sg | _ | k | ⟨a, m⟩ | ⟨a, f, l, m⟩
  · exact a1 a
  · exact aL a f l
  · exact b1 a
  · exact bL a f l
  · exact c1 a
  · exact cL a f l w
  · exact pt sg
  · exact pr
  · exact up k
  · exact s1 a m
  · exact sL a f l m
abbrev PZ : Type := PCt × List PFr × PS
abbrev PR : Type := Int ⊕ (Int × PS)
def jn (kd f l : Int) (s : PS) : Int × PS := if f = l then (f, s) else (s.nc, s.ad s.p (rowN kd f 0))
noncomputable def sgn (e : PE) (sg p : Int) : Int := if sg = 0 then 0 else if hc e p = 45 then 1 else if hc e p = 37 then 2 else 0
noncomputable def oneS (e : PE) (a : Int) (K : List PFr) (s : PS) : PZ ⊕ PR :=
  if zb (bgn (hc e s.p)) = 0 then .inr (.inl (-10 - s.p))
  else if s.on = 60 ∨ 11 < a then .inr (.inl (-3))
  else if hc e s.p = 40 then .inl (.any (a + 1), .pr :: K, s.o1.to (s.p + 1))
  else if hc e s.p = 123 then
    (if dg (hc e (s.p + 1)) then (if hc e (s.p + 2) = 32 then .inl (.part (a + 1) 0, .s1 (a + 1) (hc e (s.p + 1) - 48) :: K, s.o1.to (s.p + 3)) else .inr (.inl (-10 - (s.p + 2)))) else .inr (.inl (-10 - (s.p + 1))))
  else if hc e s.p = 62 then .inl (.one (a + 1), .up 4 :: K, s.o1.to (s.p + 1))
  else if hc e s.p = 60 then .inl (.one (a + 1), .up 5 :: K, s.o1.to (s.p + 1))
  else if hc e s.p = 42 ∧ zb (ptb (hc e (s.p + 1))) = 0 then .inl (.ret s.nc, K, s.o1.ad (s.p + 1) (rowN 6 (-1) 0))
  else match lfR e (fhF e s.p) (fhP e s.p) with
    | .inl c => .inr (.inl c)
    | .inr l => .inl (.ret s.nc, K, s.o1.ad l.p (rowL l (fhF e s.p)))
noncomputable def stp (e : PE) : PZ → PZ ⊕ PR
  | (.inl a, K, s) => .inl (.best a, .a1 a :: K, s)
  | (.inr (.inl a), K, s) => .inl (.all a, .b1 a :: K, s)
  | (.inr (.inr (.inl a)), K, s) => .inl (.part a 1, .c1 a :: K, s)
  | (.inr (.inr (.inr (.inl (a, sg)))), K, s) => .inl (.one a, .pt (sgn e sg s.p) :: K, s.to (if 0 < sgn e sg s.p then s.p + 1 else s.p))
  | (.inr (.inr (.inr (.inr (.inl a)))), K, s) => oneS e a K s
  | (.inr (.inr (.inr (.inr (.inr (.inr (.inl (a, f, l))))))), K, s) => if hc e s.p = 124 then .inl (.best a, .aL a f l :: K, s.to (s.p + 1)) else .inl (.ret (jn 0 f l s).1, K, (jn 0 f l s).2)
  | (.inr (.inr (.inr (.inr (.inr (.inr (.inr (.inl (a, f, l)))))))), K, s) => if hc e s.p = 47 then .inl (.all a, .bL a f l :: K, s.to (s.p + 1)) else .inl (.ret (jn 1 f l s).1, K, (jn 1 f l s).2)
  | (.inr (.inr (.inr (.inr (.inr (.inr (.inr (.inr (.inl (a, f, l, w))))))))), K, s) => if hc e s.p = 32 then .inl (.part a 1, .cL a f l w :: K, s.to (s.p + 1)) else if w = 1 then .inl (.ret (jn 2 f l s).1, K, (jn 2 f l s).2) else .inr (.inl (-10 - s.p))
  | (.inr (.inr (.inr (.inr (.inr (.inr (.inr (.inr (.inr (a, f, l, m))))))))), K, s) => if hc e s.p = 32 then .inl (.part a 0, .sL a f l m :: K, s.to (s.p + 1)) else if hc e s.p = 125 then .inl (.ret s.nc, K, s.ad (s.p + 1) (rowN 3 f m)) else .inr (.inl (-10 - s.p))
  | (.inr (.inr (.inr (.inr (.inr (.inl v))))), [], s) => .inr (.inr (v, s))
  | (.inr (.inr (.inr (.inr (.inr (.inl v))))), (.inl a) :: K, s) => .inl (.la a v v, K, s)
  | (.inr (.inr (.inr (.inr (.inr (.inl v))))), (.inr (.inl (a, f, l))) :: K, s) => .inl (.la a f v, K, s.up 2 l v)
  | (.inr (.inr (.inr (.inr (.inr (.inl v))))), (.inr (.inr (.inl a))) :: K, s) => .inl (.lb a v v, K, s)
  | (.inr (.inr (.inr (.inr (.inr (.inl v))))), (.inr (.inr (.inr (.inl (a, f, l))))) :: K, s) => .inl (.lb a f v, K, s.up 2 l v)
  | (.inr (.inr (.inr (.inr (.inr (.inl v))))), (.inr (.inr (.inr (.inr (.inl a))))) :: K, s) => .inl (.lc a v v (if s.T 3 v = 0 then 1 else 0), K, s)
  | (.inr (.inr (.inr (.inr (.inr (.inl v))))), (.inr (.inr (.inr (.inr (.inr (.inl (a, f, l, w))))))) :: K, s) => .inl (.lc a f v (if w = 1 ∨ s.T 3 v = 0 then 1 else 0), K, s.up 2 l v)
  | (.inr (.inr (.inr (.inr (.inr (.inl v))))), (.inr (.inr (.inr (.inr (.inr (.inr (.inl sg))))))) :: K, s) =>
    if hc e s.p = 94 then (if 49 ≤ hc e (s.p + 1) ∧ hc e (s.p + 1) ≤ 57 then .inl (.ret v, K, ((s.to (s.p + 2)).up 4 v (s.T 4 v * (hc e (s.p + 1) - 48))).up 3 v sg) else .inr (.inl (-10 - (s.p + 1))))
    else .inl (.ret v, K, s.up 3 v sg)
  | (.inr (.inr (.inr (.inr (.inr (.inl v))))), (.inr (.inr (.inr (.inr (.inr (.inr (.inr (.inl ())))))))) :: K, s) => if hc e s.p = 41 then .inl (.ret v, K, s.to (s.p + 1)) else .inr (.inl (-10 - s.p))
  | (.inr (.inr (.inr (.inr (.inr (.inl v))))), (.inr (.inr (.inr (.inr (.inr (.inr (.inr (.inr (.inl k))))))))) :: K, s) => .inl (.ret s.nc, K, s.ad s.p (rowN k v 0))
  | (.inr (.inr (.inr (.inr (.inr (.inl v))))), (.inr (.inr (.inr (.inr (.inr (.inr (.inr (.inr (.inr (.inl (a, m))))))))))) :: K, s) => .inl (.ls a v v m, K, s)
  | (.inr (.inr (.inr (.inr (.inr (.inl v))))), (.inr (.inr (.inr (.inr (.inr (.inr (.inr (.inr (.inr (.inr (a, f, l, m))))))))))) :: K, s) => .inl (.ls a f v m, K, s.up 2 l v)
noncomputable def rn (e : PE) (z : PZ) : PR := rs (.inl 0) (stp e) z
/-- from one place of the reading to another one, whatever is around -/
def RT (e : PE) (c : PCt) (s : PS) (c' : PCt) (s' : PS) : Prop := ∀ K, rn e (c, K, s) = rn e (c', K, s')
def RF (e : PE) (c : PCt) (s : PS) (x : Int) : Prop := ∀ K, rn e (c, K, s) = .inl x
abbrev RN (e : PE) (c : PCt) (s : PS) (v : Int) (s' : PS) : Prop := RT e c s (.ret v) s'
section RTs
variable {e : PE} {c0 : PCt} {s0 s s' : PS} {a f l v w m x sg k : Int}
theorem rn_s {z z' : PZ} (h : stp e z = .inl z') : rn e z = rn e z' := rs_s h
theorem rn_e {z : PZ} {r : PR} (h : stp e z = .inr r) : rn e z = r := rs_e h
theorem st_la1 {K : List PFr} (h : hc e s.p = 124) : stp e (.la a f l, K, s) = .inl (.best a, .aL a f l :: K, s.to (s.p + 1)) := if_pos h
theorem st_la2 {K : List PFr} (h : hc e s.p ≠ 124) : stp e (.la a f l, K, s) = .inl (.ret (jn 0 f l s).1, K, (jn 0 f l s).2) := if_neg h
theorem st_lb1 {K : List PFr} (h : hc e s.p = 47) : stp e (.lb a f l, K, s) = .inl (.all a, .bL a f l :: K, s.to (s.p + 1)) := if_pos h
theorem st_lb2 {K : List PFr} (h : hc e s.p ≠ 47) : stp e (.lb a f l, K, s) = .inl (.ret (jn 1 f l s).1, K, (jn 1 f l s).2) := if_neg h
theorem st_lc1 {K : List PFr} (h : hc e s.p = 32) : stp e (.lc a f l w, K, s) = .inl (.part a 1, .cL a f l w :: K, s.to (s.p + 1)) := if_pos h
theorem st_lc2 {K : List PFr} (h : hc e s.p ≠ 32) (hw : w = 1) : stp e (.lc a f l w, K, s) = .inl (.ret (jn 2 f l s).1, K, (jn 2 f l s).2) := (if_neg h).trans (if_pos hw)
theorem st_lc3 {K : List PFr} (h : hc e s.p ≠ 32) (hw : w ≠ 1) : stp e (.lc a f l w, K, s) = .inr (.inl (-10 - s.p)) := (if_neg h).trans (if_neg hw)
theorem st_ls1 {K : List PFr} (h : hc e s.p = 32) : stp e (.ls a f l m, K, s) = .inl (.part a 0, .sL a f l m :: K, s.to (s.p + 1)) := if_pos h
theorem st_ls2 {K : List PFr} (h : hc e s.p = 125) : stp e (.ls a f l m, K, s) = .inl (.ret s.nc, K, s.ad (s.p + 1) (rowN 3 f m)) := (if_neg (by omega)).trans (if_pos h)
theorem st_ls3 {K : List PFr} (h : hc e s.p ≠ 32) (h2 : hc e s.p ≠ 125) : stp e (.ls a f l m, K, s) = .inr (.inl (-10 - s.p)) := (if_neg h).trans (if_neg h2)
theorem st_pt1 {K : List PFr} (h : hc e s.p ≠ 94) : stp e (.ret v, .pt sg :: K, s) = .inl (.ret v, K, s.up 3 v sg) := if_neg h
theorem st_pt2 {K : List PFr} (h : hc e s.p = 94) (h2 : 49 ≤ hc e (s.p + 1) ∧ hc e (s.p + 1) ≤ 57) : stp e (.ret v, .pt sg :: K, s) = .inl (.ret v, K, ((s.to (s.p + 2)).up 4 v (s.T 4 v * (hc e (s.p + 1) - 48))).up 3 v sg) := (if_pos h).trans (if_pos h2)
theorem st_pt3 {K : List PFr} (h : hc e s.p = 94) (h2 : ¬ (49 ≤ hc e (s.p + 1) ∧ hc e (s.p + 1) ≤ 57)) : stp e (.ret v, .pt sg :: K, s) = .inr (.inl (-10 - (s.p + 1))) := (if_pos h).trans (if_neg h2)
theorem st_pr1 {K : List PFr} (h : hc e s.p = 41) : stp e (.ret v, .pr :: K, s) = .inl (.ret v, K, s.to (s.p + 1)) := if_pos h
theorem st_pr2 {K : List PFr} (h : hc e s.p ≠ 41) : stp e (.ret v, .pr :: K, s) = .inr (.inl (-10 - s.p)) := if_neg h
theorem RT_rf {c : PCt} : RT e c s c s := fun _ => rfl
theorem RT_any (h : RN e (.best a) s v s') : RT e (.any a) s (.la a v v) s' := fun K => (rn_s rfl).trans ((h _).trans (rn_s rfl))
theorem RF_any (h : RF e (.best a) s x) : RF e (.any a) s x := fun K => (rn_s rfl).trans (h _)
theorem RT_la (h0 : RT e c0 s0 (.la a f l) s) (hh : hc e s.p = 124) (h : RN e (.best a) (s.to (s.p + 1)) v s') : RT e c0 s0 (.la a f v) (s'.up 2 l v) := fun K => (h0 K).trans ((rn_s (st_la1 hh)).trans ((h _).trans (rn_s rfl)))
theorem RF_la (h0 : RT e c0 s0 (.la a f l) s) (hh : hc e s.p = 124) (h : RF e (.best a) (s.to (s.p + 1)) x) : RF e c0 s0 x := fun K => (h0 K).trans ((rn_s (st_la1 hh)).trans (h _))
theorem RN_la (h0 : RT e c0 s0 (.la a f l) s) (hh : hc e s.p ≠ 124) : RN e c0 s0 (jn 0 f l s).1 (jn 0 f l s).2 := fun K => (h0 K).trans (rn_s (st_la2 hh))
theorem RT_best (h : RN e (.all a) s v s') : RT e (.best a) s (.lb a v v) s' := fun K => (rn_s rfl).trans ((h _).trans (rn_s rfl))
theorem RF_best (h : RF e (.all a) s x) : RF e (.best a) s x := fun K => (rn_s rfl).trans (h _)
theorem RT_lb (h0 : RT e c0 s0 (.lb a f l) s) (hh : hc e s.p = 47) (h : RN e (.all a) (s.to (s.p + 1)) v s') : RT e c0 s0 (.lb a f v) (s'.up 2 l v) := fun K => (h0 K).trans ((rn_s (st_lb1 hh)).trans ((h _).trans (rn_s rfl)))
theorem RF_lb (h0 : RT e c0 s0 (.lb a f l) s) (hh : hc e s.p = 47) (h : RF e (.all a) (s.to (s.p + 1)) x) : RF e c0 s0 x := fun K => (h0 K).trans ((rn_s (st_lb1 hh)).trans (h _))
theorem RN_lb (h0 : RT e c0 s0 (.lb a f l) s) (hh : hc e s.p ≠ 47) : RN e c0 s0 (jn 1 f l s).1 (jn 1 f l s).2 := fun K => (h0 K).trans (rn_s (st_lb2 hh))
theorem RT_all (h : RN e (.part a 1) s v s') : RT e (.all a) s (.lc a v v (if s'.T 3 v = 0 then 1 else 0)) s' := fun K => (rn_s rfl).trans ((h _).trans (rn_s rfl))
theorem RF_all (h : RF e (.part a 1) s x) : RF e (.all a) s x := fun K => (rn_s rfl).trans (h _)
theorem RT_lc (h0 : RT e c0 s0 (.lc a f l w) s) (hh : hc e s.p = 32) (h : RN e (.part a 1) (s.to (s.p + 1)) v s') : RT e c0 s0 (.lc a f v (if w = 1 ∨ s'.T 3 v = 0 then 1 else 0)) (s'.up 2 l v) := fun K => (h0 K).trans ((rn_s (st_lc1 hh)).trans ((h _).trans (rn_s rfl)))
theorem RF_lc (h0 : RT e c0 s0 (.lc a f l w) s) (hh : hc e s.p = 32) (h : RF e (.part a 1) (s.to (s.p + 1)) x) : RF e c0 s0 x := fun K => (h0 K).trans ((rn_s (st_lc1 hh)).trans (h _))
theorem RN_lc (h0 : RT e c0 s0 (.lc a f l w) s) (hh : hc e s.p ≠ 32) (hw : w = 1) : RN e c0 s0 (jn 2 f l s).1 (jn 2 f l s).2 := fun K => (h0 K).trans (rn_s (st_lc2 hh hw))
theorem RF_lcE (h0 : RT e c0 s0 (.lc a f l w) s) (hh : hc e s.p ≠ 32) (hw : w ≠ 1) : RF e c0 s0 (-10 - s.p) := fun K => (h0 K).trans (rn_e (st_lc3 hh hw))
theorem RT_ls (h0 : RT e c0 s0 (.ls a f l m) s) (hh : hc e s.p = 32) (h : RN e (.part a 0) (s.to (s.p + 1)) v s') : RT e c0 s0 (.ls a f v m) (s'.up 2 l v) := fun K => (h0 K).trans ((rn_s (st_ls1 hh)).trans ((h _).trans (rn_s rfl)))
theorem RF_ls (h0 : RT e c0 s0 (.ls a f l m) s) (hh : hc e s.p = 32) (h : RF e (.part a 0) (s.to (s.p + 1)) x) : RF e c0 s0 x := fun K => (h0 K).trans ((rn_s (st_ls1 hh)).trans (h _))
theorem RN_ls (h0 : RT e c0 s0 (.ls a f l m) s) (hh : hc e s.p = 125) : RN e c0 s0 s.nc (s.ad (s.p + 1) (rowN 3 f m)) := fun K => (h0 K).trans (rn_s (st_ls2 hh))
theorem RF_lsE (h0 : RT e c0 s0 (.ls a f l m) s) (hh : hc e s.p ≠ 32) (h2 : hc e s.p ≠ 125) : RF e c0 s0 (-10 - s.p) := fun K => (h0 K).trans (rn_e (st_ls3 hh h2))
theorem RN_pt (h : RN e (.one a) (s.to (if 0 < sgn e sg s.p then s.p + 1 else s.p)) v s') (hh : hc e s'.p ≠ 94) : RN e (.part a sg) s v (s'.up 3 v (sgn e sg s.p)) := fun K => (rn_s rfl).trans ((h _).trans (rn_s (st_pt1 hh)))
theorem RN_ptB (h : RN e (.one a) (s.to (if 0 < sgn e sg s.p then s.p + 1 else s.p)) v s') (hh : hc e s'.p = 94) (h2 : 49 ≤ hc e (s'.p + 1) ∧ hc e (s'.p + 1) ≤ 57) : RN e (.part a sg) s v (((s'.to (s'.p + 2)).up 4 v (s'.T 4 v * (hc e (s'.p + 1) - 48))).up 3 v (sgn e sg s.p)) := fun K => (rn_s rfl).trans ((h _).trans (rn_s (st_pt2 hh h2)))
theorem RF_ptB (h : RN e (.one a) (s.to (if 0 < sgn e sg s.p then s.p + 1 else s.p)) v s') (hh : hc e s'.p = 94) (h2 : ¬ (49 ≤ hc e (s'.p + 1) ∧ hc e (s'.p + 1) ≤ 57)) : RF e (.part a sg) s (-10 - (s'.p + 1)) := fun K => (rn_s rfl).trans ((h _).trans (rn_e (st_pt3 hh h2)))
theorem RF_pt (h : RF e (.one a) (s.to (if 0 < sgn e sg s.p then s.p + 1 else s.p)) x) : RF e (.part a sg) s x := fun K => (rn_s rfl).trans (h _)
/-! one -/
theorem RF_o1 (h : ¬ bgn (hc e s.p)) : RF e (.one a) s (-10 - s.p) := fun K => rn_e (by show oneS e a K s = _; unfold oneS; rw [if_pos (zb_f h)])
theorem RF_o2 (h : bgn (hc e s.p)) (h2 : s.on = 60 ∨ 11 < a) : RF e (.one a) s (-3) := fun K => rn_e (by show oneS e a K s = _; unfold oneS; rw [if_neg (by rw [zb_t h]; omega), if_pos h2])
section ONE
theorem one_go (h : bgn (hc e s.p)) (h2 : ¬ (s.on = 60 ∨ 11 < a)) {K : List PFr} {r : PZ ⊕ PR} (q : (if hc e s.p = 40 then (.inl (.any (a + 1), .pr :: K, s.o1.to (s.p + 1)) : PZ ⊕ PR)
  else if hc e s.p = 123 then
    (if dg (hc e (s.p + 1)) then (if hc e (s.p + 2) = 32 then .inl (.part (a + 1) 0, .s1 (a + 1) (hc e (s.p + 1) - 48) :: K, s.o1.to (s.p + 3)) else .inr (.inl (-10 - (s.p + 2)))) else .inr (.inl (-10 - (s.p + 1))))
  else if hc e s.p = 62 then .inl (.one (a + 1), .up 4 :: K, s.o1.to (s.p + 1))
  else if hc e s.p = 60 then .inl (.one (a + 1), .up 5 :: K, s.o1.to (s.p + 1))
  else if hc e s.p = 42 ∧ zb (ptb (hc e (s.p + 1))) = 0 then .inl (.ret s.nc, K, s.o1.ad (s.p + 1) (rowN 6 (-1) 0))
  else match lfR e (fhF e s.p) (fhP e s.p) with
    | .inl c => .inr (.inl c)
    | .inr l => .inl (.ret s.nc, K, s.o1.ad l.p (rowL l (fhF e s.p)))) = r) : stp e (.one a, K, s) = r := by
  show oneS e a K s = r
  unfold oneS
  rw [if_neg (by rw [zb_t h]; omega), if_neg h2]
  exact q
theorem RN_o3 (h : bgn (hc e s.p)) (h2 : ¬ (s.on = 60 ∨ 11 < a)) (hh : hc e s.p = 40) (q : RN e (.any (a + 1)) (s.o1.to (s.p + 1)) v s') (h3 : hc e s'.p = 41) : RN e (.one a) s v (s'.to (s'.p + 1)) := fun K => (rn_s (one_go h h2 (if_pos hh))).trans ((q _).trans (rn_s (st_pr1 h3)))
theorem RF_o3 (h : bgn (hc e s.p)) (h2 : ¬ (s.on = 60 ∨ 11 < a)) (hh : hc e s.p = 40) (q : RN e (.any (a + 1)) (s.o1.to (s.p + 1)) v s') (h3 : hc e s'.p ≠ 41) : RF e (.one a) s (-10 - s'.p) := fun K => (rn_s (one_go h h2 (if_pos hh))).trans ((q _).trans (rn_e (st_pr2 h3)))
theorem RF_o4 (h : bgn (hc e s.p)) (h2 : ¬ (s.on = 60 ∨ 11 < a)) (hh : hc e s.p = 40) (q : RF e (.any (a + 1)) (s.o1.to (s.p + 1)) x) : RF e (.one a) s x := fun K => (rn_s (one_go h h2 (if_pos hh))).trans (q _)
theorem RT_o5 (h : bgn (hc e s.p)) (h2 : ¬ (s.on = 60 ∨ 11 < a)) (hh : hc e s.p = 123) (h3 : dg (hc e (s.p + 1))) (h4 : hc e (s.p + 2) = 32) (q : RN e (.part (a + 1) 0) (s.o1.to (s.p + 3)) v s') : RT e (.one a) s (.ls (a + 1) v v (hc e (s.p + 1) - 48)) s' := fun K => (rn_s (one_go h h2 ((if_neg (by omega)).trans ((if_pos hh).trans ((if_pos h3).trans (if_pos h4)))))).trans ((q _).trans (rn_s rfl))
theorem RF_o5 (h : bgn (hc e s.p)) (h2 : ¬ (s.on = 60 ∨ 11 < a)) (hh : hc e s.p = 123) (h3 : dg (hc e (s.p + 1))) (h4 : hc e (s.p + 2) = 32) (q : RF e (.part (a + 1) 0) (s.o1.to (s.p + 3)) x) : RF e (.one a) s x := fun K => (rn_s (one_go h h2 ((if_neg (by omega)).trans ((if_pos hh).trans ((if_pos h3).trans (if_pos h4)))))).trans (q _)
theorem RF_o6 (h : bgn (hc e s.p)) (h2 : ¬ (s.on = 60 ∨ 11 < a)) (hh : hc e s.p = 123) (h3 : ¬ dg (hc e (s.p + 1))) : RF e (.one a) s (-10 - (s.p + 1)) := fun K => rn_e (one_go h h2 ((if_neg (by omega)).trans ((if_pos hh).trans (if_neg h3))))
theorem RF_o7 (h : bgn (hc e s.p)) (h2 : ¬ (s.on = 60 ∨ 11 < a)) (hh : hc e s.p = 123) (h3 : dg (hc e (s.p + 1))) (h4 : hc e (s.p + 2) ≠ 32) : RF e (.one a) s (-10 - (s.p + 2)) := fun K => rn_e (one_go h h2 ((if_neg (by omega)).trans ((if_pos hh).trans ((if_pos h3).trans (if_neg h4)))))
theorem RN_o8 (h : bgn (hc e s.p)) (h2 : ¬ (s.on = 60 ∨ 11 < a)) (hh : hc e s.p = 62) (q : RN e (.one (a + 1)) (s.o1.to (s.p + 1)) v s') : RN e (.one a) s s'.nc (s'.ad s'.p (rowN 4 v 0)) := fun K => (rn_s (one_go h h2 ((if_neg (by omega)).trans ((if_neg (by omega)).trans (if_pos hh))))).trans ((q _).trans (rn_s rfl))
theorem RF_o8 (h : bgn (hc e s.p)) (h2 : ¬ (s.on = 60 ∨ 11 < a)) (hh : hc e s.p = 62) (q : RF e (.one (a + 1)) (s.o1.to (s.p + 1)) x) : RF e (.one a) s x := fun K => (rn_s (one_go h h2 ((if_neg (by omega)).trans ((if_neg (by omega)).trans (if_pos hh))))).trans (q _)
theorem RN_o9 (h : bgn (hc e s.p)) (h2 : ¬ (s.on = 60 ∨ 11 < a)) (hh : hc e s.p = 60) (q : RN e (.one (a + 1)) (s.o1.to (s.p + 1)) v s') : RN e (.one a) s s'.nc (s'.ad s'.p (rowN 5 v 0)) := fun K => (rn_s (one_go h h2 ((if_neg (by omega)).trans ((if_neg (by omega)).trans ((if_neg (by omega)).trans (if_pos hh)))))).trans ((q _).trans (rn_s rfl))
theorem RF_o9 (h : bgn (hc e s.p)) (h2 : ¬ (s.on = 60 ∨ 11 < a)) (hh : hc e s.p = 60) (q : RF e (.one (a + 1)) (s.o1.to (s.p + 1)) x) : RF e (.one a) s x := fun K => (rn_s (one_go h h2 ((if_neg (by omega)).trans ((if_neg (by omega)).trans ((if_neg (by omega)).trans (if_pos hh)))))).trans (q _)
theorem RN_o10 (h : bgn (hc e s.p)) (h2 : ¬ (s.on = 60 ∨ 11 < a)) (hh : hc e s.p = 42) (h3 : ¬ ptb (hc e (s.p + 1))) : RN e (.one a) s s.nc (s.o1.ad (s.p + 1) (rowN 6 (-1) 0)) := fun K => rn_s (one_go h h2 ((if_neg (by omega)).trans ((if_neg (by omega)).trans ((if_neg (by omega)).trans ((if_neg (by omega)).trans (if_pos ⟨hh, zb_f h3⟩))))))
theorem one_lf (h : bgn (hc e s.p)) (h2 : ¬ (s.on = 60 ∨ 11 < a)) (hh : hc e s.p ≠ 40 ∧ hc e s.p ≠ 123 ∧ hc e s.p ≠ 62 ∧ hc e s.p ≠ 60) (h3 : hc e s.p = 42 → ptb (hc e (s.p + 1))) {K : List PFr} {r : PZ ⊕ PR} (q : (match lfR e (fhF e s.p) (fhP e s.p) with
    | .inl c => (.inr (.inl c) : PZ ⊕ PR)
    | .inr l => .inl (.ret s.nc, K, s.o1.ad l.p (rowL l (fhF e s.p)))) = r) : stp e (.one a, K, s) = r := one_go h h2 ((if_neg hh.1).trans ((if_neg hh.2.1).trans ((if_neg hh.2.2.1).trans ((if_neg hh.2.2.2).trans ((if_neg (fun z => by have := zb_t (h3 z.1); omega)).trans q)))))
theorem RN_lf (h : bgn (hc e s.p)) (h2 : ¬ (s.on = 60 ∨ 11 < a)) {ld : LD} (hh : hc e s.p ≠ 40 ∧ hc e s.p ≠ 123 ∧ hc e s.p ≠ 62 ∧ hc e s.p ≠ 60) (h3 : hc e s.p = 42 → ptb (hc e (s.p + 1))) (q : lfR e (fhF e s.p) (fhP e s.p) = .inr ld) : RN e (.one a) s s.nc (s.o1.ad ld.p (rowL ld (fhF e s.p))) := fun K => rn_s (one_lf h h2 hh h3 (by rw [q]))
theorem RF_lf (h : bgn (hc e s.p)) (h2 : ¬ (s.on = 60 ∨ 11 < a)) (hh : hc e s.p ≠ 40 ∧ hc e s.p ≠ 123 ∧ hc e s.p ≠ 62 ∧ hc e s.p ≠ 60) (h3 : hc e s.p = 42 → ptb (hc e (s.p + 1))) (q : lfR e (fhF e s.p) (fhP e s.p) = .inl x) : RF e (.one a) s x := fun K => rn_e (one_lf h h2 hh h3 (by rw [q]))
end ONE
end RTs
end
section
/-! contracts: printed by tools/mk.py out of s48b_pwf.py -/
set_option maxRecDepth 100000
set_option maxHeartbeats 1500000
/-! what is known of the nodes that are read -/
def lfk (k : Int) : Prop := k = 7 ∨ k = 8 ∨ k = 11 ∨ k = 12
/-- a node's row is well made: p0, p1 where its text may lie -/
def NOr (e : PE) (p0 p1 : Int) (g : Nat → Int) : Prop :=
  ((0 ≤ g 0 ∧ g 0 ≤ 12) ∧ (0 ≤ g 5 ∧ g 5 ≤ 11) ∧ (7 ≤ g 0 → g 5 < e.f) ∧ (0 ≤ g 8 ∧ g 8 ≤ 9) ∧ (1 ≤ g 4 ∧ g 4 ≤ 10000000000000) ∧ (0 ≤ g 3 ∧ g 3 ≤ 2)) ∧
  ((g 0 < 7 → 0 ≤ g 6 ∧ g 6 ≤ 9) ∧ (lfk (g 0) → p0 ≤ g 6 ∧ g 6 ≤ g 7 ∧ g 7 ≤ p1) ∧ (g 0 = 9 ∨ g 0 = 10 → g 6 = 0 ∧ g 7 = 0) ∧ (11 ≤ g 0 → g 7 ≤ g 6 + 20)) ∧
  (g 0 = 10 → (-1000000000 ≤ g 9 ∧ g 9 ≤ 1000000000) ∧ (-1000000000 ≤ g 10 ∧ g 10 ≤ 1000000000) ∧ (0 ≤ g 11 ∧ g 11 ≤ 1000000000)) ∧
  ((g 0 = 4 ∨ g 0 = 5 → 0 ≤ g 1) ∧ (6 ≤ g 0 → g 1 = -1)) ∧
  ((g 0 = 7 → e.K (g 5) = 0) ∧ (g 0 = 8 → e.K (g 5) = 1) ∧ (g 0 = 9 → e.K (g 5) = 2) ∧ (g 0 = 10 → e.K (g 5) = 3) ∧ (11 ≤ g 0 → e.K (g 5) = 0 ∨ e.K (g 5) = 1))
def PS.row (s : PS) (k : Int) : Nat → Int := fun c => s.T c k
/-- nodes from lo to l: a chain of nodes from f to l, and what is under them; pa tells the node above, -1 for those of the chain -/
def CH (e : PE) (s : PS) (lo f l p0 : Int) (pa : Int → Int) : Prop :=
  (0 ≤ lo ∧ lo ≤ f ∧ f ≤ l ∧ l + 1 = s.nc ∧ pa f = -1 ∧ pa l = -1 ∧ s.T 2 l = -1) ∧
  (∀ k, lo ≤ k → k ≤ l → NOr e p0 s.p (s.row k) ∧ (s.T 1 k = -1 ∨ (lo ≤ s.T 1 k ∧ s.T 1 k < k ∧ pa (s.T 1 k) = k)) ∧
    ((pa k = -1 ∧ (k = l ∨ (k < s.T 2 k ∧ s.T 2 k ≤ l ∧ pa (s.T 2 k) = -1))) ∨ (k < pa k ∧ pa k ≤ l ∧ (s.T 2 k = -1 ∨ (k < s.T 2 k ∧ s.T 2 k ≤ l ∧ pa (s.T 2 k) = pa k))))) ∧
  (∀ k k', lo ≤ k → k < k' → k' ≤ l → lfk (s.T 0 k) → lfk (s.T 0 k') → s.T 7 k < s.T 6 k')
def CHx (e : PE) (s : PS) (lo f l p0 : Int) : Prop := ∃ pa, CH e s lo f l p0 pa
def OLD (s s' : PS) : Prop := s.nc ≤ s'.nc ∧ ∀ c k, k < s.nc → s'.T c k = s.T c k
section CHL
variable {e : PE} {s s' : PS} {lo f l p0 p q m v : Int}
theorem OLD.rf : OLD s s := ⟨Int.le_refl _, fun _ _ _ => rfl⟩
theorem OLD.tr {t : PS} (h : OLD s s') (g : OLD s' t) : OLD s t := ⟨Int.le_trans h.1 g.1, fun c k hk => (g.2 c k (by have := h.1; omega)).trans (h.2 c k hk)⟩
theorem OLD.ad {g : Nat → Int} (h : OLD s s') : OLD s (s'.ad p g) := ⟨by show s.nc ≤ s'.nc + 1; have := h.1; omega, fun c k hk => by
  show (if k = s'.nc then _ else _) = _
  rw [if_neg (by have := h.1; omega)]; exact h.2 c k hk⟩
theorem OLD.up {c : Nat} (h : OLD s s') (hm : s.nc ≤ m) : OLD s (s'.up c m v) := ⟨h.1, fun c' k hk => by
  show (if c' = c ∧ k = m then _ else _) = _
  rw [if_neg (fun z => by omega)]; exact h.2 c' k hk⟩
theorem OLD.to (h : OLD s s') : OLD s (s'.to p) := h
theorem OLD.o1 (h : OLD s s') : OLD s s'.o1 := h
theorem NOr.mv {g : Nat → Int} {a b a' b' : Int} (h : NOr e a b g) (h1 : a' ≤ a) (h2 : b ≤ b') : NOr e a' b' g := by
  obtain ⟨q1, ⟨q2, q3, q4, q5⟩, q6, q7, q8⟩ := h
  exact ⟨q1, ⟨q2, fun z => by have := q3 z; omega, q4, q5⟩, q6, q7, q8⟩
theorem NOr.cg {g g' : Nat → Int} {a b : Int} (h : NOr e a b g) (hg : ∀ c, c ≠ 2 → g' c = g c) : NOr e a b g' := by
  unfold NOr
  rw [hg 0 (by decide), hg 1 (by decide), hg 3 (by decide), hg 4 (by decide), hg 5 (by decide), hg 6 (by decide), hg 7 (by decide), hg 8 (by decide), hg 9 (by decide), hg 10 (by decide), hg 11 (by decide)]
  exact h
theorem NOr.c3 {g g' : Nat → Int} {a b : Int} (h : NOr e a b g) (hg : ∀ c, c ≠ 3 → g' c = g c) (hv : 0 ≤ g' 3 ∧ g' 3 ≤ 2) : NOr e a b g' := by
  obtain ⟨⟨a1, a2, a3, a4, a5, a6⟩, r⟩ := h
  unfold NOr
  rw [hg 0 (by decide), hg 1 (by decide), hg 4 (by decide), hg 5 (by decide), hg 6 (by decide), hg 7 (by decide), hg 8 (by decide), hg 9 (by decide), hg 10 (by decide), hg 11 (by decide)]
  exact ⟨⟨a1, a2, a3, a4, a5, hv⟩, r⟩
theorem NOr.c4 {g g' : Nat → Int} {a b : Int} (h : NOr e a b g) (hg : ∀ c, c ≠ 4 → g' c = g c) (hv : 1 ≤ g' 4 ∧ g' 4 ≤ 10000000000000) : NOr e a b g' := by
  obtain ⟨⟨a1, a2, a3, a4, a5, a6⟩, r⟩ := h
  unfold NOr
  rw [hg 0 (by decide), hg 1 (by decide), hg 3 (by decide), hg 5 (by decide), hg 6 (by decide), hg 7 (by decide), hg 8 (by decide), hg 9 (by decide), hg 10 (by decide), hg 11 (by decide)]
  exact ⟨⟨a1, a2, a3, a4, hv, a6⟩, r⟩
theorem CH_new {g : Nat → Int} {p0 : Int} (h0 : 0 ≤ s.nc) (hg : NOr e p0 p g) (h1 : g 1 = -1) (h2 : g 2 = -1) : CHx e (s.ad p g) s.nc s.nc s.nc p0 := by
  refine ⟨fun _ => -1, ⟨h0, Int.le_refl _, Int.le_refl _, rfl, rfl, rfl, ?_⟩, fun k k0 k1 => ?_, fun k k' a b c => by omega⟩
  · show (if s.nc = s.nc then _ else _) = _
    rw [if_pos rfl]; exact h2
  · have hk : k = s.nc := by omega
    subst hk
    have er : (s.ad p g).row s.nc = g := by funext c; show (if s.nc = s.nc then _ else _) = _; rw [if_pos rfl]
    refine ⟨by rw [er]; exact hg, Or.inl ?_, Or.inl ⟨rfl, Or.inl rfl⟩⟩
    show (if s.nc = s.nc then _ else _) = _
    rw [if_pos rfl]; exact h1
theorem CH_to (h : CHx e s lo f l p0) (hp : s.p ≤ q) : CHx e (s.to q) lo f l p0 := by
  obtain ⟨pa, h1, h2, h3⟩ := h
  exact ⟨pa, h1, fun k k0 k1 => ⟨(h2 k k0 k1).1.mv (Int.le_refl _) hp, (h2 k k0 k1).2⟩, h3⟩
theorem CH_lo (h : CHx e s lo f l p0) (hp : q ≤ p0) : CHx e s lo f l q := by
  obtain ⟨pa, h1, h2, h3⟩ := h
  exact ⟨pa, h1, fun k k0 k1 => ⟨(h2 k k0 k1).1.mv hp (Int.le_refl _), (h2 k k0 k1).2⟩, h3⟩
theorem up_ne {c c' : Nat} {k : Int} (h : c' ≠ c) : (s.up c m v).T c' k = s.T c' k := by
  show (if c' = c ∧ k = m then _ else _) = _
  rw [if_neg (fun z => h z.1)]
theorem up_at {c : Nat} : (s.up c m v).T c m = v := by
  show (if c = c ∧ m = m then _ else _) = _
  rw [if_pos ⟨rfl, rfl⟩]
theorem up_nk {c c' : Nat} {k : Int} (h : k ≠ m) : (s.up c m v).T c' k = s.T c' k := by
  show (if c' = c ∧ k = m then _ else _) = _
  rw [if_neg (fun z => h z.2)]
theorem CH_top {c : Nat} (hc : c = 3 ∨ c = 4) (h : CHx e s lo f l p0) (hv : (c = 3 → 0 ≤ v ∧ v ≤ 2) ∧ (c = 4 → 1 ≤ v ∧ v ≤ 10000000000000)) : CHx e (s.up c l v) lo f l p0 := by
  obtain ⟨pa, h1, h2, h3⟩ := h
  refine ⟨pa, ⟨h1.1, h1.2.1, h1.2.2.1, h1.2.2.2.1, h1.2.2.2.2.1, h1.2.2.2.2.2.1, by rw [up_ne (by omega)]; exact h1.2.2.2.2.2.2⟩, fun k k0 k1 => ?_, fun k k' a b d => ?_⟩
  · obtain ⟨q1, q2, q3⟩ := h2 k k0 k1
    rw [up_ne (c' := 1) (by omega), up_ne (c' := 2) (by omega)]
    refine ⟨?_, q2, q3⟩
    by_cases hk : k = l
    · subst hk
      rcases hc with rfl | rfl
      · exact q1.c3 (fun c' hc' => up_ne hc') (by show 0 ≤ (s.up 3 k v).T 3 k ∧ (s.up 3 k v).T 3 k ≤ 2; rw [up_at]; exact hv.1 rfl)
      · exact q1.c4 (fun c' hc' => up_ne hc') (by show 1 ≤ (s.up 4 k v).T 4 k ∧ (s.up 4 k v).T 4 k ≤ 10000000000000; rw [up_at]; exact hv.2 rfl)
    · have er : (s.up c l v).row k = s.row k := funext fun c' => up_nk hk
      rw [er]; exact q1
  · rw [up_ne (c' := 0) (by omega), up_ne (c' := 0) (by omega), up_ne (c' := 7) (by omega), up_ne (c' := 6) (by omega)]
    exact h3 k k' a b d
/-- a member more -/
theorem CH_app (h : CHx e s lo f l p0) (hp : p0 ≤ s.p) (ho : OLD s s') (g : CHx e s' (l + 1) m m (s.p + 1)) (hp' : s.p ≤ s'.p) : CHx e (s'.up 2 l m) lo f m p0 := by
  obtain ⟨pa, ⟨h1, h2, h3, h4, h5, h6, h7⟩, k1, k2⟩ := h
  obtain ⟨pb, ⟨g1, g2, g3, g4, g5, g6, g7⟩, j1, j2⟩ := g
  have old : ∀ c k, k ≤ l → s'.T c k = s.T c k := fun c k hk => ho.2 c k (by omega)
  refine ⟨fun k => if k ≤ l then pa k else pb k, ⟨h1, h2, by omega, g4, ?_, ?_, ?_⟩, fun k b0 b1 => ?_, fun k k' b0 b1 b2 => ?_⟩
  · show (if f ≤ l then _ else _) = _
    rw [if_pos h3]; exact h5
  · show (if m ≤ l then _ else _) = _
    rw [if_neg (by omega)]; exact g6
  · rw [up_nk (by omega)]; exact g7
  · rw [up_ne (c' := 1) (by omega)]
    by_cases hk : k ≤ l
    · obtain ⟨q1, q2, q3⟩ := k1 k b0 hk
      have er : NOr e p0 (s'.up 2 l m).p ((s'.up 2 l m).row k) := (q1.mv (a' := p0) (b' := s'.p) (Int.le_refl _) hp').cg (fun c' hc' => (up_ne hc').trans (old c' k hk))
      refine ⟨er, ?_, ?_⟩
      · rw [old 1 k hk]
        rcases q2 with z | ⟨z1, z2, z3⟩
        · exact Or.inl z
        · refine Or.inr ⟨z1, z2, ?_⟩
          show (if s.T 1 k ≤ l then _ else _) = _
          rw [if_pos (by omega)]; exact z3
      · show ((if k ≤ l then pa k else pb k) = -1 ∧ _) ∨ (k < (if k ≤ l then pa k else pb k) ∧ (if k ≤ l then pa k else pb k) ≤ m ∧ (_ ∨ (_ ∧ _ ∧ _ = (if k ≤ l then pa k else pb k))))
        rw [if_pos hk]
        by_cases hl : k = l
        · subst hl
          refine Or.inl ⟨h6, Or.inr ?_⟩
          rw [up_at]
          refine ⟨by omega, Int.le_refl _, ?_⟩
          show (if m ≤ k then _ else _) = _
          rw [if_neg (by omega)]; exact g6
        · rw [up_nk hl, old 2 k hk]
          rcases q3 with ⟨z1, z2 | ⟨z2, z3, z4⟩⟩ | ⟨z1, z2, z3 | ⟨z3, z4, z5⟩⟩
          · exact absurd z2 hl
          · refine Or.inl ⟨z1, Or.inr ⟨z2, by omega, ?_⟩⟩
            show (if s.T 2 k ≤ l then _ else _) = _
            rw [if_pos z3]; exact z4
          · exact Or.inr ⟨z1, by omega, Or.inl z3⟩
          · refine Or.inr ⟨z1, by omega, Or.inr ⟨z3, by omega, ?_⟩⟩
            show (if s.T 2 k ≤ l then _ else _) = _
            rw [if_pos z4]; exact z5
    · obtain ⟨q1, q2, q3⟩ := j1 k (by omega) b1
      have er : (s'.up 2 l m).row k = s'.row k := funext fun c' => up_nk (by omega)
      rw [er]
      refine ⟨q1.mv (by omega) (Int.le_refl _), ?_, ?_⟩
      · rcases q2 with z | ⟨z1, z2, z3⟩
        · exact Or.inl z
        · refine Or.inr ⟨by omega, z2, ?_⟩
          show (if s'.T 1 k ≤ l then _ else _) = _
          rw [if_neg (by omega)]; exact z3
      · show ((if k ≤ l then pa k else pb k) = -1 ∧ _) ∨ (k < (if k ≤ l then pa k else pb k) ∧ (if k ≤ l then pa k else pb k) ≤ m ∧ (_ ∨ (_ ∧ _ ∧ _ = (if k ≤ l then pa k else pb k))))
        rw [if_neg hk, up_nk (by omega)]
        rcases q3 with ⟨z1, z2 | ⟨z2, z3, z4⟩⟩ | ⟨z1, z2, z3 | ⟨z3, z4, z5⟩⟩
        · exact Or.inl ⟨z1, Or.inl z2⟩
        · refine Or.inl ⟨z1, Or.inr ⟨z2, z3, ?_⟩⟩
          show (if s'.T 2 k ≤ l then _ else _) = _
          rw [if_neg (by omega)]; exact z4
        · exact Or.inr ⟨z1, z2, Or.inl z3⟩
        · refine Or.inr ⟨z1, z2, Or.inr ⟨z3, z4, ?_⟩⟩
          show (if s'.T 2 k ≤ l then _ else _) = _
          rw [if_neg (by omega)]; exact z5
  · rw [up_ne (c' := 0) (by omega), up_ne (c' := 0) (by omega), up_ne (c' := 7) (by omega), up_ne (c' := 6) (by omega)]
    intro l1 l2
    by_cases hk : k ≤ l
    · by_cases hk' : k' ≤ l
      · rw [old 0 k hk] at l1
        rw [old 0 k' hk'] at l2
        rw [old 7 k hk, old 6 k' hk']
        exact k2 k k' b0 b1 hk' l1 l2
      · rw [old 0 k hk] at l1
        rw [old 7 k hk]
        have a1 := ((k1 k b0 hk).1.2.1.2.1 l1).2.2
        have a2 := ((j1 k' (by omega) b2).1.2.1.2.1 l2).1
        have a3 : s.row k 7 = s.T 7 k := rfl
        have a4 : s'.row k' 6 = s'.T 6 k' := rfl
        omega
    · exact j2 k k' (by omega) b1 b2 l1 l2
/-- a node above the chain -/
theorem CH_join {kd fr : Int} (h : CHx e s lo f l p0) (hk : 0 ≤ kd ∧ kd ≤ 5) (hf : 0 ≤ fr ∧ fr ≤ 9) (hp : s.p ≤ p) : CHx e (s.ad p (rowN kd f fr)) lo s.nc s.nc p0 := by
  obtain ⟨pa, ⟨h1, h2, h3, h4, h5, h6, h7⟩, k1, k2⟩ := h
  have old : ∀ c k, k ≤ l → (s.ad p (rowN kd f fr)).T c k = s.T c k := fun c k hk => by
    show (if k = s.nc then _ else _) = _
    rw [if_neg (by omega)]
  have new : ∀ c, (s.ad p (rowN kd f fr)).T c s.nc = rowN kd f fr c := fun c => by
    show (if s.nc = s.nc then _ else _) = _
    rw [if_pos rfl]
  have e0 : rowN kd f fr 0 = kd := rfl
  have e1 : rowN kd f fr 1 = f := rfl
  have e2 : rowN kd f fr 2 = -1 := rfl
  have e3 : rowN kd f fr 3 = 0 := rfl
  have e4 : rowN kd f fr 4 = 1 := rfl
  have e5 : rowN kd f fr 5 = 0 := rfl
  have e6 : rowN kd f fr 6 = fr := rfl
  have e7 : rowN kd f fr 7 = 0 := rfl
  have e8 : rowN kd f fr 8 = 0 := rfl
  refine ⟨fun k => if k = s.nc then -1 else if pa k = -1 then s.nc else pa k, ⟨h1, by omega, Int.le_refl _, rfl, if_pos rfl, if_pos rfl, by rw [new, e2]⟩, fun k b0 b1 => ?_, fun k k' b0 b1 b2 => ?_⟩
  · by_cases hl : k = s.nc
    · subst hl
      rw [new, new, e1, e2]
      refine ⟨?_, Or.inr ⟨h2, by omega, ?_⟩, Or.inl ⟨if_pos rfl, Or.inl rfl⟩⟩
      · have er : (s.ad p (rowN kd f fr)).row s.nc = rowN kd f fr := funext fun c => new c
        rw [er]
        unfold NOr lfk
        rw [e0, e1, e3, e4, e5, e6, e7, e8]
        refine ⟨⟨by omega, by omega, by omega, by omega, by omega, by omega⟩, ⟨by omega, by omega, by omega, by omega⟩, by omega, ⟨by omega, by omega⟩, by omega, by omega, by omega, by omega, by omega⟩
      · show (if f = s.nc then _ else if pa f = -1 then _ else _) = _
        rw [if_neg (by omega), if_pos h5]
    · have hkl : k ≤ l := by omega
      obtain ⟨q1, q2, q3⟩ := k1 k b0 hkl
      rw [old 1 k hkl, old 2 k hkl]
      refine ⟨?_, ?_, ?_⟩
      · have er : (s.ad p (rowN kd f fr)).row k = s.row k := funext fun c => old c k hkl
        rw [er]; exact q1.mv (Int.le_refl _) hp
      · rcases q2 with z | ⟨z1, z2, z3⟩
        · exact Or.inl z
        · refine Or.inr ⟨z1, z2, ?_⟩
          show (if s.T 1 k = s.nc then _ else if pa (s.T 1 k) = -1 then _ else _) = _
          rw [if_neg (by omega), if_neg (by omega)]; exact z3
      · right
        show k < (if k = s.nc then _ else if pa k = -1 then _ else _) ∧ (if k = s.nc then _ else if pa k = -1 then _ else _) ≤ s.nc ∧ (_ ∨ (_ ∧ _ ∧ _ = (if k = s.nc then _ else if pa k = -1 then _ else _)))
        rw [if_neg hl]
        rcases q3 with ⟨z1, z2⟩ | ⟨z1, z2, z3⟩
        · rw [if_pos z1]
          refine ⟨by omega, Int.le_refl _, ?_⟩
          rcases z2 with z2 | ⟨z2, z3, z4⟩
          · left; rw [z2]; exact h7
          · refine Or.inr ⟨z2, by omega, ?_⟩
            show (if s.T 2 k = s.nc then _ else if pa (s.T 2 k) = -1 then _ else _) = _
            rw [if_neg (by omega), if_pos z4]
        · rw [if_neg (by omega)]
          refine ⟨z1, by omega, ?_⟩
          rcases z3 with z3 | ⟨z3, z4, z5⟩
          · exact Or.inl z3
          · refine Or.inr ⟨z3, by omega, ?_⟩
            show (if s.T 2 k = s.nc then _ else if pa (s.T 2 k) = -1 then _ else _) = _
            rw [if_neg (by omega), if_neg (by omega)]; exact z5
  · by_cases hl : k' = s.nc
    · subst hl
      rw [new, e0]
      intro _ z
      unfold lfk at z
      omega
    · rw [old 0 k (by omega), old 0 k' (by omega), old 7 k (by omega), old 6 k' (by omega)]
      exact k2 k k' b0 b1 (by omega)
end CHL
/-- boosts within as many parentheses -/
def tb (a : Int) : Int := 9 ^ (12 - a).toNat
theorem tb_s {a : Int} (h0 : a ≤ 11) : tb a = 9 * tb (a + 1) := by
  unfold tb
  rw [show (12 - a).toNat = (12 - (a + 1)).toNat + 1 by omega, Int.pow_succ, Int.mul_comm]
theorem tb_in : ∀ k : Fin 13, 1 ≤ tb (k.val : Int) ∧ tb (k.val : Int) ≤ 1000000000000 := by decide +kernel
theorem tb_b {a : Int} (h0 : 0 ≤ a) (h1 : a ≤ 12) : 1 ≤ tb a ∧ tb a ≤ 1000000000000 := by
  have := tb_in ⟨a.toNat, by omega⟩
  simp only at this
  rw [show ((a.toNat : Nat) : Int) = a by omega] at this
  exact this
/-- what a part of the reading leaves: from s to s', whose node is v -/
def PO (e : PE) (s s' : PS) (v t : Int) : Prop := OLD s s' ∧ v + 1 = s'.nc ∧ s.nc ≤ v ∧ (s.p < s'.p ∧ s'.p ≤ e.n) ∧ CHx e s' s.nc v v s.p ∧ (s.on < s'.on ∧ s'.on ≤ 60 ∧ s'.nc - s.nc ≤ 2 * (s'.on - s.on) - 1) ∧ (1 ≤ s'.T 4 v ∧ s'.T 4 v ≤ t)
/-- what holds while members are read: the chain from f to l -/
def LI (e : PE) (s s' : PS) (f l t : Int) : Prop := OLD s s' ∧ l + 1 = s'.nc ∧ (s.nc ≤ f ∧ f ≤ l) ∧ (s.p < s'.p ∧ s'.p ≤ e.n) ∧ CHx e s' s.nc f l s.p ∧ (s.on < s'.on ∧ s'.on ≤ 60 ∧ s'.nc - s.nc ≤ 2 * (s'.on - s.on) - 1 - (if f = l then 0 else 1)) ∧ (1 ≤ s'.T 4 l ∧ s'.T 4 l ≤ t)
section PLI
variable {e : PE} {s s1 s' : PS} {f l v m t u p sg q : Int}
theorem LI_one (h : PO e s s' v t) : LI e s s' v v t := by
  obtain ⟨h1, h2, h3, h4, h5, h6, h7⟩ := h
  exact ⟨h1, h2, ⟨h3, Int.le_refl _⟩, h4, h5, by rw [if_pos rfl]; omega, h7⟩
theorem LI_app (h : LI e s s1 f l t) (g : PO e (s1.to (s1.p + 1)) s' m u) (hu : u ≤ t) : LI e s (s'.up 2 l m) f m t := by
  obtain ⟨h1, h2, h3, h4, h5, h6, h7⟩ := h
  obtain ⟨g1, g2, g3, g4, g5, g6, g7⟩ := g
  have hm : l < m := by have : s1.nc ≤ m := g3; omega
  have a4 : s1.p + 1 < s'.p := g4.1
  have a5 : s1.on < s'.on := g6.1
  have a6 : s'.nc - s1.nc ≤ 2 * (s'.on - s1.on) - 1 := g6.2.2
  have ho : OLD s1 s' := g1
  have gc : CHx e s' (l + 1) m m (s1.p + 1) := by
    have : CHx e s' s1.nc m m (s1.p + 1) := g5
    rw [← h2] at this; exact this
  refine ⟨(h1.tr ho).up (by omega), g2, ⟨h3.1, by omega⟩, ⟨?_, g4.2⟩, CH_app h5 (by omega) ho gc (by omega), ⟨?_, g6.2.1, ?_⟩, ?_⟩
  · show s.p < s'.p; omega
  · show s.on < s'.on; omega
  · show s'.nc - s.nc ≤ 2 * (s'.on - s.on) - 1 - _
    have h62 := h6.2.2
    rw [if_neg (by omega)]
    split at h62 <;> omega
  · rw [up_nk (by omega)]; omega
theorem PO_jn {kd : Int} (h : LI e s s1 f l t) (hk : 0 ≤ kd ∧ kd ≤ 5) (ht : 1 ≤ t) : PO e s (jn kd f l s1).2 (jn kd f l s1).1 t := by
  obtain ⟨h1, h2, h3, h4, h5, h6, h7⟩ := h
  unfold jn
  by_cases q : f = l
  · rw [if_pos q]
    subst q
    rw [if_pos rfl] at h6
    exact ⟨h1, h2, h3.1, h4, h5, ⟨h6.1, h6.2.1, by have := h6.2.2; show s1.nc - s.nc ≤ 2 * (s1.on - s.on) - 1; omega⟩, h7⟩
  · rw [if_neg q]
    rw [if_neg q] at h6
    refine ⟨h1.ad, rfl, by show s.nc ≤ s1.nc; omega, h4, CH_join h5 hk (by omega) (Int.le_refl _), ⟨h6.1, h6.2.1, ?_⟩, ?_⟩
    · show s1.nc + 1 - s.nc ≤ 2 * (s1.on - s.on) - 1; omega
    · show 1 ≤ (if s1.nc = s1.nc then (1 : Int) else _) ∧ (if s1.nc = s1.nc then (1 : Int) else _) ≤ t
      rw [if_pos rfl]; omega
/-- { } -/
theorem PO_some {fr : Int} (h : LI e s.o1 s1 f l t) (hf : 0 ≤ fr ∧ fr ≤ 9) (ht : 1 ≤ u) (hp : s1.p < e.n) (h60 : s.on < 60) : PO e s (s1.ad (s1.p + 1) (rowN 3 f fr)) s1.nc u := by
  obtain ⟨h1, h2, h3, h4, h5, h6, h7⟩ := h
  have a1 : s.nc ≤ f := h3.1
  have a4 : s.p < s1.p := h4.1
  have a6 : s.on + 1 < s1.on := h6.1
  have a7 : s1.nc - s.nc ≤ 2 * (s1.on - (s.on + 1)) - 1 - (if f = l then 0 else 1) := h6.2.2
  refine ⟨OLD.ad h1, rfl, by show s.nc ≤ s1.nc; omega, ⟨?_, ?_⟩, CH_join h5 (by omega) hf (by omega), ⟨?_, h6.2.1, ?_⟩, ?_⟩
  · show s.p < s1.p + 1; omega
  · show s1.p + 1 ≤ e.n; omega
  · show s.on < s1.on; omega
  · show s1.nc + 1 - s.nc ≤ 2 * (s1.on - s.on) - 1
    split at a7 <;> omega
  · show 1 ≤ (if s1.nc = s1.nc then (1 : Int) else _) ∧ (if s1.nc = s1.nc then (1 : Int) else _) ≤ u
    rw [if_pos rfl]; omega
theorem PO_fst {a : Int} (h : PO e (s.o1.to (s.p + a)) s' v t) (ha : 0 ≤ a) : LI e s.o1 s' v v t := by
  obtain ⟨h1, h2, h3, h4, h5, h6, h7⟩ := h
  have a4 : s.p + a < s'.p := h4.1
  have h5' : CHx e s' s.nc v v (s.p + a) := h5
  exact ⟨h1, h2, ⟨h3, Int.le_refl _⟩, ⟨by show s.p < s'.p; omega, h4.2⟩, CH_lo h5' (by show s.p ≤ s.p + a; omega), by rw [if_pos rfl]; exact ⟨h6.1, h6.2.1, by have q : s'.nc - s.nc ≤ 2 * (s'.on - (s.on + 1)) - 1 := h6.2.2; show s'.nc - s.nc ≤ 2 * (s'.on - (s.on + 1)) - 1 - 0; omega⟩, h7⟩
/-- ( ) -/
theorem PO_par (h : PO e (s.o1.to (s.p + 1)) s' v t) (hp : s'.p < e.n) (ht : t ≤ u) : PO e s (s'.to (s'.p + 1)) v u := by
  obtain ⟨h1, h2, h3, h4, h5, h6, h7⟩ := h
  have a4 : s.p + 1 < s'.p := h4.1
  have a6 : s.on + 1 < s'.on := h6.1
  have a7 : s'.nc - s.nc ≤ 2 * (s'.on - (s.on + 1)) - 1 := h6.2.2
  refine ⟨h1, h2, h3, ⟨?_, ?_⟩, CH_to (CH_lo h5 (by show s.p ≤ s.p + 1; omega)) (by omega), ⟨?_, h6.2.1, ?_⟩, ⟨h7.1, by have := h7.2; show s'.T 4 v ≤ u; omega⟩⟩
  · show s.p < s'.p + 1; omega
  · show s'.p + 1 ≤ e.n; omega
  · show s.on < s'.on; omega
  · show s'.nc - s.nc ≤ 2 * (s'.on - s.on) - 1; omega
/-- > < -/
theorem PO_up {kd : Int} (h : PO e (s.o1.to (s.p + 1)) s' v t) (hk : 0 ≤ kd ∧ kd ≤ 5) (ht : 1 ≤ u) : PO e s (s'.ad s'.p (rowN kd v 0)) s'.nc u := by
  obtain ⟨h1, h2, h3, h4, h5, h6, h7⟩ := h
  have a1 : s.nc ≤ v := h3
  have a4 : s.p + 1 < s'.p := h4.1
  have a6 : s.on + 1 < s'.on := h6.1
  have a7 : s'.nc - s.nc ≤ 2 * (s'.on - (s.on + 1)) - 1 := h6.2.2
  refine ⟨OLD.ad h1, rfl, by show s.nc ≤ s'.nc; omega, ⟨by show s.p < s'.p; omega, h4.2⟩, CH_join (CH_lo h5 (by show s.p ≤ s.p + 1; omega)) hk (by omega) (Int.le_refl _), ⟨?_, h6.2.1, ?_⟩, ?_⟩
  · show s.on < s'.on; omega
  · show s'.nc + 1 - s.nc ≤ 2 * (s'.on - s.on) - 1; omega
  · show 1 ≤ (if s'.nc = s'.nc then (1 : Int) else _) ∧ (if s'.nc = s'.nc then (1 : Int) else _) ≤ u
    rw [if_pos rfl]; omega
/-- a leaf, or * -/
theorem PO_new {g : Nat → Int} (h0 : 0 ≤ s.nc) (hg : NOr e s.p p g) (h1 : g 1 = -1) (h2 : g 2 = -1) (h4 : g 4 = 1) (hp : s.p < p ∧ p ≤ e.n) (h60 : s.on < 60) (ht : 1 ≤ u) : PO e s (s.o1.ad p g) s.nc u := by
  refine ⟨OLD.ad (OLD.o1 OLD.rf), rfl, Int.le_refl _, hp, CH_new (s := s.o1) h0 hg h1 h2, ⟨?_, ?_, ?_⟩, ?_⟩
  · show s.on < s.on + 1; omega
  · show s.on + 1 ≤ 60; omega
  · show s.nc + 1 - s.nc ≤ 2 * (s.on + 1 - s.on) - 1; omega
  · show 1 ≤ (if s.nc = s.nc then g 4 else _) ∧ (if s.nc = s.nc then g 4 else _) ≤ u
    rw [if_pos rfl]; omega
/-- a sign, a boost -/
theorem PO_sg (h : PO e (s.to q) s' v t) (hq : q = s.p ∨ q = s.p + 1) (hs : 0 ≤ sg ∧ sg ≤ 2) (ht : t ≤ u) : PO e s (s'.up 3 v sg) v u := by
  obtain ⟨h1, h2, h3, h4, h5, h6, h7⟩ := h
  have a4 : q < s'.p := h4.1
  refine ⟨OLD.up h1 h3, h2, h3, ⟨by show s.p < s'.p; omega, h4.2⟩, CH_top (Or.inl rfl) (CH_lo h5 (by show s.p ≤ q; omega)) ⟨fun _ => hs, fun z => absurd z (by decide)⟩, h6, ?_⟩
  rw [up_ne (by decide)]; omega
theorem PO_bo {b : Int} (h : PO e (s.to q) s' v t) (hq : q = s.p ∨ q = s.p + 1) (hs : 0 ≤ sg ∧ sg ≤ 2) (hb : 1 ≤ b ∧ b ≤ 9) (hp : s'.p + 2 ≤ e.n) (ht : 9 * t ≤ u) (hu : u ≤ 10000000000000) : PO e s (((s'.to (s'.p + 2)).up 4 v (s'.T 4 v * b)).up 3 v sg) v u := by
  obtain ⟨h1, h2, h3, h4, h5, h6, h7⟩ := h
  have a4 : q < s'.p := h4.1
  have hb2 : 1 ≤ s'.T 4 v * b ∧ s'.T 4 v * b ≤ u := by
    have q1 : s'.T 4 v * 1 ≤ s'.T 4 v * b := Int.mul_le_mul_of_nonneg_left hb.1 (by omega)
    have q2 : s'.T 4 v * b ≤ s'.T 4 v * 9 := Int.mul_le_mul_of_nonneg_left hb.2 (by omega)
    omega
  refine ⟨OLD.up (OLD.up (OLD.to h1) h3) h3, h2, h3, ⟨by show s.p < s'.p + 2; omega, hp⟩, CH_top (Or.inl rfl) (CH_top (Or.inr rfl) (CH_to (CH_lo h5 (by show s.p ≤ q; omega)) (by omega)) ⟨fun z => absurd z (by decide), fun _ => ⟨hb2.1, by omega⟩⟩) ⟨fun _ => hs, fun z => absurd z (by decide)⟩, h6, ?_⟩
  rw [up_ne (by decide), up_at]; exact hb2
end PLI

/-! what leaves leave -/
section LWF
variable {e : PE} {f p q m v kd : Int} {l : LD}
theorem enF_al {P : Int → Prop} {b to : Int} (h0 : 0 ≤ b) : ∀ k, b ≤ k → k < enF P b to → k < to → P k := by
  intro k hk h1 h2
  obtain ⟨n, hn⟩ : ∃ n : Nat, (to - b).toNat = n := ⟨_, rfl⟩
  induction n generalizing b with
  | zero => omega
  | succ n ih =>
    by_cases hb : P b
    · rcases (show k = b ∨ b + 1 ≤ k by omega) with z | z
      · rw [z]; exact hb
      · rw [enF_s (by omega) hb] at h1
        exact ih (by omega) z h1 (by omega)
    · rw [enF_t h0 (by omega) hb] at h1; omega
theorem vR_wf (h : vR e m p = .inr (v, q)) (h0 : 0 ≤ p) : (p < q ∧ q ≤ e.n) ∧ (m = 9 → -1000000000 ≤ v ∧ v ≤ 1000000000) ∧ (m = 9 → hc e p ≠ 45 → 0 ≤ v) := by
  unfold vR at h
  split at h
  · cases h
  · rename_i hd
    split at h
    · cases h
    · rename_i hm
      have hd' : dg (hc e (vS e p)) := Classical.byContradiction hd
      have hs0 : p ≤ vS e p := by unfold vS; split <;> omega
      have hn : vS e p < e.n := hc_b (by omega)
      have h1 : vS e p < vE e p := enF_gt (P := fun k => dg (hc e k)) (by omega) hn hd'
      have h2 : vE e p ≤ e.n := (enF_b (P := fun k => dg (hc e k)) (by omega) (by omega)).2
      have ha : alF (fun k => dg (hc e k)) (vS e p) (vE e p) := fun k k0 k1 => enF_al (P := fun k => dg (hc e k)) (by omega) k k0 k1 (by omega)
      have hv := congrArg (fun z => match z with | Sum.inr (a : Int × Int) => a.1 | _ => 0) h
      have hq := congrArg (fun z => match z with | Sum.inr (a : Int × Int) => a.2 | _ => 0) h
      simp only at hv hq
      refine ⟨by omega, fun h9 => ?_, fun h9 hc9 => ?_⟩
      · have hb := dV_b9 ha (by omega)
        rw [← hv]
        split <;> omega
      · have hb := dV_b9 ha (by omega)
        rw [← hv, if_neg hc9]; omega
theorem bd_inr {A C : Type} {x : Int ⊕ A} {g : A → Int ⊕ C} {c : C} (h : bd x g = .inr c) : ∃ a, x = .inr a ∧ g a = .inr c := by
  cases x with
  | inl z => cases h
  | inr a => exact ⟨a, rfl, h⟩
theorem nb_inr {c : Int} (h : nb e c p = .inr q) : hc e p = c ∧ q = p + 1 := by
  unfold nb at h
  split at h
  · cases h; exact ⟨by assumption, rfl⟩
  · cases h
theorem rgR_wf (h : rgR e p = .inr l) (h0 : 0 ≤ p) : (p < l.p ∧ l.p ≤ e.n) ∧ l.kd = 9 ∧ l.fr = 0 ∧ l.to = 0 ∧ l.sl = 0 ∧ l.rd = 0 := by
  obtain ⟨a, h1, h⟩ := bd_inr h
  obtain ⟨p2, h2, h⟩ := bd_inr h
  obtain ⟨p3, h3, h⟩ := bd_inr h
  obtain ⟨b, h4, h⟩ := bd_inr h
  obtain ⟨p5, h5, h⟩ := bd_inr h
  cases h
  obtain ⟨g2, e2⟩ := nb_inr h2
  obtain ⟨g3, e3⟩ := nb_inr h3
  obtain ⟨g5, e5⟩ := nb_inr h5
  have a1 : p < a.2 := by
    split at h1
    · cases h1; show p < p + 1; omega
    · have := (vR_wf (v := a.1) (q := a.2) h1 (by omega)).1; omega
  have a4 : p < b.2 := by
    split at h4
    · cases h4; show p < p3; omega
    · have := (vR_wf (v := b.1) (q := b.2) h4 (by omega)).1; omega
  have := hc_b (e := e) (p := b.2) (by omega)
  exact ⟨⟨by show p < p5; omega, by show p5 ≤ e.n; omega⟩, rfl, rfl, rfl, rfl, rfl⟩
theorem nrR_wf (h : nrR e p = .inr l) (h0 : 0 ≤ p) : (p < l.p ∧ l.p ≤ e.n) ∧ l.kd = 10 ∧ l.fr = 0 ∧ l.to = 0 ∧ l.sl = 0 ∧ (-1000000000 ≤ l.lo ∧ l.lo ≤ 1000000000) ∧ (-1000000000 ≤ l.hi ∧ l.hi ≤ 1000000000) ∧ (0 ≤ l.rd ∧ l.rd ≤ 1000000000) := by
  obtain ⟨a, h1, h⟩ := bd_inr h
  obtain ⟨p2, h2, h⟩ := bd_inr h
  obtain ⟨b, h3, h⟩ := bd_inr h
  obtain ⟨p4, h4, h⟩ := bd_inr h
  have h' : (if hc e p4 = 45 then (.inl (-10 - p4) : Int ⊕ LD) else bd (vR e 9 p4) fun c => .inr ⟨c.2, 10, 0, 0, 0, a.1, b.1, c.1⟩) = .inr l := h
  split at h'
  · cases h'
  · rename_i h5
    obtain ⟨c, h6, h'⟩ := bd_inr h'
    cases h'
    obtain ⟨g2, e2⟩ := nb_inr h2
    obtain ⟨g4, e4⟩ := nb_inr h4
    have w1 := vR_wf (v := a.1) (q := a.2) h1 (by omega)
    have w3 := vR_wf (v := b.1) (q := b.2) h3 (by omega)
    have w6 := vR_wf (v := c.1) (q := c.2) h6 (by omega)
    exact ⟨⟨by show p < c.2; omega, by show c.2 ≤ e.n; omega⟩, rfl, rfl, rfl, rfl, w1.2.1 rfl, w3.2.1 rfl, ⟨w6.2.2 rfl h5, (w6.2.1 rfl).2⟩⟩
theorem qtR_wf (h : qtR e kd p = .inr l) (h0 : 0 ≤ p) (hp : p < e.n) : (p < l.p ∧ l.p ≤ e.n) ∧ ((kd = 0 ∧ l.kd = 7) ∨ (kd ≠ 0 ∧ l.kd = 8)) ∧ (p ≤ l.fr ∧ l.fr ≤ l.to ∧ l.to ≤ l.p) ∧ (0 ≤ l.sl ∧ l.sl ≤ 9) ∧ l.lo = 0 ∧ l.hi = 0 ∧ l.rd = 0 := by
  have hb := enF_b (P := fun k => hc e k ≠ 34) (b := p + 1) (to := e.n) (by omega) (by omega)
  have hb' : p + 1 ≤ qtE e p ∧ qtE e p ≤ e.n := hb
  unfold qtR at h
  split at h
  · cases h
  · split at h
    · rename_i hk
      split at h
      · rename_i hd
        cases h
        have := hc_b (e := e) (p := qtE e p + 2) (by omega)
        exact ⟨⟨by show p < qtE e p + 3; omega, by show qtE e p + 3 ≤ e.n; omega⟩, Or.inl ⟨hk.1, rfl⟩, ⟨by show p ≤ p + 1; omega, hb'.1, by show qtE e p ≤ qtE e p + 3; omega⟩, ⟨by show 0 ≤ hc e (qtE e p + 2) - 48; omega, by show hc e (qtE e p + 2) - 48 ≤ 9; omega⟩, rfl, rfl, rfl⟩
      · cases h
    · cases h
      refine ⟨⟨by show p < qtE e p + 1; omega, by show qtE e p + 1 ≤ e.n; omega⟩, ?_, ⟨by show p ≤ p + 1; omega, hb'.1, by show qtE e p ≤ qtE e p + 1; omega⟩, ⟨Int.le_refl _, by show (0 : Int) ≤ 9; decide⟩, rfl, rfl, rfl⟩
      by_cases z : kd = 0
      · exact Or.inl ⟨z, if_pos z⟩
      · exact Or.inr ⟨z, if_neg z⟩
theorem ptR_wf (h : ptR e kd p = .inr l) (h0 : 0 ≤ p) (hp : p < e.n) (hb : ptb (hc e p)) : (p < l.p ∧ l.p ≤ e.n) ∧ ((l.kd = 7 ∧ kd = 0) ∨ (l.kd = 8 ∧ kd ≠ 0) ∨ ((l.kd = 11 ∨ l.kd = 12) ∧ l.to ≤ l.fr + 20)) ∧ (p ≤ l.fr ∧ l.fr ≤ l.to ∧ l.to ≤ l.p) ∧ (0 ≤ l.sl ∧ l.sl ≤ 9) ∧ l.lo = 0 ∧ l.hi = 0 ∧ l.rd = 0 := by
  have h1 : p < ptE e p := enF_gt (P := fun k => ptb (hc e k)) h0 hp hb
  have h2 : ptE e p ≤ e.n := (enF_b (P := fun k => ptb (hc e k)) h0 (by omega)).2
  unfold ptR at h
  split at h
  · cases h
  · split at h
    · cases h
    · split at h
      · cases h
        exact ⟨⟨h1, h2⟩, Or.inr (Or.inr ⟨Or.inl rfl, by show ptE e p ≤ p + 20; omega⟩), ⟨Int.le_refl _, by show p ≤ ptE e p; omega, Int.le_refl _⟩, ⟨Int.le_refl _, by show (0 : Int) ≤ 9; decide⟩, rfl, rfl, rfl⟩
      · split at h
        · split at h
          · rename_i hd
            cases h
            have := hc_b (e := e) (p := ptE e p + 1) (by omega)
            exact ⟨⟨by show p < ptE e p + 2; omega, by show ptE e p + 2 ≤ e.n; omega⟩, Or.inr (Or.inr ⟨Or.inr rfl, by show ptE e p ≤ p + 20; omega⟩), ⟨Int.le_refl _, by show p ≤ ptE e p; omega, by show ptE e p ≤ ptE e p + 2; omega⟩, ⟨by show 0 ≤ hc e (ptE e p + 1) - 48; omega, by show hc e (ptE e p + 1) - 48 ≤ 9; omega⟩, rfl, rfl, rfl⟩
          · cases h
        · cases h
          refine ⟨⟨h1, h2⟩, ?_, ⟨Int.le_refl _, by show p ≤ ptE e p; omega, Int.le_refl _⟩, ⟨Int.le_refl _, by show (0 : Int) ≤ 9; decide⟩, rfl, rfl, rfl⟩
          by_cases z : kd = 0
          · exact Or.inl ⟨if_pos z, z⟩
          · exact Or.inr (Or.inl ⟨if_neg z, z⟩)
theorem NOr_L {p0 p1 : Int} (h5 : 0 ≤ f ∧ f < e.f) (h12 : e.f ≤ 12) (hk : l.kd = 7 ∨ l.kd = 8 ∨ l.kd = 9 ∨ l.kd = 10 ∨ l.kd = 11 ∨ l.kd = 12) (hs : 0 ≤ l.sl ∧ l.sl ≤ 9) (ht : lfk l.kd → p0 ≤ l.fr ∧ l.fr ≤ l.to ∧ l.to ≤ p1) (h9 : l.kd = 9 ∨ l.kd = 10 → l.fr = 0 ∧ l.to = 0) (h11 : 11 ≤ l.kd → l.to ≤ l.fr + 20) (h10 : l.kd = 10 → (-1000000000 ≤ l.lo ∧ l.lo ≤ 1000000000) ∧ (-1000000000 ≤ l.hi ∧ l.hi ≤ 1000000000) ∧ (0 ≤ l.rd ∧ l.rd ≤ 1000000000))
    (hK : (l.kd = 7 → e.K f = 0) ∧ (l.kd = 8 → e.K f = 1) ∧ (l.kd = 9 → e.K f = 2) ∧ (l.kd = 10 → e.K f = 3) ∧ (11 ≤ l.kd → e.K f = 0 ∨ e.K f = 1)) : NOr e p0 p1 (rowL l f) := by
  have e0 : rowL l f 0 = l.kd := rfl
  have e1 : rowL l f 1 = -1 := rfl
  have e3 : rowL l f 3 = 0 := rfl
  have e4 : rowL l f 4 = 1 := rfl
  have e5 : rowL l f 5 = f := rfl
  have e6 : rowL l f 6 = l.fr := rfl
  have e7 : rowL l f 7 = l.to := rfl
  have e8 : rowL l f 8 = l.sl := rfl
  have e9 : rowL l f 9 = l.lo := rfl
  have e10 : rowL l f 10 = l.hi := rfl
  have e11 : rowL l f 11 = l.rd := rfl
  unfold NOr
  rw [e0, e1, e3, e4, e5, e6, e7, e8, e9, e10, e11]
  exact ⟨⟨by omega, by omega, by omega, hs, by omega, by omega⟩, ⟨by omega, ht, h9, h11⟩, h10, ⟨by omega, fun _ => rfl⟩, hK⟩
theorem lfR_wf (h : lfR e f p = .inr l) (h0 : 0 ≤ p) (h12 : e.f ≤ 12) : (p < l.p ∧ l.p ≤ e.n) ∧ NOr e p l.p (rowL l f) := by
  unfold lfR at h
  split at h
  · cases h
  · rename_i hg
    have g : lfG e f p := Classical.byContradiction fun z => hg (zb_f z)
    obtain ⟨g1, g2⟩ := g
    split at h
    · rename_i hh
      rw [if_pos hh] at g2
      have hp := hc_b (e := e) (p := p) (by omega)
      obtain ⟨w1, w2, w3, w4, w5, w6, w7⟩ := qtR_wf h h0 hp
      exact ⟨w1, NOr_L g1 h12 (by omega) w4 (fun _ => w3) (by omega) (by omega) (by omega) ⟨by omega, by omega, by omega, by omega, by omega⟩⟩
    · split at h
      · rename_i h1 hh
        rw [if_neg h1, if_pos hh] at g2
        obtain ⟨w1, w2, w3, w4, w5, w6⟩ := rgR_wf h h0
        exact ⟨w1, NOr_L g1 h12 (by omega) (by omega) (fun z => by unfold lfk at z; omega) (fun _ => ⟨w3, w4⟩) (by omega) (by omega) ⟨by omega, by omega, fun _ => g2, by omega, by omega⟩⟩
      · split at h
        · rename_i h1 h2 hh
          rw [if_neg h1, if_neg h2, if_pos hh] at g2
          obtain ⟨w1, w2, w3, w4, w5, w6, w7, w8⟩ := nrR_wf h h0
          exact ⟨w1, NOr_L g1 h12 (by omega) (by omega) (fun z => by unfold lfk at z; omega) (fun _ => ⟨w3, w4⟩) (by omega) (fun _ => ⟨w6, w7, w8⟩) ⟨by omega, by omega, by omega, fun _ => g2, by omega⟩⟩
        · rename_i h1 h2 h3
          rw [if_neg h1, if_neg h2, if_neg h3] at g2
          obtain ⟨w1, w2, w3, w4, w5, w6, w7⟩ := ptR_wf h h0 (ptb_n g2.1) g2.1
          exact ⟨w1, NOr_L g1 h12 (by omega) w4 (fun _ => w3) (by omega) (by omega) (by omega) ⟨by omega, by omega, by omega, by omega, fun _ => g2.2⟩⟩
theorem fh_b (h0 : 0 ≤ p) (hn : p ≤ e.n) : (p ≤ fhP e p ∧ fhP e p ≤ e.n) ∧ 0 ≤ fhF e p ∧ fhF e p ≤ 99 := by
  have hN : fhN e p = 0 ∨ fhN e p = 1 ∨ fhN e p = 2 := by unfold fhN; split; (split; (omega); (omega)); (omega)
  unfold fhP fhF
  by_cases z : zb (fhT e p) = 1
  · rw [if_pos z, if_pos z]
    obtain ⟨t1, t2, t3⟩ := zb_1.mp z
    have hd : fhN e p = 1 → dg (e.B p) := fun y => by unfold fhN at y; split at y; (rename_i q; exact q.2); (omega)
    have hd2 : fhN e p = 2 → dg (e.B p) ∧ dg (e.B (p + 1)) := fun y => by
      unfold fhN at y
      split at y
      · rename_i q
        split at y
        · rename_i q2; exact ⟨q.2, q2.2⟩
        · omega
      · omega
    refine ⟨by omega, ?_⟩
    rcases hN with y | y | y
    · exact absurd y t1
    · have := hd y
      rw [y, dV_s (i := p) (j := p) (Int.le_refl _) rfl, dV_0 (Int.le_refl _)]; omega
    · have := hd2 y
      rw [y, dV_s (i := p) (j := p + 1) (by omega) (by omega), dV_s (i := p) (j := p) (Int.le_refl _) rfl, dV_0 (Int.le_refl _)]; omega
  · rw [if_neg z, if_neg z]; omega
end LWF
end
section
/-! contracts: printed by tools/mk.py out of s48bb_pfb.py -/
set_option maxRecDepth 100000
set_option maxHeartbeats 1500000
/-- a code of a reading that failed: its place is in the text -/
def FB (e : PE) (c : Int) : Prop := c = -3 ∨ c = 0 ∨ (0 ≤ -10 - c ∧ -10 - c ≤ e.n + 3)
def gd {A : Type} (e : PE) (x : Int ⊕ A) (P : A → Prop) : Prop := match x with
  | .inl c => FB e c
  | .inr a => P a
section FBS
variable {e : PE} {p q m c f kd : Int}
theorem gd_bd {A C : Type} {x : Int ⊕ A} {g : A → Int ⊕ C} {P : A → Prop} {Q : C → Prop} (h : gd e x P) (k : ∀ a, P a → gd e (g a) Q) : gd e (bd x g) Q := by
  cases x with
  | inl c => exact h
  | inr a => exact k a h
theorem FB_at (h0 : 0 ≤ p) (h : p ≤ e.n + 3) : FB e (-10 - p) := Or.inr (Or.inr ⟨by omega, by omega⟩)
theorem gd_if {A : Type} {P : Prop} [Decidable P] {x y : Int ⊕ A} {Q : A → Prop} (h1 : P → gd e x Q) (h2 : ¬ P → gd e y Q) : gd e (if P then x else y) Q := by
  by_cases z : P
  · rw [if_pos z]; exact h1 z
  · rw [if_neg z]; exact h2 z
abbrev inTx (e : PE) (p : Int) : Prop := 0 ≤ p ∧ p ≤ e.n
theorem nb_gd (hc0 : c ≠ -1) (h : inTx e p) : gd e (nb e c p) (inTx e) := by
  unfold nb
  refine gd_if (fun z => ?_) (fun _ => ?_)
  · have : p < e.n := hc_b (by rw [z]; exact hc0)
    exact ⟨by have := h.1; omega, by omega⟩
  · exact FB_at h.1 (by have := h.2; omega)
theorem vR_gd (hm : 0 ≤ m) (h : inTx e p) : gd e (vR e m p) (fun a => inTx e a.2) := by
  have hs : p ≤ vS e p ∧ vS e p ≤ e.n := by
    unfold vS
    split
    · rename_i z
      have : p < e.n := hc_b (by rw [z]; decide)
      omega
    · exact ⟨Int.le_refl _, h.2⟩
  have he := enF_b (P := fun k => dg (hc e k)) (b := vS e p) (to := e.n) (by have := h.1; omega) hs.2
  have h0 := h.1
  unfold vR
  refine gd_if (fun _ => FB_at (by omega) (by omega)) (fun _ => gd_if (fun z => FB_at (by omega) ?_) (fun _ => ?_))
  · unfold vE at z; omega
  · exact ⟨by show 0 ≤ vE e p; unfold vE; omega, by show vE e p ≤ _; unfold vE; omega⟩
theorem rgR_gd (h : inTx e (p + 1)) : gd e (rgR e p) (fun _ => True) := by
  unfold rgR
  refine gd_bd (P := fun (a : Int × Int) => inTx e a.2) (gd_if (fun _ => h) (fun _ => vR_gd (by decide) h)) (fun a ha => ?_)
  refine gd_bd (nb_gd (by decide) ha) (fun p2 h2 => gd_bd (nb_gd (by decide) h2) (fun p3 h3 => ?_))
  refine gd_bd (P := fun (a : Int × Int) => inTx e a.2) (gd_if (fun _ => h3) (fun _ => vR_gd (by decide) h3)) (fun b hb => ?_)
  exact gd_bd (nb_gd (by decide) hb) (fun _ _ => trivial)
theorem nrR_gd (h : inTx e (p + 1)) : gd e (nrR e p) (fun _ => True) := by
  unfold nrR
  refine gd_bd (vR_gd (by decide) h) (fun a ha => gd_bd (nb_gd (by decide) ha) (fun p2 h2 => gd_bd (vR_gd (by decide) h2) (fun b hb => gd_bd (nb_gd (by decide) hb) (fun p4 h4 => ?_))))
  exact gd_if (fun _ => FB_at h4.1 (by have := h4.2; omega)) (fun _ => gd_bd (vR_gd (by decide) h4) (fun _ _ => trivial))
theorem qtR_gd (h : inTx e (p + 1)) : gd e (qtR e kd p) (fun _ => True) := by
  have he := enF_b (P := fun k => hc e k ≠ 34) (b := p + 1) (to := e.n) h.1 h.2
  have h0 := h.1; have h1 := h.2
  unfold qtR
  refine gd_if (fun _ => FB_at (by omega) (by omega)) (fun _ => gd_if (fun _ => gd_if (fun _ => trivial) (fun _ => FB_at ?_ ?_)) (fun _ => trivial))
  · unfold qtE; omega
  · unfold qtE; omega
theorem ptR_gd (h0 : 0 ≤ p) (h : p ≤ e.n) : gd e (ptR e kd p) (fun _ => True) := by
  have he := enF_b (P := fun k => ptb (hc e k)) (b := p) (to := e.n) h0 h
  unfold ptR
  refine gd_if (fun z => FB_at (by omega) ?_) (fun _ => gd_if (fun _ => FB_at ?_ ?_) (fun _ => gd_if (fun _ => trivial) (fun _ => gd_if (fun _ => gd_if (fun _ => trivial) (fun _ => FB_at ?_ ?_)) (fun _ => trivial))))
  all_goals (unfold ptE at *; omega)
theorem lfR_gd (h0 : 0 ≤ p) (h : p ≤ e.n) : gd e (lfR e f p) (fun _ => True) := by
  unfold lfR
  have nx : ∀ c, c ≠ -1 → hc e p = c → inTx e (p + 1) := fun c hc0 z => by
    have : p < e.n := hc_b (by rw [z]; exact hc0)
    exact ⟨by omega, by omega⟩
  exact gd_if (fun _ => FB_at h0 (by omega)) (fun _ => gd_if (fun z => qtR_gd (nx 34 (by decide) z)) (fun _ => gd_if (fun z => rgR_gd (nx 91 (by decide) z)) (fun _ => gd_if (fun z => nrR_gd (nx 64 (by decide) z)) (fun _ => ptR_gd h0 h))))
/-- the reading's place stays in the text -/
def zG (e : PE) (x : PZ ⊕ PR) : Prop := match x with
  | .inl z => inTx e z.2.2.p
  | .inr (.inl c) => FB e c
  | .inr (.inr _) => True
theorem zG_if {P : Prop} [Decidable P] {x y : PZ ⊕ PR} (h1 : P → zG e x) (h2 : ¬ P → zG e y) : zG e (if P then x else y) := by
  by_cases z : P
  · rw [if_pos z]; exact h1 z
  · rw [if_neg z]; exact h2 z
theorem one_zG {a : Int} {K : List PFr} {s : PS} (h12 : e.f ≤ 12) (h : inTx e s.p) : zG e (oneS e a K s) := by
  have h0 := h.1; have h1 := h.2
  have nx : ∀ c, c ≠ -1 → hc e s.p = c → inTx e (s.p + 1) := fun c hc0 z => by
    have : s.p < e.n := hc_b (by rw [z]; exact hc0)
    exact ⟨by omega, by omega⟩
  unfold oneS
  refine zG_if (fun _ => FB_at h0 (by omega)) (fun _ => zG_if (fun _ => Or.inl rfl) (fun _ => zG_if (fun z => nx 40 (by decide) z) (fun _ => zG_if (fun z => zG_if (fun z1 => zG_if (fun z2 => ?_) (fun _ => FB_at (by omega) ?_)) (fun _ => FB_at (by omega) ?_)) (fun _ => zG_if (fun z => nx 62 (by decide) z) (fun _ => zG_if (fun z => nx 60 (by decide) z) (fun _ => zG_if (fun z => nx 42 (by decide) z.1) (fun _ => ?_)))))))
  · have : s.p + 2 < e.n := hc_b (by rw [z2]; decide)
    exact ⟨by show 0 ≤ s.p + 3; omega, by show s.p + 3 ≤ _; omega⟩
  · omega
  · omega
  · have hf := (fh_b h0 h1).1
    have hl := lfR_gd (e := e) (f := fhF e s.p) (p := fhP e s.p) (by omega) hf.2
    cases hx : lfR e (fhF e s.p) (fhP e s.p) with
    | inl c => rw [hx] at hl; exact hl
    | inr l =>
      have hw := (lfR_wf hx (by omega) h12).1
      exact ⟨by show 0 ≤ l.p; omega, hw.2⟩
theorem jn_p {kd f l : Int} {s : PS} : (jn kd f l s).2.p = s.p := by unfold jn; split <;> rfl
theorem stp_zG {z : PZ} (h12 : e.f ≤ 12) (h : inTx e z.2.2.p) : zG e (stp e z) := by
  obtain ⟨c, K, s⟩ := z
  have h0 : 0 ≤ s.p := h.1
  have h1 : s.p ≤ e.n := h.2
  have nx : ∀ c, c ≠ -1 → hc e s.p = c → inTx e (s.p + 1) := fun c hc0 z => by
    have : s.p < e.n := hc_b (by rw [z]; exact hc0)
    exact ⟨by omega, by omega⟩
  cases c using PCt.cs with
  | any a => exact h
  | best a => exact h
  | all a => exact h
  | part a sg =>
    show inTx e (if 0 < sgn e sg s.p then s.p + 1 else s.p)
    by_cases z : 0 < sgn e sg s.p
    · rw [if_pos z]
      unfold sgn at z
      by_cases y : hc e s.p = -1
      · rw [y] at z; split at z <;> simp at z
      · have : s.p < e.n := hc_b y
        exact ⟨by omega, by omega⟩
    · rw [if_neg z]; exact h
  | one a => exact one_zG h12 h
  | la a f l => exact zG_if (fun z => nx 124 (by decide) z) (fun _ => by show inTx e (jn 0 f l s).2.p; rw [jn_p]; exact h)
  | lb a f l => exact zG_if (fun z => nx 47 (by decide) z) (fun _ => by show inTx e (jn 1 f l s).2.p; rw [jn_p]; exact h)
  | lc a f l w => exact zG_if (fun z => nx 32 (by decide) z) (fun _ => zG_if (fun _ => by show inTx e (jn 2 f l s).2.p; rw [jn_p]; exact h) (fun _ => FB_at h0 (by omega)))
  | ls a f l m => exact zG_if (fun z => nx 32 (by decide) z) (fun _ => zG_if (fun z => nx 125 (by decide) z) (fun _ => FB_at h0 (by omega)))
  | ret v =>
    cases K with
    | nil => trivial
    | cons k K =>
      cases k using PFr.cs with
      | a1 a => exact h
      | aL a f l => exact h
      | b1 a => exact h
      | bL a f l => exact h
      | c1 a => exact h
      | cL a f l w => exact h
      | pt sg =>
        refine zG_if (fun z => zG_if (fun z1 => ?_) (fun _ => FB_at (by omega) (by omega))) (fun _ => h)
        have : s.p + 1 < e.n := hc_b (by omega)
        exact ⟨by show 0 ≤ s.p + 2; omega, by show s.p + 2 ≤ _; omega⟩
      | pr => exact zG_if (fun z => nx 41 (by decide) z) (fun _ => FB_at h0 (by omega))
      | up k => exact h
      | s1 a m => exact h
      | sL a f l m => exact h
theorem stp_ret {z : PZ} {q : Int × PS} (h : inTx e z.2.2.p) (hq : stp e z = .inr (.inr q)) : inTx e q.2.p := by
  obtain ⟨c, K, s⟩ := z
  cases c using PCt.cs with
  | any a => cases hq
  | best a => cases hq
  | all a => cases hq
  | part a sg => cases hq
  | one a => exfalso; change oneS e a K s = _ at hq; unfold oneS at hq; grind
  | la a f l => exfalso; change (if _ then _ else _) = _ at hq; grind
  | lb a f l => exfalso; change (if _ then _ else _) = _ at hq; grind
  | lc a f l w => exfalso; change (if _ then _ else _) = _ at hq; grind
  | ls a f l m => exfalso; change (if _ then _ else _) = _ at hq; grind
  | ret v =>
    cases K with
    | nil => cases hq; exact h
    | cons k K =>
      cases k using PFr.cs with
      | pt sg => exfalso; change (if _ then _ else _) = _ at hq; grind
      | pr => exfalso; change (if _ then _ else _) = _ at hq; grind
      | _ => cases hq
theorem rn_FB {z : PZ} {c : Int} (h12 : e.f ≤ 12) (h : inTx e z.2.2.p) (hr : rn e z = .inl c) : FB e c := by
  have := rs_inv (d := (.inl 0 : PR)) (st := stp e) (I := fun z => inTx e z.2.2.p) (G := fun r => match r with | .inl c => FB e c | .inr _ => True)
    (fun s s' hs hq => by have := stp_zG (z := s) h12 hs; rw [hq] at this; exact this)
    (fun s r hs hq => by
      have := stp_zG (z := s) h12 hs; rw [hq] at this
      cases r with
      | inl c => exact this
      | inr _ => trivial)
    (Or.inr (Or.inl rfl)) z h
  have e2 : rs (.inl 0 : PR) (stp e) z = .inl c := hr
  rw [e2] at this
  exact this
theorem rn_FB' {z : PZ} {v : Int} {s : PS} (h12 : e.f ≤ 12) (h : inTx e z.2.2.p) (hr : rn e z = .inr (v, s)) : inTx e s.p := by
  have := rs_inv (d := (.inl 0 : PR)) (st := stp e) (I := fun z => inTx e z.2.2.p) (G := fun r => match r with | .inl _ => True | .inr q => inTx e q.2.p)
    (fun s s' hs hq => by have := stp_zG (z := s) h12 hs; rw [hq] at this; exact this)
    (fun s r hs hq => by
      cases r with
      | inl c => trivial
      | inr q => exact stp_ret hs hq)
    trivial z h
  have e2 : rs (.inl 0 : PR) (stp e) z = .inr (v, s) := hr
  rw [e2] at this
  exact this
end FBS
end
section
/-! contracts: printed by tools/mk.py out of s48bc_pcg.py -/
set_option maxRecDepth 100000
set_option maxHeartbeats 1500000
/-! the reading hangs on the text alone -/
/-- e' is the same text as e; its fields may be more -/
def SameT (e e' : PE) : Prop := e'.n = e.n ∧ (∀ k, 0 ≤ k → k < e.f → e'.K k = e.K k) ∧ e'.f = e.f ∧ (∀ i, 0 ≤ i → i < e.n → e'.B i = e.B i)
theorem SameT.n {e e' : PE} (h : SameT e e') : e'.n = e.n := h.1
theorem SameT.K {e e' : PE} (h : SameT e e') : ∀ k, 0 ≤ k → k < e.f → e'.K k = e.K k := h.2.1
theorem SameT.f {e e' : PE} (h : SameT e e') : e'.f = e.f := h.2.2.1
theorem SameT.B {e e' : PE} (h : SameT e e') : ∀ i, 0 ≤ i → i < e.n → e'.B i = e.B i := h.2.2.2
section PCG
variable {e e' : PE} {p q m b kd f : Int}
theorem hc_cg (h : SameT e e') (h0 : 0 ≤ p) : hc e' p = hc e p := by
  unfold hc
  rw [h.n]
  by_cases z : p < e.n
  · rw [if_pos z, if_pos z, h.B p h0 z]
  · rw [if_neg z, if_neg z]
theorem fsFN_cg {P Q : Int → Prop} : ∀ (k : Nat) (b : Int), (∀ j, b ≤ j → (P j ↔ Q j)) → fsFN P k b = fsFN Q k b := by
  intro k
  induction k with
  | zero => intro b _; rfl
  | succ k ih =>
    intro b h
    have e1 : zb (P b) = zb (Q b) := by
      by_cases z : P b
      · rw [zb_t z, zb_t ((h b (Int.le_refl _)).mp z)]
      · rw [zb_f z, zb_f (fun y => z ((h b (Int.le_refl _)).mpr y))]
    unfold fsFN
    first
      | rw [e1, ih (b + 1) (fun j hj => h j (by omega))]
      | (have hp : P b = Q b := propext (h b (Int.le_refl _)); simp only [hp, ih (b + 1) (fun j hj => h j (by omega))])
theorem enF_cg {P Q : Int → Prop} {to : Int} (h : ∀ j, b ≤ j → (P j ↔ Q j)) : enF P b to = enF Q b to := by
  unfold enF fsF
  rw [fsFN_cg (P := fun k => ¬ P k) (Q := fun k => ¬ Q k) _ b (fun j hj => not_congr (h j hj))]
theorem exF_cg {P Q : Int → Prop} {to : Int} (h : ∀ j, b ≤ j → j < to → (P j ↔ Q j)) : exF P b to ↔ exF Q b to :=
  ⟨fun ⟨j, a, c, d⟩ => ⟨j, a, c, (h j a c).mp d⟩, fun ⟨j, a, c, d⟩ => ⟨j, a, c, (h j a c).mpr d⟩⟩
theorem dVN_cg {A C : Int → Int} {i : Int} : ∀ k : Nat, (∀ j, i ≤ j → j < i + k → A j = C j) → dVN A i k = dVN C i k := by
  intro k
  induction k with
  | zero => intro _; rfl
  | succ k ih =>
    intro h
    show 10 * dVN A i k + (A (i + k) - 48) = 10 * dVN C i k + (C (i + k) - 48)
    rw [ih (fun j a b => h j a (by omega)), h (i + k) (by omega) (by omega)]
theorem dV_cg {A C : Int → Int} {i j : Int} (h : ∀ k, i ≤ k → k < j → A k = C k) : dV A i j = dV C i j := by
  unfold dV
  exact dVN_cg _ (fun k a b => h k a (by omega))
theorem dg_cg (h : SameT e e') (h0 : 0 ≤ b) : enF (fun k => dg (hc e' k)) b e'.n = enF (fun k => dg (hc e k)) b e.n := by
  rw [h.n]; exact enF_cg (fun j hj => by rw [hc_cg h (by omega)])
theorem nb_cg (h : SameT e e') (h0 : 0 ≤ p) : nb e' m p = nb e m p := by unfold nb; rw [hc_cg h h0]
theorem vS_cg (h : SameT e e') (h0 : 0 ≤ p) : vS e' p = vS e p := by unfold vS; rw [hc_cg h h0]
theorem vS_b (h0 : 0 ≤ p) : 0 ≤ vS e p := by unfold vS; split <;> omega
theorem vE_cg (h : SameT e e') (h0 : 0 ≤ p) : vE e' p = vE e p := by unfold vE; rw [vS_cg h h0]; exact dg_cg h (vS_b h0)
theorem vR_cg (h : SameT e e') (h0 : 0 ≤ p) : vR e' m p = vR e m p := by
  have hs := vS_b (e := e) h0
  unfold vR
  rw [vS_cg h h0, vE_cg h h0, hc_cg h hs, hc_cg h h0, dV_cg (A := hc e') (C := hc e) (fun k a b => hc_cg h (by omega))]
theorem bd_cg {A C : Type} {x : Int ⊕ A} {g g' : A → Int ⊕ C} (h : ∀ a, x = .inr a → g a = g' a) : bd x g = bd x g' := by
  cases x with
  | inl c => rfl
  | inr a => exact h a rfl
theorem vR_p {v : Int × Int} (h : vR e m p = .inr v) (h0 : 0 ≤ p) : 0 ≤ v.2 := by have := (vR_wf (v := v.1) (q := v.2) h h0).1; omega
theorem nb_p (h : nb e m p = .inr q) (h0 : 0 ≤ p) : 0 ≤ q := by have := nb_inr h; omega
theorem rgR_cg (h : SameT e e') (h0 : 0 ≤ p) : rgR e' p = rgR e p := by
  unfold rgR
  rw [hc_cg h (show 0 ≤ p + 1 by omega), vR_cg h (show 0 ≤ p + 1 by omega)]
  refine bd_cg (fun a ha => ?_)
  have ha2 : 0 ≤ a.2 := by
    split at ha
    · cases ha; show 0 ≤ p + 1; omega
    · exact vR_p ha (by omega)
  rw [nb_cg h ha2]
  refine bd_cg (fun p2 hp2 => ?_)
  have h2 := nb_p hp2 ha2
  rw [nb_cg h h2]
  refine bd_cg (fun p3 hp3 => ?_)
  have h3 := nb_p hp3 h2
  rw [hc_cg h h3, vR_cg h h3]
  refine bd_cg (fun c hc9 => ?_)
  have hb2 : 0 ≤ c.2 := by
    split at hc9
    · cases hc9; exact h3
    · exact vR_p hc9 h3
  rw [nb_cg h hb2]
theorem nrR_cg (h : SameT e e') (h0 : 0 ≤ p) : nrR e' p = nrR e p := by
  unfold nrR
  rw [vR_cg h (show 0 ≤ p + 1 by omega)]
  refine bd_cg (fun a ha => ?_)
  have ha2 := vR_p ha (show 0 ≤ p + 1 by omega)
  rw [nb_cg h ha2]
  refine bd_cg (fun p2 hp2 => ?_)
  have h2 := nb_p hp2 ha2
  rw [vR_cg h h2]
  refine bd_cg (fun c hc9 => ?_)
  have hb2 := vR_p hc9 h2
  rw [nb_cg h hb2]
  refine bd_cg (fun p4 hp4 => ?_)
  have h4 := nb_p hp4 hb2
  show (if hc e' p4 = 45 then _ else _) = (if hc e p4 = 45 then _ else _)
  rw [hc_cg h h4, vR_cg h h4]
theorem qtE_cg (h : SameT e e') (h0 : 0 ≤ p) : qtE e' p = qtE e p := by
  unfold qtE
  rw [h.n]
  exact enF_cg (fun j hj => by rw [hc_cg h (by omega)])
theorem qtR_cg (h : SameT e e') (h0 : 0 ≤ p) (hp : p < e.n) : qtR e' kd p = qtR e kd p := by
  have hb : p + 1 ≤ qtE e p := (enF_b (P := fun k => hc e k ≠ 34) (b := p + 1) (to := e.n) (by omega) (by omega)).1
  unfold qtR
  rw [qtE_cg h h0, h.n, hc_cg h (show 0 ≤ qtE e p + 1 by omega), hc_cg h (show 0 ≤ qtE e p + 2 by omega)]
theorem ptE_cg (h : SameT e e') (h0 : 0 ≤ p) : ptE e' p = ptE e p := by
  unfold ptE
  rw [h.n]
  exact enF_cg (fun j hj => by rw [hc_cg h (by omega)])
theorem zb_cg {P Q : Prop} (h : P ↔ Q) : zb P = zb Q := by rw [propext h]
theorem ptR_cg (h : SameT e e') (h0 : 0 ≤ p) (hp : p < e.n) : ptR e' kd p = ptR e kd p := by
  have hb : p ≤ ptE e p := (enF_b (P := fun k => ptb (hc e k)) (b := p) (to := e.n) h0 (by omega)).1
  have hw : ptW e' p = ptW e p := by
    unfold ptW
    rw [ptE_cg h h0]
    exact zb_cg (exF_cg (fun j a _ => by rw [hc_cg h (by omega)]))
  unfold ptR
  rw [ptE_cg h h0, hw, h.B p h0 hp, hc_cg h (show 0 ≤ ptE e p by omega), hc_cg h (show 0 ≤ ptE e p + 1 by omega)]
theorem fhN_cg (h : SameT e e') (h0 : 0 ≤ p) : fhN e' p = fhN e p := by
  unfold fhN
  rw [h.n]
  by_cases z : p < e.n
  · rw [h.B p h0 z]
    by_cases y : p + 1 < e.n
    · rw [h.B (p + 1) (by omega) y]
    · have n1 : ¬ (p + 1 < e.n ∧ dg (e'.B (p + 1))) := fun w => y w.1
      have n2 : ¬ (p + 1 < e.n ∧ dg (e.B (p + 1))) := fun w => y w.1
      rw [if_neg n1, if_neg n2]
  · have n1 : ¬ (p < e.n ∧ dg (e'.B p)) := fun w => z w.1
    have n2 : ¬ (p < e.n ∧ dg (e.B p)) := fun w => z w.1
    rw [if_neg n1, if_neg n2]
theorem fhN_n (h0 : 0 ≤ p) : 0 ≤ fhN e p := by unfold fhN; split; (split; (omega); (omega)); (omega)
theorem fhT_cg (h : SameT e e') (h0 : 0 ≤ p) : fhT e' p ↔ fhT e p := by
  have hn := fhN_n (e := e) h0
  unfold fhT
  rw [fhN_cg h h0, h.n]
  by_cases z : p + fhN e p < e.n
  · rw [h.B _ (by omega) z]
  · exact ⟨fun w => absurd w.2.1 z, fun w => absurd w.2.1 z⟩
theorem fhF_cg (h : SameT e e') (h0 : 0 ≤ p) : fhF e' p = fhF e p := by
  unfold fhF
  rw [zb_cg (fhT_cg h h0), fhN_cg h h0]
  by_cases z : zb (fhT e p) = 1
  · rw [if_pos z, if_pos z]
    have ht := (zb_1.mp z).2.1
    exact dV_cg (fun k a b => h.B k (by omega) (by omega))
  · rw [if_neg z, if_neg z]
theorem fhP_cg (h : SameT e e') (h0 : 0 ≤ p) : fhP e' p = fhP e p := by
  unfold fhP
  rw [zb_cg (fhT_cg h h0), fhN_cg h h0]
theorem lfR_cg (h : SameT e e') (h0 : 0 ≤ p) : lfR e' f p = lfR e f p := by
  have hg : zb (lfG e' f p) = zb (lfG e f p) := zb_cg (by
    unfold lfG
    rw [hc_cg h h0, h.f]
    by_cases z : 0 ≤ f ∧ f < e.f
    · rw [h.K f z.1 z.2]
    · exact ⟨fun w => absurd w.1 z, fun w => absurd w.1 z⟩)
  unfold lfR
  rw [hg, hc_cg h h0]
  by_cases z : zb (lfG e f p) = 0
  · rw [if_pos z, if_pos z]
  · rw [if_neg z, if_neg z]
    have g : lfG e f p := Classical.byContradiction fun y => z (zb_f y)
    have hK := h.K f g.1.1 g.1.2
    rw [hK]
    by_cases h1 : hc e p = 34
    · have hp := hc_b (e := e) (p := p) (by omega)
      rw [if_pos h1, if_pos h1, qtR_cg h h0 hp]
    · rw [if_neg h1, if_neg h1]
      by_cases h2 : hc e p = 91
      · rw [if_pos h2, if_pos h2, rgR_cg h h0]
      · rw [if_neg h2, if_neg h2]
        by_cases h3 : hc e p = 64
        · rw [if_pos h3, if_pos h3, nrR_cg h h0]
        · rw [if_neg h3, if_neg h3]
          have g2 := g.2
          rw [if_neg h1, if_neg h2, if_neg h3] at g2
          rw [ptR_cg h h0 (ptb_n g2.1)]
theorem sgn_cg (h : SameT e e') (h0 : 0 ≤ p) : sgn e' m p = sgn e m p := by unfold sgn; rw [hc_cg h h0]
theorem stp_cg (h : SameT e e') {z : PZ} (h0 : inTx e z.2.2.p) : stp e' z = stp e z := by
  obtain ⟨c, K, s⟩ := z
  have p0 : 0 ≤ s.p := h0.1
  have pn : s.p ≤ e.n := h0.2
  have c0 := hc_cg h p0
  have c1 := hc_cg h (show 0 ≤ s.p + 1 by omega)
  have c2 := hc_cg h (show 0 ≤ s.p + 2 by omega)
  cases c using PCt.cs with
  | any a => rfl
  | best a => rfl
  | all a => rfl
  | part a sg => show (Sum.inl _ : PZ ⊕ PR) = Sum.inl _; rw [sgn_cg h p0]
  | one a =>
    show oneS e' a K s = oneS e a K s
    have hfb := (fh_b (e := e) p0 pn).1
    unfold oneS
    rw [c0, c1, c2, fhF_cg h p0, fhP_cg h p0, lfR_cg h (show 0 ≤ fhP e s.p by omega)]
  | la a f l => show (if hc e' s.p = 124 then _ else _) = (if hc e s.p = 124 then _ else _); rw [c0]
  | lb a f l => show (if hc e' s.p = 47 then _ else _) = (if hc e s.p = 47 then _ else _); rw [c0]
  | lc a f l w => show (if hc e' s.p = 32 then _ else _) = (if hc e s.p = 32 then _ else _); rw [c0]
  | ls a f l m => show (if hc e' s.p = 32 then _ else if hc e' s.p = 125 then _ else _) = (if hc e s.p = 32 then _ else if hc e s.p = 125 then _ else _); rw [c0]
  | ret v =>
    cases K with
    | nil => rfl
    | cons k K =>
      cases k using PFr.cs with
      | pt sg =>
        show (if hc e' s.p = 94 then (if 49 ≤ hc e' (s.p + 1) ∧ hc e' (s.p + 1) ≤ 57 then (.inl (.ret v, K, ((s.to (s.p + 2)).up 4 v (s.T 4 v * (hc e' (s.p + 1) - 48))).up 3 v sg) : PZ ⊕ PR) else _) else _) = (if hc e s.p = 94 then (if 49 ≤ hc e (s.p + 1) ∧ hc e (s.p + 1) ≤ 57 then (.inl (.ret v, K, ((s.to (s.p + 2)).up 4 v (s.T 4 v * (hc e (s.p + 1) - 48))).up 3 v sg) : PZ ⊕ PR) else _) else _)
        rw [c0, c1]
      | pr => show (if hc e' s.p = 41 then _ else _) = (if hc e s.p = 41 then _ else _); rw [c0]
      | _ => rfl
theorem itN_cg {S R : Type} {st st' : S → S ⊕ R} {I : S → Prop} (h1 : ∀ s s', I s → st s = .inl s' → I s') (h2 : ∀ s, I s → st' s = st s) : ∀ k s, I s → itN st' k s = itN st k s := by
  intro k
  induction k with
  | zero => intro s _; rfl
  | succ k ih =>
    intro s hs
    unfold itN
    rw [h2 s hs]
    cases hq : st s with
    | inl s' => exact ih s' (h1 s s' hs hq)
    | inr r => rfl
theorem rn_cg (h : SameT e e') (h12 : e.f ≤ 12) {z : PZ} (h0 : inTx e z.2.2.p) : rn e' z = rn e z := by
  have hi := itN_cg (st := stp e) (st' := stp e') (I := fun z => inTx e z.2.2.p) (fun s s' hs hq => by have := stp_zG (z := s) h12 hs; rw [hq] at this; exact this) (fun s hs => stp_cg h hs)
  unfold rn rs
  have : (fun r => ∃ k, itN (stp e') k z = some r) = (fun r => ∃ k, itN (stp e) k z = some r) := by
    funext r
    exact propext ⟨fun ⟨k, hk⟩ => ⟨k, by rw [← hi k z h0]; exact hk⟩, fun ⟨k, hk⟩ => ⟨k, by rw [hi k z h0]; exact hk⟩⟩
  rw [this]
end PCG
end
section
/-! contracts: printed by tools/mk.py out of s48c_parM.py -/
set_option maxRecDepth 100000
set_option maxHeartbeats 1500000
/-- what the reading of a question writes in the model -/
def wsP (c : Nat) (i : Int) : Prop := (609 ≤ c ∧ c ≤ 620) ∨ (c = 555 ∧ (i = 76 ∨ i = 78 ∨ i = 79 ∨ i = 80))
abbrev KP (σ τ : Sto) : Prop := Ch wsP σ τ
theorem KP_rf {σ : Sto} : KP σ σ := Ch.rf
theorem KP_w {σ τ : Sto} {a : Nat} {i v : Int} (e : τ = σ.wI a i v) (h : wsP a i) : KP σ τ := by subst e; exact Ch.wI Ch.rf h
theorem KP_rd {σ τ : Sto} {F : Nat → Int → Int} (r : τ.R = σ.R) (s : τ.sh = σ.sh) (n : τ.n = σ.n) (e : τ.I = F) (h : ∀ c i, ¬ wsP c i → F c i = σ.I c i) : KP σ τ := ⟨⟨r, s, n⟩, fun c i q => by rw [e]; exact h c i q⟩

theorem kp_577 {σ τ : Sto} (h : KP σ τ) : τ.I 577 = σ.I 577 := funext fun i => h.2 577 i (by unfold wsP; omega)
theorem kp_578 {σ τ : Sto} (h : KP σ τ) : τ.I 578 = σ.I 578 := funext fun i => h.2 578 i (by unfold wsP; omega)
def eM (σ : Sto) : PE := ⟨qb σ, σ.I 555 77, σ.I 577, σ.I 555 27⟩
theorem src_p {σ τ : Sto} (h : KP σ τ) : src τ = src σ := by unfold src; rw [h.1.1]
theorem SRC_p {σ τ : Sto} (h : KP σ τ) (g : SRC σ) : SRC τ := by
  unfold SRC
  rw [src_p h, h.1.1, h.1.2.1, h.2 555 75 (by unfold wsP; omega), h.2 555 77 (by unfold wsP; omega)]; exact g
theorem qb_p {σ τ : Sto} (h : KP σ τ) (g : SRC σ) : qb τ = qb σ := by
  funext k
  unfold qb
  rw [src_p h, h.2 555 75 (by unfold wsP; omega), h.2 (src σ) _ (by have := g.1.2.2; unfold wsP; omega)]
theorem eM_k {σ τ : Sto} (h : KP σ τ) (g : SRC σ) : eM τ = eM σ := by
  unfold eM
  rw [qb_p h g, h.2 555 77 (by unfold wsP; omega), kp_577 h, h.2 555 27 (by unfold wsP; omega)]
theorem eM_B {σ : Sto} (k : Int) : (eM σ).B k = σ.I (src σ) (σ.I 555 75 + k) := rfl
theorem eM_n {σ : Sto} : (eM σ).n = σ.I 555 77 := rfl
theorem eM_K {σ : Sto} (k : Int) : (eM σ).K k = σ.I 577 k := rfl
theorem eM_f {σ : Sto} : (eM σ).f = σ.I 555 27 := rfl
def tM (σ : Sto) (c : Nat) (k : Int) : Int := if 0 ≤ k ∧ k < σ.I 555 80 then (if c ≤ 8 then σ.I (609 + c) k else if c = 11 then (if σ.I 609 k = 10 then σ.I 620 k else 0) else if c ≤ 10 then (if σ.I 609 k = 9 ∨ σ.I 609 k = 10 then σ.I (609 + c) k else 0) else 0) else 0
def psM (σ : Sto) : PS := ⟨σ.I 555 76, σ.I 555 79, σ.I 555 80, tM σ⟩
theorem psM_p {σ : Sto} : (psM σ).p = σ.I 555 76 := rfl
theorem psM_on {σ : Sto} : (psM σ).on = σ.I 555 79 := rfl
theorem psM_nc {σ : Sto} : (psM σ).nc = σ.I 555 80 := rfl
theorem psM_T {σ : Sto} {c : Nat} {k : Int} (hc : c ≤ 8) (h0 : 0 ≤ k) (h1 : k < σ.I 555 80) : (psM σ).T c k = σ.I (609 + c) k := by
  show tM σ c k = _
  unfold tM
  rw [if_pos ⟨h0, h1⟩, if_pos hc]
theorem tM_cg {σ τ : Sto} (h0 : τ.I 555 80 = σ.I 555 80) (h : ∀ c, 609 ≤ c → c ≤ 620 → τ.I c = σ.I c) : tM τ = tM σ := by
  funext c k
  unfold tM
  rw [h0, h 609 (by omega) (by omega), h 620 (by omega) (by omega)]
  by_cases q : c ≤ 8
  · rw [h (609 + c) (by omega) (by omega)]
  · by_cases q2 : c ≤ 10
    · rw [h (609 + c) (by omega) (by omega)]
    · rw [if_neg q, if_neg q, if_neg q2, if_neg q2]
theorem psM_to {σ τ : Sto} (h : ∀ c i, ¬ (c = 555 ∧ i = 76) → τ.I c i = σ.I c i) : psM τ = (psM σ).to (τ.I 555 76) := by
  unfold psM PS.to
  rw [tM_cg (h 555 80 (by omega)) (fun c a b => funext fun i => h c i (by omega)), h 555 79 (by omega), h 555 80 (by omega)]
theorem psM_o1 {σ τ : Sto} (h : ∀ c i, ¬ (c = 555 ∧ (i = 76 ∨ i = 79)) → τ.I c i = σ.I c i) (h1 : τ.I 555 79 = σ.I 555 79 + 1) : psM τ = ((psM σ).o1).to (τ.I 555 76) := by
  unfold psM PS.to PS.o1
  rw [tM_cg (h 555 80 (by omega)) (fun c a b => funext fun i => h c i (by omega)), h1, h 555 80 (by omega)]
theorem psM_up {σ τ : Sto} {c : Nat} {k v : Int} (h : ∀ a i, ¬ (a = 609 + c ∧ i = k) → τ.I a i = σ.I a i) (hv : τ.I (609 + c) k = v) (hc : 1 ≤ c ∧ c ≤ 8) (h0 : 0 ≤ k) (h1 : k < σ.I 555 80) : psM τ = (psM σ).up c k v := by
  have e : tM τ = fun c' k' => if c' = c ∧ k' = k then v else tM σ c' k' := by
    funext c' k'
    unfold tM
    rw [h 555 80 (by omega), h 609 k' (by omega), h 620 k' (by omega)]
    by_cases q : c' = c ∧ k' = k
    · obtain ⟨rfl, rfl⟩ := q
      rw [if_pos ⟨h0, h1⟩, if_pos hc.2, if_pos ⟨rfl, rfl⟩]; exact hv
    · rw [if_neg q]
      by_cases q1 : 609 + c' = 609 + c ∧ k' = k
      · exact absurd ⟨by omega, q1.2⟩ q
      · rw [h (609 + c') k' q1]
  unfold psM PS.up
  rw [e, h 555 76 (by omega), h 555 79 (by omega), h 555 80 (by omega)]
/-- a node more, its row g -/
def NW (σ τ : Sto) (g : Nat → Int) : Prop := (τ.I 555 80 = σ.I 555 80 + 1 ∧ τ.I 555 79 = σ.I 555 79 ∧ τ.I 555 78 = σ.I 555 78) ∧ (∀ k, 0 ≤ k → k < σ.I 555 80 → τ.I 609 k = σ.I 609 k ∧ τ.I 610 k = σ.I 610 k ∧ τ.I 611 k = σ.I 611 k ∧ τ.I 612 k = σ.I 612 k ∧ τ.I 613 k = σ.I 613 k ∧ τ.I 614 k = σ.I 614 k ∧ τ.I 615 k = σ.I 615 k ∧ τ.I 616 k = σ.I 616 k ∧ τ.I 617 k = σ.I 617 k ∧ τ.I 618 k = σ.I 618 k ∧ τ.I 619 k = σ.I 619 k ∧ τ.I 620 k = σ.I 620 k) ∧ (τ.I 609 (σ.I 555 80) = g 0 ∧ τ.I 610 (σ.I 555 80) = g 1 ∧ τ.I 611 (σ.I 555 80) = g 2 ∧ τ.I 612 (σ.I 555 80) = g 3 ∧ τ.I 613 (σ.I 555 80) = g 4 ∧ τ.I 614 (σ.I 555 80) = g 5 ∧ τ.I 615 (σ.I 555 80) = g 6 ∧ τ.I 616 (σ.I 555 80) = g 7 ∧ τ.I 617 (σ.I 555 80) = g 8) ∧ (g 0 = 9 ∨ g 0 = 10 → τ.I 618 (σ.I 555 80) = g 9 ∧ τ.I 619 (σ.I 555 80) = g 10) ∧ (g 0 = 10 → τ.I 620 (σ.I 555 80) = g 11)
/-- a row has nothing where its kind has nothing -/
def RW (g : Nat → Int) : Prop := (¬ (g 0 = 9 ∨ g 0 = 10) → g 9 = 0 ∧ g 10 = 0) ∧ (g 0 ≠ 10 → g 11 = 0) ∧ ∀ c, 12 ≤ c → g c = 0
theorem RW_N {kd fi fr : Int} : RW (rowN kd fi fr) := ⟨fun _ => ⟨rfl, rfl⟩, fun _ => rfl, fun c hc => by unfold rowN; rw [if_neg (by omega), if_neg (by omega), if_neg (by omega), if_neg (by omega), if_neg (by omega)]⟩
theorem RW_L {l : LD} {f : Int} (h1 : ¬ (l.kd = 9 ∨ l.kd = 10) → l.lo = 0 ∧ l.hi = 0) (h2 : l.kd ≠ 10 → l.rd = 0) : RW (rowL l f) := ⟨h1, h2, fun c hc => by unfold rowL; rw [if_neg (by omega), if_neg (by omega), if_neg (by omega), if_neg (by omega), if_neg (by omega), if_neg (by omega), if_neg (by omega), if_neg (by omega), if_neg (by omega), if_neg (by omega)]⟩
theorem psM_NW {σ τ : Sto} {g : Nat → Int} (h : NW σ τ g) (hr : RW g) (hn : 0 ≤ σ.I 555 80) : psM τ = (psM σ).ad (τ.I 555 76) g := by
  obtain ⟨⟨n1, n2, n3⟩, h1, h2, h3, h4⟩ := h
  have e : tM τ = fun c k => if k = σ.I 555 80 then g c else tM σ c k := by
    funext c k
    unfold tM
    rw [n1]
    by_cases q : k = σ.I 555 80
    · subst q
      rw [if_pos (by omega), if_pos rfl]
      obtain ⟨a0, a1, a2, a3, a4, a5, a6, a7, a8⟩ := h2
      by_cases c8 : c ≤ 8
      · rw [if_pos c8]
        have : c = 0 ∨ c = 1 ∨ c = 2 ∨ c = 3 ∨ c = 4 ∨ c = 5 ∨ c = 6 ∨ c = 7 ∨ c = 8 := by omega
        rcases this with rfl | rfl | rfl | rfl | rfl | rfl | rfl | rfl | rfl
        · exact a0
        · exact a1
        · exact a2
        · exact a3
        · exact a4
        · exact a5
        · exact a6
        · exact a7
        · exact a8
      · rw [if_neg c8, a0]
        by_cases c11 : c = 11
        · subst c11
          rw [if_pos rfl]
          by_cases k10 : g 0 = 10
          · rw [if_pos k10]; exact h4 k10
          · rw [if_neg k10]; exact (hr.2.1 k10).symm
        · rw [if_neg c11]
          by_cases c10 : c ≤ 10
          · rw [if_pos c10]
            have : c = 9 ∨ c = 10 := by omega
            by_cases k9 : g 0 = 9 ∨ g 0 = 10
            · rw [if_pos k9]
              rcases this with rfl | rfl
              · exact (h3 k9).1
              · exact (h3 k9).2
            · rw [if_neg k9]
              rcases this with rfl | rfl
              · exact (hr.1 k9).1.symm
              · exact (hr.1 k9).2.symm
          · rw [if_neg c10]; exact (hr.2.2 c (by omega)).symm
    · rw [if_neg q]
      by_cases r : 0 ≤ k ∧ k < σ.I 555 80
      · rw [if_pos (by omega), if_pos r]
        obtain ⟨a0, a1, a2, a3, a4, a5, a6, a7, a8, a9, a10, a11⟩ := h1 k r.1 r.2
        rw [a0, a11]
        by_cases c8 : c ≤ 8
        · rw [if_pos c8, if_pos c8]
          have : c = 0 ∨ c = 1 ∨ c = 2 ∨ c = 3 ∨ c = 4 ∨ c = 5 ∨ c = 6 ∨ c = 7 ∨ c = 8 := by omega
          rcases this with rfl | rfl | rfl | rfl | rfl | rfl | rfl | rfl | rfl
          · exact a0
          · exact a1
          · exact a2
          · exact a3
          · exact a4
          · exact a5
          · exact a6
          · exact a7
          · exact a8
        · rw [if_neg c8, if_neg c8]
          by_cases c10 : c ≤ 10
          · rw [if_pos c10, if_pos c10]
            have : c = 9 ∨ c = 10 := by omega
            rcases this with rfl | rfl
            · rw [a9]
            · rw [a10]
          · rw [if_neg c10, if_neg c10]
      · rw [if_neg (by omega), if_neg r]
  unfold psM PS.ad
  rw [e, n1, n2]
/-- what a reading that failed tells -/
def cdM (σ : Sto) : Int := if σ.I 555 78 = 1 then -3 else -10 - σ.I 555 76
/-- bounds of the reading -/
def PB (σ : Sto) : Prop := (0 ≤ σ.I 555 76 ∧ σ.I 555 76 ≤ σ.I 555 77) ∧ (0 ≤ σ.I 555 79 ∧ σ.I 555 79 ≤ 60) ∧ (0 ≤ σ.I 555 80 ∧ σ.I 555 80 ≤ 2 * σ.I 555 79) ∧ σ.I 555 78 = 0 ∧ (0 ≤ σ.I 555 27 ∧ σ.I 555 27 ≤ 12)
theorem hc_in {e : PE} {p : Int} : hc e p = -1 ∨ (-1 < hc e p ∧ hc e p ≤ 255) := by
  unfold hc
  split
  · omega
  · exact Or.inl rfl
theorem hc_n {e : PE} {p : Int} (h : hc e p ≠ -1) : p < e.n := by
  unfold hc at h
  split at h
  · assumption
  · exact absurd rfl h

theorem sp_X9_here {E : XE} {d : Nat} {σ : Sto}  (hd : 1 ≤ d) (hL : Lay σ)  (p0 : SRC σ) (p1 : 0 ≤ σ.I 555 76) : CC E mX9_here d [aO 555] σ (RI σ (hc (eM σ) (σ.I 555 76))) := by sorry
theorem sp_X9_after {E : XE} {d : Nat} {σ : Sto}  (hd : 1 ≤ d) (hL : Lay σ)  (p0 : SRC σ) (p1 : 0 ≤ σ.I 555 76) (p2 : σ.I 555 76 ≤ 500) : CC E mX9_after d [aO 555] σ (RI σ (hc (eM σ) (σ.I 555 76 + 1))) := by sorry
theorem sp_X9_never {E : XE} {d : Nat} {σ : Sto}  (hd : 1 ≤ d) (hL : Lay σ)   : CC E mX9_never d [aO 555] σ (RTV (fun τ => (False)) (fun a τ => (SF σ τ) ∧ (a = 556) ∧ (τ = σ))) := by sorry
theorem sp_X9_need {E : XE} {d : Nat} {σ : Sto} {x1 : Int} (hd : 2 ≤ d) (hL : Lay σ)  (p0 : SRC σ) (p1 : 0 ≤ σ.I 555 76) (p2 : σ.I 555 76 ≤ 500) (p3 : inR x1) : CC E mX9_need d [aO 555, aI (x1)] σ (RTV (fun τ => (hc (eM σ) (σ.I 555 76) = x1) ∧ (RD σ τ (fun c i => if at2 c i 555 76 then σ.I 555 76 + 1 else σ.I c i))) (fun a τ => (SF σ τ) ∧ (a = 556) ∧ (τ = σ) ∧ (hc (eM σ) (σ.I 555 76) ≠ x1))) := by sorry
theorem sp_X9_isDigit {E : XE} {d : Nat} {σ : Sto} {x0 : Int} (hd : 1 ≤ d) (hL : Lay σ)  (p0 : inR x0) : CC E mX9_isDigit d [aI (x0)] σ (RZ σ (dg x0)) := by sorry
theorem sp_X9_isPatternByte {E : XE} {d : Nat} {σ : Sto} {x0 : Int} (hd : 2 ≤ d) (hL : Lay σ)  (p0 : -1 ≤ x0 ∧ x0 ≤ 255) : CC E mX9_isPatternByte d [aI (x0)] σ (RZ σ (ptb x0)) := by sorry
theorem sp_X9_node {E : XE} {d : Nat} {σ : Sto} {x1 : Int} (hd : 1 ≤ d) (hL : Lay σ)  (p0 : 0 ≤ σ.I 555 80 ∧ σ.I 555 80 < 130) (p1 : inR x1) : CC E mX9_node d [aO 555, aI (x1)] σ (RVI (fun y τ => (y = σ.I 555 80) ∧ (RD σ τ (fun c i => if at2 c i 609 (σ.I 555 80) then x1 else if at2 c i 610 (σ.I 555 80) then -1 else if at2 c i 611 (σ.I 555 80) then -1 else if at2 c i 612 (σ.I 555 80) then 0 else if at2 c i 613 (σ.I 555 80) then 1 else if at2 c i 614 (σ.I 555 80) then 0 else if at2 c i 615 (σ.I 555 80) then 0 else if at2 c i 616 (σ.I 555 80) then 0 else if at2 c i 617 (σ.I 555 80) then 0 else if at2 c i 555 80 then σ.I 555 80 + 1 else σ.I c i)))) := by sorry
theorem sp_X9_joined {E : XE} {d : Nat} {σ : Sto} {x1 : Int} {x2 : Int} {x3 : Int} (hd : 2 ≤ d) (hL : Lay σ)  (p0 : 0 ≤ σ.I 555 80 ∧ σ.I 555 80 < 130) (p1 : 0 ≤ x1 ∧ x1 ≤ 5) (p2 : inR x2) (p3 : inR x3) : CC E mX9_joined d [aO 555, aI (x1), aI (x2), aI (x3)] σ (RVI (fun y τ => (y = (jn x1 x2 x3 (psM σ)).1) ∧ (psM τ = (jn x1 x2 x3 (psM σ)).2) ∧ (τ.I 555 78 = σ.I 555 78) ∧ (KP σ τ))) := by sorry
end
section
/-! contracts: printed by tools/mk.py out of s48d_parL.py -/
set_option maxRecDepth 100000
set_option maxHeartbeats 1500000
def NWL (σ τ : Sto) (r : Int ⊕ LD) (f : Int) : Prop := ∃ l, r = .inr l ∧ NW σ τ (rowL l f) ∧ τ.I 555 76 = l.p ∧ RW (rowL l f)

theorem sp_X9_fieldHere {E : XE} {d : Nat} {σ : Sto}  (hd : 2 ≤ d) (hL : Lay σ)  (p0 : SRC σ) (p1 : 0 ≤ σ.I 555 76 ∧ σ.I 555 76 ≤ σ.I 555 77) : CC E mX9_fieldHere d [aO 555] σ (RVI (fun y τ => (y = fhF (eM σ) (σ.I 555 76)) ∧ (RD σ τ (fun c i => if at2 c i 555 76 then fhP (eM σ) (σ.I 555 76) else σ.I c i)))) := by sorry
theorem sp_X9_valueHere {E : XE} {d : Nat} {σ : Sto} {x1 : Int} (hd : 2 ≤ d) (hL : Lay σ)  (p0 : SRC σ) (p1 : 0 ≤ σ.I 555 76 ∧ σ.I 555 76 ≤ σ.I 555 77) (p2 : x1 = 9 ∨ x1 = 18) : CC E mX9_valueHere d [aO 555, aI (x1)] σ (RTL (fun y τ => (vR (eM σ) x1 (σ.I 555 76) = .inr (y, τ.I 555 76)) ∧ (0 ≤ τ.I 555 76 ∧ τ.I 555 76 ≤ σ.I 555 77) ∧ (x1 = 9 → -1000000000 ≤ y ∧ y ≤ 1000000000) ∧ (hc (eM σ) (σ.I 555 76) ≠ 45 → 0 ≤ y) ∧ (RD σ τ (fun c i => if at2 c i 555 76 then τ.I c i else σ.I c i))) (fun a τ => (SF σ τ) ∧ (a = 556) ∧ (RD σ τ (fun c i => if at2 c i 555 76 then τ.I c i else σ.I c i)) ∧ (vR (eM σ) x1 (σ.I 555 76) = .inl (-10 - τ.I 555 76)))) := by sorry
end
section
/-! contracts: printed by tools/mk.py out of s48e_parQ.py -/
set_option maxRecDepth 100000
set_option maxHeartbeats 1500000
theorem sp_X9_quoted {E : XE} {d : Nat} {σ : Sto} {x1 : Int} (hd : 3 ≤ d) (hL : Lay σ)  (p0 : SRC σ) (p1 : 0 ≤ σ.I 555 76 ∧ σ.I 555 76 < σ.I 555 77) (p2 : 0 ≤ σ.I 555 80 ∧ σ.I 555 80 < 130) (p3 : x1 = 0 ∨ x1 = 1) : CC E mX9_quoted d [aO 555, aI (x1)] σ (RTI (fun y τ => (y = σ.I 555 80) ∧ (NWL σ τ (qtR (eM σ) x1 (σ.I 555 76)) 0) ∧ (KP σ τ)) (fun a τ => (SF σ τ) ∧ (a = 556) ∧ (KP σ τ) ∧ (τ.I 555 78 = σ.I 555 78) ∧ (qtR (eM σ) x1 (σ.I 555 76) = .inl (-10 - τ.I 555 76)))) := by sorry
end
section
/-! contracts: printed by tools/mk.py out of s48ee_parR.py -/
set_option maxRecDepth 100000
set_option maxHeartbeats 1500000
theorem sp_X9_range {E : XE} {d : Nat} {σ : Sto}  (hd : 4 ≤ d) (hL : Lay σ)  (p0 : SRC σ) (p1 : 0 ≤ σ.I 555 76 ∧ σ.I 555 76 < σ.I 555 77) (p2 : 0 ≤ σ.I 555 80 ∧ σ.I 555 80 < 130) : CC E mX9_range d [aO 555] σ (RTI (fun y τ => (y = σ.I 555 80) ∧ (NWL σ τ (rgR (eM σ) (σ.I 555 76)) 0) ∧ (KP σ τ)) (fun a τ => (SF σ τ) ∧ (a = 556) ∧ (KP σ τ) ∧ (τ.I 555 78 = σ.I 555 78) ∧ (rgR (eM σ) (σ.I 555 76) = .inl (-10 - τ.I 555 76)))) := by sorry
end
section
/-! contracts: printed by tools/mk.py out of s48f_parN.py -/
set_option maxRecDepth 100000
set_option maxHeartbeats 1500000
theorem sp_X9_nearHere {E : XE} {d : Nat} {σ : Sto}  (hd : 4 ≤ d) (hL : Lay σ)  (p0 : SRC σ) (p1 : 0 ≤ σ.I 555 76 ∧ σ.I 555 76 < σ.I 555 77) (p2 : 0 ≤ σ.I 555 80 ∧ σ.I 555 80 < 130) : CC E mX9_nearHere d [aO 555] σ (RTI (fun y τ => (y = σ.I 555 80) ∧ (NWL σ τ (nrR (eM σ) (σ.I 555 76)) 0) ∧ (KP σ τ)) (fun a τ => (SF σ τ) ∧ (a = 556) ∧ (KP σ τ) ∧ (τ.I 555 78 = σ.I 555 78) ∧ (nrR (eM σ) (σ.I 555 76) = .inl (-10 - τ.I 555 76)))) := by sorry
theorem exF_x (p : Int → Prop) (i n m : Int) (h : i ≤ n) (hm : m = n + 1) : exF p i m ↔ (exF p i n ∨ p n) := by
  constructor
  · rintro ⟨j, h1, h2, h3⟩
    by_cases e : j = n
    · subst e; exact Or.inr h3
    · exact Or.inl ⟨j, h1, by omega, h3⟩
  · rintro (⟨j, h1, h2, h3⟩ | q)
    · exact ⟨j, h1, by omega, h3⟩
    · exact ⟨n, h, by omega, q⟩

theorem sp_X9_pattern {E : XE} {d : Nat} {σ : Sto} {x1 : Int} (hd : 4 ≤ d) (hL : Lay σ)  (p0 : SRC σ) (p1 : 0 ≤ σ.I 555 76 ∧ σ.I 555 76 < σ.I 555 77) (p2 : 0 ≤ σ.I 555 80 ∧ σ.I 555 80 < 130) (p3 : x1 = 0 ∨ x1 = 1) : CC E mX9_pattern d [aO 555, aI (x1)] σ (RTI (fun y τ => (y = σ.I 555 80) ∧ (NWL σ τ (ptR (eM σ) x1 (σ.I 555 76)) 0) ∧ (KP σ τ)) (fun a τ => (SF σ τ) ∧ (a = 556) ∧ (KP σ τ) ∧ (τ.I 555 78 = σ.I 555 78) ∧ (ptR (eM σ) x1 (σ.I 555 76) = .inl (-10 - τ.I 555 76)))) := by sorry
end
section
/-! contracts: printed by tools/mk.py out of s48g_parF.py -/
set_option maxRecDepth 100000
set_option maxHeartbeats 1500000
theorem NWL_f {σ ρ τ : Sto} {r : Int ⊕ LD} {f : Int} (h : NWL σ ρ r 0) (e : τ = ρ.wI 614 (σ.I 555 80) f) : NWL σ τ r f := by
  obtain ⟨l, h1, ⟨⟨n1, n2, n3⟩, b, ⟨c0, c1, c2, c3, c4, c5, c6, c7, c8⟩, d9, d10⟩, h3, h4⟩ := h
  have old : ∀ c k, ¬ (c = 614 ∧ k = σ.I 555 80) → τ.I c k = ρ.I c k := fun c k q => by rw [e, I_wI]; exact if_neg (fun z => q ⟨z.1, z.2⟩)
  have new : τ.I 614 (σ.I 555 80) = f := by rw [e]; exact I_same _ _ _ _
  refine ⟨l, h1, ⟨⟨?_, ?_, ?_⟩, fun k k0 k1 => ?_, ?_, fun z => ?_, fun z => ?_⟩, ?_, RW_L (fun z => (h4.1 z)) (fun z => h4.2.1 z)⟩
  · rw [old _ _ (by omega)]; exact n1
  · rw [old _ _ (by omega)]; exact n2
  · rw [old _ _ (by omega)]; exact n3
  · rw [old 609 k (by omega), old 610 k (by omega), old 611 k (by omega), old 612 k (by omega), old 613 k (by omega), old 614 k (by omega), old 615 k (by omega), old 616 k (by omega), old 617 k (by omega), old 618 k (by omega), old 619 k (by omega), old 620 k (by omega)]
    exact b k k0 k1
  · rw [old 609 _ (by omega), old 610 _ (by omega), old 611 _ (by omega), old 612 _ (by omega), old 613 _ (by omega), old 615 _ (by omega), old 616 _ (by omega), old 617 _ (by omega), new]
    exact ⟨c0, c1, c2, c3, c4, rfl, c6, c7, c8⟩
  · rw [old 618 _ (by omega), old 619 _ (by omega)]; exact d9 z
  · rw [old 620 _ (by omega)]; exact d10 z
  · rw [old 555 76 (by omega)]; exact h3
section LFR
variable {e : PE} {f p : Int}
theorem lfR_0 (h : ¬ lfG e f p) : lfR e f p = .inl (-10 - p) := by unfold lfR; rw [if_pos (zb_f h)]
theorem lfR_q (h : 0 ≤ f ∧ f < e.f) (hh : hc e p = 34) (hk : e.K f = 0 ∨ e.K f = 1) : lfR e f p = qtR e (e.K f) p := by
  have g : lfG e f p := ⟨h, by rw [if_pos hh]; exact hk⟩
  unfold lfR
  rw [if_neg (by rw [zb_t g]; omega), if_pos hh]
theorem lfR_r (h : 0 ≤ f ∧ f < e.f) (hh : hc e p = 91) (hk : e.K f = 2) : lfR e f p = rgR e p := by
  have g : lfG e f p := ⟨h, by rw [if_neg (by omega), if_pos hh]; exact hk⟩
  unfold lfR
  rw [if_neg (by rw [zb_t g]; omega), if_neg (by omega), if_pos hh]
theorem lfR_n (h : 0 ≤ f ∧ f < e.f) (hh : hc e p = 64) (hk : e.K f = 3) : lfR e f p = nrR e p := by
  have g : lfG e f p := ⟨h, by rw [if_neg (by omega), if_neg (by omega), if_pos hh]; exact hk⟩
  unfold lfR
  rw [if_neg (by rw [zb_t g]; omega), if_neg (by omega), if_neg (by omega), if_pos hh]
theorem lfR_p (h : 0 ≤ f ∧ f < e.f) (h1 : hc e p ≠ 34) (h2 : hc e p ≠ 91) (h3 : hc e p ≠ 64) (hp : ptb (hc e p)) (hk : e.K f = 0 ∨ e.K f = 1) : lfR e f p = ptR e (e.K f) p := by
  have g : lfG e f p := ⟨h, by rw [if_neg h1, if_neg h2, if_neg h3]; exact ⟨hp, hk⟩⟩
  unfold lfR
  rw [if_neg (by rw [zb_t g]; omega), if_neg h1, if_neg h2, if_neg h3]
end LFR

theorem sp_X9_leaf {E : XE} {d : Nat} {σ : Sto} {x1 : Int} (hd : 5 ≤ d) (hL : Lay σ)  (p0 : SRC σ) (p1 : 0 ≤ σ.I 555 76 ∧ σ.I 555 76 ≤ σ.I 555 77) (p2 : 0 ≤ σ.I 555 80 ∧ σ.I 555 80 < 130) (p3 : 0 ≤ x1 ∧ x1 ≤ 99) (p4 : 0 ≤ σ.I 555 27 ∧ σ.I 555 27 ≤ 12) : CC E mX9_leaf d [aO 555, aI (x1)] σ (RTI (fun y τ => (y = σ.I 555 80) ∧ (NWL σ τ (lfR (eM σ) x1 (σ.I 555 76)) x1) ∧ (KP σ τ)) (fun a τ => (SF σ τ) ∧ (a = 556) ∧ (KP σ τ) ∧ (τ.I 555 78 = σ.I 555 78) ∧ (lfR (eM σ) x1 (σ.I 555 76) = .inl (-10 - τ.I 555 76)))) := by sorry
end
section
/-! contracts: printed by tools/mk.py out of s48h_parA.py -/
set_option maxRecDepth 100000
set_option maxHeartbeats 1500000
theorem psM_go {σ τ : Sto} {x : Int} (h : τ = σ.wI 555 76 x) : psM τ = (psM σ).to x := by
  have e := psM_to (σ := σ) (τ := τ) (fun c i q => by rw [h, I_wI]; exact if_neg (fun z => q ⟨z.1, z.2⟩))
  rw [e, h]
  exact congrArg _ (I_same _ _ _ _)
theorem psM_w {σ τ : Sto} {c : Nat} {k v : Int} (h : τ = σ.wI (609 + c) k v) (hc : 1 ≤ c ∧ c ≤ 8) (h0 : 0 ≤ k) (h1 : k < σ.I 555 80) : psM τ = (psM σ).up c k v := psM_up (fun a i q => by rw [h, I_wI]; exact if_neg (fun z => q ⟨z.1, z.2⟩)) (by rw [h]; exact I_same _ _ _ _) hc h0 h1
theorem PB_go {σ τ : Sto} {x : Int} (h : τ = σ.wI 555 76 x) (g : PB σ) (hx : 0 ≤ x ∧ x ≤ σ.I 555 77) : PB τ := by
  have old : ∀ i, i ≠ 76 → τ.I 555 i = σ.I 555 i := fun i q => by rw [h, I_wI]; exact if_neg (fun z => q z.2)
  have new : τ.I 555 76 = x := by rw [h]; exact I_same _ _ _ _
  unfold PB
  rw [new, old 77 (by decide), old 79 (by decide), old 80 (by decide), old 78 (by decide), old 27 (by decide)]
  exact ⟨hx, g.2⟩
theorem PB_w {σ τ : Sto} {c : Nat} {k v : Int} (h : τ = σ.wI c k v) (hc : c ≠ 555) (g : PB σ) : PB τ := by
  have old : ∀ i, τ.I 555 i = σ.I 555 i := fun i => by rw [h, I_wI]; exact if_neg (fun z => hc z.1.symm)
  unfold PB
  rw [old 76, old 77, old 79, old 80, old 78, old 27]
  exact g
theorem PB_PO {σ τ : Sto} {y t : Int} (g : PB σ) (h : PO (eM σ) (psM σ) (psM τ) y t) (k : KP σ τ) (h0 : τ.I 555 78 = 0) : PB τ := by
  obtain ⟨h1, h2, h3, h4, h5, h6, h7⟩ := h
  have a1 : σ.I 555 76 < τ.I 555 76 := h4.1
  have a2 : τ.I 555 76 ≤ σ.I 555 77 := h4.2
  have a3 : σ.I 555 79 < τ.I 555 79 := h6.1
  have a4 : τ.I 555 79 ≤ 60 := h6.2.1
  have a5 : τ.I 555 80 - σ.I 555 80 ≤ 2 * (τ.I 555 79 - σ.I 555 79) - 1 := h6.2.2
  have a6 : σ.I 555 80 ≤ y := h3
  have a7 : y + 1 = τ.I 555 80 := h2
  have b1 : τ.I 555 77 = σ.I 555 77 := k.2 555 77 (by unfold wsP; omega)
  have b2 : τ.I 555 27 = σ.I 555 27 := k.2 555 27 (by unfold wsP; omega)
  unfold PB at g ⊢
  rw [b1, b2]
  omega
theorem nd_at {σ τ : Sto} {kd : Int} (e : τ.I = fun c i => if at2 c i 609 (σ.I 555 80) then kd else if at2 c i 610 (σ.I 555 80) then -1 else if at2 c i 611 (σ.I 555 80) then -1 else if at2 c i 612 (σ.I 555 80) then 0 else if at2 c i 613 (σ.I 555 80) then 1 else if at2 c i 614 (σ.I 555 80) then 0 else if at2 c i 615 (σ.I 555 80) then 0 else if at2 c i 616 (σ.I 555 80) then 0 else if at2 c i 617 (σ.I 555 80) then 0 else if at2 c i 555 80 then σ.I 555 80 + 1 else σ.I c i) : (∀ c, 609 ≤ c → c ≤ 620 → ∀ i, i ≠ σ.I 555 80 → τ.I c i = σ.I c i) ∧ (∀ i, i ≠ 80 → τ.I 555 i = σ.I 555 i) := by
  refine ⟨fun c h1 h2 i hi => ?_, fun i hi => ?_⟩
  · rw [e]
    show (if at2 c i 609 _ then _ else if at2 c i 610 _ then _ else if at2 c i 611 _ then _ else if at2 c i 612 _ then _ else if at2 c i 613 _ then _ else if at2 c i 614 _ then _ else if at2 c i 615 _ then _ else if at2 c i 616 _ then _ else if at2 c i 617 _ then _ else if at2 c i 555 80 then _ else _) = _
    rw [if_neg (fun z => hi z.2), if_neg (fun z => hi z.2), if_neg (fun z => hi z.2), if_neg (fun z => hi z.2), if_neg (fun z => hi z.2), if_neg (fun z => hi z.2), if_neg (fun z => hi z.2), if_neg (fun z => hi z.2), if_neg (fun z => hi z.2), if_neg (fun z => by have := z.1; omega)]
  · rw [e]
    show (if at2 555 i 609 _ then _ else if at2 555 i 610 _ then _ else if at2 555 i 611 _ then _ else if at2 555 i 612 _ then _ else if at2 555 i 613 _ then _ else if at2 555 i 614 _ then _ else if at2 555 i 615 _ then _ else if at2 555 i 616 _ then _ else if at2 555 i 617 _ then _ else if at2 555 i 555 80 then _ else _) = _
    rw [if_neg (fun z => absurd z.1 (by decide)), if_neg (fun z => absurd z.1 (by decide)), if_neg (fun z => absurd z.1 (by decide)), if_neg (fun z => absurd z.1 (by decide)), if_neg (fun z => absurd z.1 (by decide)), if_neg (fun z => absurd z.1 (by decide)), if_neg (fun z => absurd z.1 (by decide)), if_neg (fun z => absurd z.1 (by decide)), if_neg (fun z => absurd z.1 (by decide)), if_neg (fun z => hi z.2)]
theorem NW_nd {σ τ : Sto} {kd : Int} (e : τ.I = fun c i => if at2 c i 609 (σ.I 555 80) then kd else if at2 c i 610 (σ.I 555 80) then -1 else if at2 c i 611 (σ.I 555 80) then -1 else if at2 c i 612 (σ.I 555 80) then 0 else if at2 c i 613 (σ.I 555 80) then 1 else if at2 c i 614 (σ.I 555 80) then 0 else if at2 c i 615 (σ.I 555 80) then 0 else if at2 c i 616 (σ.I 555 80) then 0 else if at2 c i 617 (σ.I 555 80) then 0 else if at2 c i 555 80 then σ.I 555 80 + 1 else σ.I c i) (hk : ¬ (kd = 9 ∨ kd = 10)) : NW σ τ (rowN kd (-1) 0) := by
  obtain ⟨o1, o2⟩ := nd_at e
  refine ⟨⟨?_, o2 79 (by decide), o2 78 (by decide)⟩, fun k k0 k1 => ?_, ?_, fun z => absurd z hk, fun z => absurd (Or.inr z) hk⟩
  · rw [e]
    show (if at2 555 80 609 _ then _ else if at2 555 80 610 _ then _ else if at2 555 80 611 _ then _ else if at2 555 80 612 _ then _ else if at2 555 80 613 _ then _ else if at2 555 80 614 _ then _ else if at2 555 80 615 _ then _ else if at2 555 80 616 _ then _ else if at2 555 80 617 _ then _ else if at2 555 80 555 80 then _ else _) = _
    rw [if_neg (fun z => absurd z.1 (by decide)), if_neg (fun z => absurd z.1 (by decide)), if_neg (fun z => absurd z.1 (by decide)), if_neg (fun z => absurd z.1 (by decide)), if_neg (fun z => absurd z.1 (by decide)), if_neg (fun z => absurd z.1 (by decide)), if_neg (fun z => absurd z.1 (by decide)), if_neg (fun z => absurd z.1 (by decide)), if_neg (fun z => absurd z.1 (by decide)), if_pos ⟨rfl, rfl⟩]
  · have hk' : k ≠ σ.I 555 80 := by omega
    exact ⟨o1 609 (by omega) (by omega) k hk', o1 610 (by omega) (by omega) k hk', o1 611 (by omega) (by omega) k hk', o1 612 (by omega) (by omega) k hk', o1 613 (by omega) (by omega) k hk', o1 614 (by omega) (by omega) k hk', o1 615 (by omega) (by omega) k hk', o1 616 (by omega) (by omega) k hk', o1 617 (by omega) (by omega) k hk', o1 618 (by omega) (by omega) k hk', o1 619 (by omega) (by omega) k hk', o1 620 (by omega) (by omega) k hk'⟩
  · have hb : (609 : Nat) = 609 := rfl
    refine ⟨?_, ?_, ?_, ?_, ?_, ?_, ?_, ?_, ?_⟩ <;> rw [e] <;> simp only [at2] <;> simp [rowN]
theorem NW_set {σ ρ τ : Sto} {g g' : Nat → Int} {c : Nat} {v : Int} (h : NW σ ρ g) (e : τ = ρ.wI (609 + c) (σ.I 555 80) v) (hc : 1 ≤ c ∧ c ≤ 8) (hg : ∀ j, g' j = if j = c then v else g j) : NW σ τ g' := by
  obtain ⟨⟨n1, n2, n3⟩, b, ⟨c0, c1, c2, c3, c4, c5, c6, c7, c8⟩, d9, d10⟩ := h
  have old : ∀ a k, ¬ (a = 609 + c ∧ k = σ.I 555 80) → τ.I a k = ρ.I a k := fun a k q => by rw [e, I_wI]; exact if_neg q
  have new : τ.I (609 + c) (σ.I 555 80) = v := by rw [e]; exact I_same _ _ _ _
  have row : ∀ j, j ≤ 8 → ρ.I (609 + j) (σ.I 555 80) = g j → τ.I (609 + j) (σ.I 555 80) = g' j := fun j hj hq => by
    rw [hg j]
    by_cases z : j = c
    · rw [if_pos z, z]; exact new
    · rw [if_neg z, old _ _ (fun y => z (by omega))]; exact hq
  have g0 : g' 0 = g 0 := by rw [hg 0, if_neg (by omega)]
  refine ⟨⟨by rw [old _ _ (by omega)]; exact n1, by rw [old _ _ (by omega)]; exact n2, by rw [old _ _ (by omega)]; exact n3⟩, fun k k0 k1 => ?_, ⟨row 0 (by omega) c0, row 1 (by omega) c1, row 2 (by omega) c2, row 3 (by omega) c3, row 4 (by omega) c4, row 5 (by omega) c5, row 6 (by omega) c6, row 7 (by omega) c7, row 8 (by omega) c8⟩, fun z => ?_, fun z => ?_⟩
  · rw [old 609 k (by omega), old 610 k (by omega), old 611 k (by omega), old 612 k (by omega), old 613 k (by omega), old 614 k (by omega), old 615 k (by omega), old 616 k (by omega), old 617 k (by omega), old 618 k (by omega), old 619 k (by omega), old 620 k (by omega)]
    exact b k k0 k1
  · rw [g0] at z
    rw [old 618 _ (by omega), old 619 _ (by omega), hg 9, hg 10, if_neg (by omega), if_neg (by omega)]; exact d9 z
  · rw [g0] at z
    rw [old 620 _ (by omega), hg 11, if_neg (by omega)]; exact d10 z
theorem rowN_1 {kd f fr : Int} (j : Nat) : rowN kd f fr j = if j = 1 then f else rowN kd (-1) fr j := by
  unfold rowN
  by_cases z : j = 1
  · subst z; rfl
  · rw [if_neg z]
    by_cases y : j = 0
    · subst y; rfl
    · rw [if_neg y, if_neg y, if_neg z, if_neg z]
theorem rowN_6 {kd f fr : Int} (j : Nat) : rowN kd f fr j = if j = 6 then fr else rowN kd f 0 j := by
  unfold rowN
  by_cases z : j = 6
  · subst z; rfl
  · rw [if_neg z, if_neg z, if_neg z]
theorem LI_b {e : PE} {s s' : PS} {f l t : Int} (h : LI e s s' f l t) : s.nc ≤ f ∧ f ≤ l ∧ l + 1 = s'.nc := ⟨h.2.2.1.1, h.2.2.1.2, h.2.1⟩
theorem PO_b {e : PE} {s s' : PS} {v t : Int} (h : PO e s s' v t) : s.p < s'.p ∧ s'.p ≤ e.n ∧ s.nc ≤ v ∧ v + 1 = s'.nc := ⟨h.2.2.2.1.1, h.2.2.2.1.2, h.2.2.1, h.2.1⟩
theorem psM_on1 {σ τ : Sto} (h : τ = σ.wI 555 79 (σ.I 555 79 + 1)) : psM τ = (psM σ).o1 := by
  have e := psM_o1 (σ := σ) (τ := τ) (fun c i q => by rw [h, I_wI]; exact if_neg (fun z => q ⟨z.1, Or.inr z.2⟩)) (by rw [h]; exact I_same _ _ _ _)
  rw [e]
  have e2 : τ.I 555 76 = σ.I 555 76 := by rw [h, I_wI]; exact if_neg (fun z => absurd z.2 (by decide))
  rw [e2]; rfl
theorem psM_rd {σ τ : Sto} {x : Int} (h : τ.I = fun c i => if at2 c i 555 76 then x else σ.I c i) : psM τ = (psM σ).to x := by
  have e := psM_to (σ := σ) (τ := τ) (fun c i q => by rw [h]; exact if_neg q)
  rw [e, show τ.I 555 76 = x by rw [h]; exact if_pos ⟨rfl, rfl⟩]
theorem PB_on {σ τ : Sto} (h : τ = σ.wI 555 79 (σ.I 555 79 + 1)) (g : PB σ) (hx : σ.I 555 79 ≠ 60) : PB τ := by
  have old : ∀ i, i ≠ 79 → τ.I 555 i = σ.I 555 i := fun i q => by rw [h, I_wI]; exact if_neg (fun z => q z.2)
  have new : τ.I 555 79 = σ.I 555 79 + 1 := by rw [h]; exact I_same _ _ _ _
  unfold PB at g ⊢
  rw [new, old 76 (by decide), old 77 (by decide), old 80 (by decide), old 78 (by decide), old 27 (by decide)]
  omega
theorem mul_bd {a b : Int} (h0 : 0 ≤ a) (h1 : a ≤ 1000000000000) (h2 : 0 ≤ b) (h3 : b ≤ 9) : 0 ≤ a * b ∧ a * b ≤ 9000000000000 := by
  have q1 := Int.mul_nonneg h0 h2
  have q2 : a * b ≤ a * 9 := Int.mul_le_mul_of_nonneg_left h3 h0
  omega
theorem PB_PO2 {σ τ : Sto} {s0 : PS} {y t : Int} (g : PB σ) (e : psM σ = s0.o1) (h : PO (eM σ) s0 (psM τ) y t) (hn : s0.nc ≤ 2 * s0.on) (k : KP σ τ) (h0 : τ.I 555 78 = 0) : PB τ := by
  obtain ⟨h1, h2, h3, h4, h5, h6, h7⟩ := h
  have ep : σ.I 555 76 = s0.p := congrArg PS.p e
  have eon : σ.I 555 79 = s0.on + 1 := congrArg PS.on e
  have enc : σ.I 555 80 = s0.nc := congrArg PS.nc e
  have a1 : s0.p < τ.I 555 76 := h4.1
  have a2 : τ.I 555 76 ≤ σ.I 555 77 := h4.2
  have a3 : s0.on < τ.I 555 79 := h6.1
  have a4 : τ.I 555 79 ≤ 60 := h6.2.1
  have a5 : τ.I 555 80 - s0.nc ≤ 2 * (τ.I 555 79 - s0.on) - 1 := h6.2.2
  have a6 : s0.nc ≤ y := h3
  have a7 : y + 1 = τ.I 555 80 := h2
  have b1 : τ.I 555 77 = σ.I 555 77 := k.2 555 77 (by unfold wsP; omega)
  have b2 : τ.I 555 27 = σ.I 555 27 := k.2 555 27 (by unfold wsP; omega)
  unfold PB at g ⊢
  rw [b1, b2]
  omega
theorem cdM_0 {σ : Sto} (h : σ.I 555 78 = 0) : cdM σ = -10 - σ.I 555 76 := by unfold cdM; rw [if_neg (by omega)]

abbrev RC_X9_any (E : XE) (k : Nat) : Prop := ∀ {d : Nat} {σ : Sto} {x1 : Int}, k + 8 ≤ d → Lay σ → (PB σ) → (SRC σ) → (0 ≤ x1 ∧ x1 ≤ 12) → (6 * (12 - x1).toNat + 6 ≤ k) → CC E mX9_any d [aO 555, aI (x1)] σ (RTI (fun y τ => (RN (eM σ) (.any x1) (psM σ) y (psM τ)) ∧ (PO (eM σ) (psM σ) (psM τ) y (tb x1)) ∧ (τ.I 555 78 = 0) ∧ (PB τ) ∧ (KP σ τ)) (fun a τ => (SF σ τ) ∧ (a = 556) ∧ (KP σ τ) ∧ (RF (eM σ) (.any x1) (psM σ) (cdM τ))))
abbrev RC_X9_best (E : XE) (k : Nat) : Prop := ∀ {d : Nat} {σ : Sto} {x1 : Int}, k + 8 ≤ d → Lay σ → (PB σ) → (SRC σ) → (0 ≤ x1 ∧ x1 ≤ 12) → (6 * (12 - x1).toNat + 5 ≤ k) → CC E mX9_best d [aO 555, aI (x1)] σ (RTI (fun y τ => (RN (eM σ) (.best x1) (psM σ) y (psM τ)) ∧ (PO (eM σ) (psM σ) (psM τ) y (tb x1)) ∧ (τ.I 555 78 = 0) ∧ (PB τ) ∧ (KP σ τ)) (fun a τ => (SF σ τ) ∧ (a = 556) ∧ (KP σ τ) ∧ (RF (eM σ) (.best x1) (psM σ) (cdM τ))))
abbrev RC_X9_all (E : XE) (k : Nat) : Prop := ∀ {d : Nat} {σ : Sto} {x1 : Int}, k + 8 ≤ d → Lay σ → (PB σ) → (SRC σ) → (0 ≤ x1 ∧ x1 ≤ 12) → (6 * (12 - x1).toNat + 4 ≤ k) → CC E mX9_all d [aO 555, aI (x1)] σ (RTI (fun y τ => (RN (eM σ) (.all x1) (psM σ) y (psM τ)) ∧ (PO (eM σ) (psM σ) (psM τ) y (tb x1)) ∧ (τ.I 555 78 = 0) ∧ (PB τ) ∧ (KP σ τ)) (fun a τ => (SF σ τ) ∧ (a = 556) ∧ (KP σ τ) ∧ (RF (eM σ) (.all x1) (psM σ) (cdM τ))))
abbrev RC_X9_part (E : XE) (k : Nat) : Prop := ∀ {d : Nat} {σ : Sto} {x1 : Int} {x2 : Int}, k + 8 ≤ d → Lay σ → (PB σ) → (SRC σ) → (0 ≤ x1 ∧ x1 ≤ 12) → (6 * (12 - x1).toNat + 3 ≤ k) → (0 ≤ x2 ∧ x2 ≤ 1) → CC E mX9_part d [aO 555, aI (x1), aI (x2)] σ (RTI (fun y τ => (RN (eM σ) (.part x1 x2) (psM σ) y (psM τ)) ∧ (PO (eM σ) (psM σ) (psM τ) y (tb x1)) ∧ (τ.I 555 78 = 0) ∧ (PB τ) ∧ (KP σ τ)) (fun a τ => (SF σ τ) ∧ (a = 556) ∧ (KP σ τ) ∧ (RF (eM σ) (.part x1 x2) (psM σ) (cdM τ))))
abbrev RC_X9_one (E : XE) (k : Nat) : Prop := ∀ {d : Nat} {σ : Sto} {x1 : Int}, k + 8 ≤ d → Lay σ → (PB σ) → (SRC σ) → (0 ≤ x1 ∧ x1 ≤ 12) → (6 * (12 - x1).toNat + 2 ≤ k) → CC E mX9_one d [aO 555, aI (x1)] σ (RTI (fun y τ => (RN (eM σ) (.one x1) (psM σ) y (psM τ)) ∧ (PO (eM σ) (psM σ) (psM τ) y (tb (x1 + 1))) ∧ (τ.I 555 78 = 0) ∧ (PB τ) ∧ (KP σ τ) ∧ (x1 ≤ 11)) (fun a τ => (SF σ τ) ∧ (a = 556) ∧ (KP σ τ) ∧ (RF (eM σ) (.one x1) (psM σ) (cdM τ))))
abbrev RC_X9_some (E : XE) (s0 : PS) (k : Nat) : Prop := ∀ {d : Nat} {σ : Sto} {x1 : Int}, k + 8 ≤ d → Lay σ → (PB σ) → (SRC σ) → (0 ≤ x1 ∧ x1 ≤ 11) → (6 * (12 - x1).toNat + 1 ≤ k) → (psM σ = s0.o1) → (bgn (hc (eM σ) s0.p)) → (hc (eM σ) s0.p = 123) → (¬ (s0.on = 60 ∨ 11 < x1)) → (s0.nc ≤ 2 * s0.on) → CC E mX9_some d [aO 555, aI (x1)] σ (RTI (fun y τ => (RN (eM σ) (.one x1) s0 y (psM τ)) ∧ (PO (eM σ) s0 (psM τ) y (tb (x1 + 1))) ∧ (τ.I 555 78 = 0) ∧ (PB τ) ∧ (KP σ τ)) (fun a τ => (SF σ τ) ∧ (a = 556) ∧ (KP σ τ) ∧ (RF (eM σ) (.one x1) s0 (cdM τ))))
def RCM (E : XE) (k : Nat) : Prop := (RC_X9_any E k) ∧ (RC_X9_best E k) ∧ (RC_X9_all E k) ∧ (RC_X9_part E k) ∧ (RC_X9_one E k) ∧ (∀ s0, RC_X9_some E s0 k)
theorem rcm_any {E : XE} {k : Nat} (h : RCM E k) : RC_X9_any E k := h.1
theorem rcm_best {E : XE} {k : Nat} (h : RCM E k) : RC_X9_best E k := h.2.1
theorem rcm_all {E : XE} {k : Nat} (h : RCM E k) : RC_X9_all E k := h.2.2.1
theorem rcm_part {E : XE} {k : Nat} (h : RCM E k) : RC_X9_part E k := h.2.2.2.1
theorem rcm_one {E : XE} {k : Nat} (h : RCM E k) : RC_X9_one E k := h.2.2.2.2.1
theorem rcm_some {E : XE} {k : Nat} (h : RCM E k) (s0 : PS) : RC_X9_some E s0 k := h.2.2.2.2.2 s0
end
section
/-! contracts: printed by tools/mk.py out of s48i1_parAny.py -/
set_option maxRecDepth 100000
set_option maxHeartbeats 1500000
theorem sp_X9_any {E : XE} {d : Nat} {σ : Sto} {k : Nat} {x1 : Int} (hd : k + 8 ≤ d) (hL : Lay σ)  (p0 : PB σ) (p1 : SRC σ) (p2 : 0 ≤ x1 ∧ x1 ≤ 12) (p3 : 6 * (12 - x1).toNat + 6 ≤ k) (p4 : ∀ j, j < k → RCM E j) : CC E mX9_any d [aO 555, aI (x1)] σ (RTI (fun y τ => (RN (eM σ) (.any x1) (psM σ) y (psM τ)) ∧ (PO (eM σ) (psM σ) (psM τ) y (tb x1)) ∧ (τ.I 555 78 = 0) ∧ (PB τ) ∧ (KP σ τ)) (fun a τ => (SF σ τ) ∧ (a = 556) ∧ (KP σ τ) ∧ (RF (eM σ) (.any x1) (psM σ) (cdM τ)))) := by sorry
end
section
/-! contracts: printed by tools/mk.py out of s48i2_parBest.py -/
set_option maxRecDepth 100000
set_option maxHeartbeats 1500000
theorem sp_X9_best {E : XE} {d : Nat} {σ : Sto} {k : Nat} {x1 : Int} (hd : k + 8 ≤ d) (hL : Lay σ)  (p0 : PB σ) (p1 : SRC σ) (p2 : 0 ≤ x1 ∧ x1 ≤ 12) (p3 : 6 * (12 - x1).toNat + 5 ≤ k) (p4 : ∀ j, j < k → RCM E j) : CC E mX9_best d [aO 555, aI (x1)] σ (RTI (fun y τ => (RN (eM σ) (.best x1) (psM σ) y (psM τ)) ∧ (PO (eM σ) (psM σ) (psM τ) y (tb x1)) ∧ (τ.I 555 78 = 0) ∧ (PB τ) ∧ (KP σ τ)) (fun a τ => (SF σ τ) ∧ (a = 556) ∧ (KP σ τ) ∧ (RF (eM σ) (.best x1) (psM σ) (cdM τ)))) := by sorry
end
section
/-! contracts: printed by tools/mk.py out of s48i3_parAll.py -/
set_option maxRecDepth 100000
set_option maxHeartbeats 1500000
theorem sp_X9_all {E : XE} {d : Nat} {σ : Sto} {k : Nat} {x1 : Int} (hd : k + 8 ≤ d) (hL : Lay σ)  (p0 : PB σ) (p1 : SRC σ) (p2 : 0 ≤ x1 ∧ x1 ≤ 12) (p3 : 6 * (12 - x1).toNat + 4 ≤ k) (p4 : ∀ j, j < k → RCM E j) : CC E mX9_all d [aO 555, aI (x1)] σ (RTI (fun y τ => (RN (eM σ) (.all x1) (psM σ) y (psM τ)) ∧ (PO (eM σ) (psM σ) (psM τ) y (tb x1)) ∧ (τ.I 555 78 = 0) ∧ (PB τ) ∧ (KP σ τ)) (fun a τ => (SF σ τ) ∧ (a = 556) ∧ (KP σ τ) ∧ (RF (eM σ) (.all x1) (psM σ) (cdM τ)))) := by sorry
end
section
/-! contracts: printed by tools/mk.py out of s48i4_parPart.py -/
set_option maxRecDepth 100000
set_option maxHeartbeats 1500000
theorem sp_X9_part {E : XE} {d : Nat} {σ : Sto} {k : Nat} {x1 : Int} {x2 : Int} (hd : k + 8 ≤ d) (hL : Lay σ)  (p0 : PB σ) (p1 : SRC σ) (p2 : 0 ≤ x1 ∧ x1 ≤ 12) (p3 : 6 * (12 - x1).toNat + 3 ≤ k) (p4 : ∀ j, j < k → RCM E j) (p5 : 0 ≤ x2 ∧ x2 ≤ 1) : CC E mX9_part d [aO 555, aI (x1), aI (x2)] σ (RTI (fun y τ => (RN (eM σ) (.part x1 x2) (psM σ) y (psM τ)) ∧ (PO (eM σ) (psM σ) (psM τ) y (tb x1)) ∧ (τ.I 555 78 = 0) ∧ (PB τ) ∧ (KP σ τ)) (fun a τ => (SF σ τ) ∧ (a = 556) ∧ (KP σ τ) ∧ (RF (eM σ) (.part x1 x2) (psM σ) (cdM τ)))) := by sorry
end
section
/-! contracts: printed by tools/mk.py out of s48i5_parOne.py -/
set_option maxRecDepth 100000
set_option maxHeartbeats 1500000
theorem sp_X9_one {E : XE} {d : Nat} {σ : Sto} {k : Nat} {x1 : Int} (hd : k + 8 ≤ d) (hL : Lay σ)  (p0 : PB σ) (p1 : SRC σ) (p2 : 0 ≤ x1 ∧ x1 ≤ 12) (p3 : 6 * (12 - x1).toNat + 2 ≤ k) (p4 : ∀ j, j < k → RCM E j) : CC E mX9_one d [aO 555, aI (x1)] σ (RTI (fun y τ => (RN (eM σ) (.one x1) (psM σ) y (psM τ)) ∧ (PO (eM σ) (psM σ) (psM τ) y (tb (x1 + 1))) ∧ (τ.I 555 78 = 0) ∧ (PB τ) ∧ (KP σ τ) ∧ (x1 ≤ 11)) (fun a τ => (SF σ τ) ∧ (a = 556) ∧ (KP σ τ) ∧ (RF (eM σ) (.one x1) (psM σ) (cdM τ)))) := by sorry
end
section
/-! contracts: printed by tools/mk.py out of s48i6_parSome.py -/
set_option maxRecDepth 100000
set_option maxHeartbeats 1500000
theorem sp_X9_some {E : XE} {d : Nat} {σ : Sto} {s0 : PS} {k : Nat} {x1 : Int} (hd : k + 8 ≤ d) (hL : Lay σ)  (p0 : PB σ) (p1 : SRC σ) (p2 : 0 ≤ x1 ∧ x1 ≤ 11) (p3 : 6 * (12 - x1).toNat + 1 ≤ k) (p4 : ∀ j, j < k → RCM E j) (p5 : psM σ = s0.o1) (p6 : bgn (hc (eM σ) s0.p)) (p7 : hc (eM σ) s0.p = 123) (p8 : ¬ (s0.on = 60 ∨ 11 < x1)) (p9 : s0.nc ≤ 2 * s0.on) : CC E mX9_some d [aO 555, aI (x1)] σ (RTI (fun y τ => (RN (eM σ) (.one x1) s0 y (psM τ)) ∧ (PO (eM σ) s0 (psM τ) y (tb (x1 + 1))) ∧ (τ.I 555 78 = 0) ∧ (PB τ) ∧ (KP σ τ)) (fun a τ => (SF σ τ) ∧ (a = 556) ∧ (KP σ τ) ∧ (RF (eM σ) (.one x1) s0 (cdM τ)))) := by sorry
end
section
/-! contracts: printed by tools/mk.py out of s48j_isq.py -/
set_option maxRecDepth 100000
set_option maxHeartbeats 1500000
theorem rcm_all_k {E : XE} : ∀ k, RCM E k := by
  intro k
  induction k using Nat.strongRecOn with
  | ind k ih => exact ⟨fun hd hL p0 p1 p2 p3 => sp_X9_any hd hL p0 p1 p2 p3 ih, fun hd hL p0 p1 p2 p3 => sp_X9_best hd hL p0 p1 p2 p3 ih, fun hd hL p0 p1 p2 p3 => sp_X9_all hd hL p0 p1 p2 p3 ih, fun hd hL p0 p1 p2 p3 p5 => sp_X9_part hd hL p0 p1 p2 p3 ih p5, fun hd hL p0 p1 p2 p3 => sp_X9_one hd hL p0 p1 p2 p3 ih, (by intro s0 d σ x1 hd hL p0 p1 p2 p3 p5 p6 p7 p8 p9; exact sp_X9_some hd hL p0 p1 p2 p3 ih p5 p6 p7 p8 p9)⟩
theorem sx_X9_any {E : XE} {d : Nat} {σ : Sto} {k : Nat} {x1 : Int} (hd : k + 8 ≤ d) (hL : Lay σ) (p0 : PB σ) (p1 : SRC σ) (p2 : 0 ≤ x1 ∧ x1 ≤ 12) (p3 : 6 * (12 - x1).toNat + 6 ≤ k) : CC E mX9_any d [aO 555, aI x1] σ (RTI (fun y τ => (RN (eM σ) (.any x1) (psM σ) y (psM τ)) ∧ (PO (eM σ) (psM σ) (psM τ) y (tb x1)) ∧ (τ.I 555 78 = 0) ∧ (PB τ) ∧ (KP σ τ)) (fun a τ => (SF σ τ) ∧ (a = 556) ∧ (KP σ τ) ∧ (RF (eM σ) (.any x1) (psM σ) (cdM τ)))) := rcm_any (rcm_all_k k) hd hL p0 p1 p2 p3
/-- the reading of a whole question -/
def s00 : PS := ⟨0, 0, 0, fun _ _ => 0⟩
noncomputable def qR (e : PE) : PR := match rn e (.any 0, [], s00) with
  | .inl x => .inl x
  | .inr (v, s) => if s.p < e.n then .inl (-10 - s.p) else .inr (v, s)
theorem qR_f {e : PE} {x : Int} (h : RF e (.any 0) s00 x) : qR e = .inl x := by
  unfold qR; rw [h []]
theorem rn_ret {e : PE} {v : Int} {s : PS} : rn e (.ret v, [], s) = .inr (v, s) := rn_e rfl
theorem qR_n {e : PE} {v : Int} {s : PS} (h : RN e (.any 0) s00 v s) (g : s.p < e.n) : qR e = .inl (-10 - s.p) := by
  unfold qR; rw [h [], rn_ret]; exact if_pos g
theorem qR_y {e : PE} {v : Int} {s : PS} (h : RN e (.any 0) s00 v s) (g : ¬ s.p < e.n) : qR e = .inr (v, s) := by
  unfold qR; rw [h [], rn_ret]; exact if_neg g
/-- the text a question is read out of -/
def eQ (σ : Sto) (o : Nat) (b n : Int) : PE := ⟨fun k => σ.I o (b + k), n, σ.I 577, σ.I 555 27⟩
/-- what isQuestion writes -/
def wsQu (c : Nat) (i : Int) : Prop := (609 ≤ c ∧ c ≤ 620) ∨ (c = 555 ∧ (75 ≤ i ∧ i ≤ 80))
abbrev KQu (σ τ : Sto) : Prop := Ch wsQu σ τ
theorem KQu_p {σ τ : Sto} (h : KP σ τ) : KQu σ τ := Ch.mono h (fun c i z => by unfold wsP at z; unfold wsQu; omega)
theorem psM_s00 {σ : Sto} (h0 : σ.I 555 76 = 0) (h1 : σ.I 555 79 = 0) (h2 : σ.I 555 80 = 0) : psM σ = s00 := by
  have e : tM σ = fun _ _ => 0 := by
    funext c k
    unfold tM
    rw [if_neg (by omega)]
  unfold psM s00
  rw [h0, h1, h2, e]
theorem q_beg {σ σ1 σ3 σ4 σ6 σ7 σ8 σ9 : Sto} {o1 n1 : Nat} {x2 x3 : Int} (e1 : σ1 = σ.wR 555 74 (some o1)) (e3 : σ3 = σ1.wI 555 75 x2) (e4 : σ4 = σ3.wI 555 76 0) (e6 : σ6 = σ4.wI 555 77 x3) (e7 : σ7 = σ6.wI 555 78 0) (e8 : σ8 = σ7.wI 555 79 0) (e9 : σ9 = σ8.wI 555 80 0)
    (ho : σ.sh o1 = (1, n1)) (p0 : 0 ≤ x3 ∧ x3 ≤ 400) (p1 : 0 ≤ x2 ∧ x2 + x3 ≤ n1 ∧ x2 ≤ 10000) (p2 : o1 = 557 ∨ (603 ≤ o1 ∧ o1 ≤ 607) ∨ o1 = 640) (p3 : 0 ≤ σ.I 555 27 ∧ σ.I 555 27 ≤ 12) :
    KQu (σ.wR 555 74 (some o1)) σ9 ∧ PB σ9 ∧ SRC σ9 ∧ psM σ9 = s00 ∧ eM σ9 = eQ σ o1 x2 x3 := by
  have hk : KQu σ1 σ9 := by
    subst e9; subst e8; subst e7; subst e6; subst e4; subst e3
    exact Ch.wI (Ch.wI (Ch.wI (Ch.wI (Ch.wI (Ch.wI Ch.rf (by unfold wsQu; omega)) (by unfold wsQu; omega)) (by unfold wsQu; omega)) (by unfold wsQu; omega)) (by unfold wsQu; omega)) (by unfold wsQu; omega)
  have i9 : ∀ i, i ≠ 80 → σ9.I 555 i = σ8.I 555 i := fun i q => by rw [e9, I_wI]; exact if_neg (fun z => q z.2)
  have i8 : ∀ i, i ≠ 79 → σ8.I 555 i = σ7.I 555 i := fun i q => by rw [e8, I_wI]; exact if_neg (fun z => q z.2)
  have i7 : ∀ i, i ≠ 78 → σ7.I 555 i = σ6.I 555 i := fun i q => by rw [e7, I_wI]; exact if_neg (fun z => q z.2)
  have i6 : ∀ i, i ≠ 77 → σ6.I 555 i = σ4.I 555 i := fun i q => by rw [e6, I_wI]; exact if_neg (fun z => q z.2)
  have i4 : ∀ i, i ≠ 76 → σ4.I 555 i = σ3.I 555 i := fun i q => by rw [e4, I_wI]; exact if_neg (fun z => q z.2)
  have v80 : σ9.I 555 80 = 0 := by rw [e9]; exact I_same _ _ _ _
  have v79 : σ9.I 555 79 = 0 := by rw [i9 79 (by decide), e8]; exact I_same _ _ _ _
  have v78 : σ9.I 555 78 = 0 := by rw [i9 78 (by decide), i8 78 (by decide), e7]; exact I_same _ _ _ _
  have v77 : σ9.I 555 77 = x3 := by rw [i9 77 (by decide), i8 77 (by decide), i7 77 (by decide), e6]; exact I_same _ _ _ _
  have v76 : σ9.I 555 76 = 0 := by rw [i9 76 (by decide), i8 76 (by decide), i7 76 (by decide), i6 76 (by decide), e4]; exact I_same _ _ _ _
  have v75 : σ9.I 555 75 = x2 := by rw [i9 75 (by decide), i8 75 (by decide), i7 75 (by decide), i6 75 (by decide), i4 75 (by decide), e3]; exact I_same _ _ _ _
  have hI : ∀ c i, ¬ wsQu c i → σ9.I c i = σ.I c i := fun c i q => (hk.2 c i q).trans (by rw [e1]; rfl)
  have v27 : σ9.I 555 27 = σ.I 555 27 := hI _ _ (by unfold wsQu; omega)
  have hR : σ9.R 555 74 = some o1 := by rw [hk.1.1, e1]; exact (up2_at : up2 σ.R 555 74 (some o1) 555 74 = some o1)
  have hs : src σ9 = o1 := by unfold src; rw [hR]; rfl
  have hsh : σ9.sh = σ.sh := by rw [hk.1.2.1, e1]; rfl
  refine ⟨e1 ▸ hk, ?_, ?_, psM_s00 v76 v79 v80, ?_⟩
  · unfold PB; rw [v76, v77, v79, v80, v78, v27]; omega
  · unfold SRC; rw [hs, hR, hsh, v75, v77, ho]
    exact ⟨⟨rfl, rfl, p2⟩, p1.1, p0.1, p0.2, p1.2.1, p1.2.2⟩
  · unfold eM eQ
    rw [v77, v27]
    have hB : qb σ9 = fun k => σ.I o1 (x2 + k) := by
      funext k; unfold qb; rw [hs, v75]; exact hI _ _ (by unfold wsQu; omega)
    have hK : σ9.I 577 = σ.I 577 := by funext k; exact hI _ _ (by unfold wsQu; omega)
    rw [hB, hK]

theorem sp_X9_isQuestion {E : XE} {d : Nat} {σ : Sto} {o1 : Nat} {n1 : Nat} {x2 : Int} {x3 : Int} (hd : 100 ≤ d) (hL : Lay σ) (ho1 : σ.sh o1 = (1, n1)) (p0 : 0 ≤ x3 ∧ x3 ≤ 400) (p1 : 0 ≤ x2 ∧ x2 + x3 ≤ n1 ∧ x2 ≤ 10000) (p2 : o1 = 557 ∨ (603 ≤ o1 ∧ o1 ≤ 607) ∨ o1 = 640) (p3 : 0 ≤ σ.I 555 27 ∧ σ.I 555 27 ≤ 12) : CC E mX9_isQuestion d [aO 555, aO o1, aI (x2), aI (x3)] σ (RVZ (fun y τ => (KQu (σ.wR 555 74 (some o1)) τ) ∧ (eM τ = (eQ σ o1 x2 x3)) ∧ (y = 1 → qR (eQ σ o1 x2 x3) = .inr (τ.I 555 80 - 1, psM τ) ∧ PO (eQ σ o1 x2 x3) s00 (psM τ) (τ.I 555 80 - 1) (tb 0) ∧ τ.I 555 76 = x3 ∧ τ.I 555 78 = 0) ∧ (y = 0 → qR (eQ σ o1 x2 x3) = .inl (cdM τ)) ∧ (SRC τ))) := by sorry
end
section
/-! contracts: printed by tools/mk.py out of s48k_quest.py -/
set_option maxRecDepth 100000
set_option maxHeartbeats 1500000
noncomputable def qA (e : PE) : Int := match qR e with
  | .inl c => c
  | .inr (_, s) => s.on
noncomputable def qok (e : PE) : Int := match qR e with
  | .inl _ => 0
  | .inr _ => 1
theorem qA_l {e : PE} {c : Int} (h : qR e = .inl c) : qA e = c := by unfold qA; rw [h]
theorem qA_r {e : PE} {v : Int} {s : PS} (h : qR e = .inr (v, s)) : qA e = s.on := by unfold qA; rw [h]
theorem qok_l {e : PE} {c : Int} (h : qR e = .inl c) : qok e = 0 := by unfold qok; rw [h]
theorem qok_r {e : PE} {v : Int} {s : PS} (h : qR e = .inr (v, s)) : qok e = 1 := by unfold qok; rw [h]
/-- a frame in which the source of the model's reader may be another one -/
def ChS (P : Nat → Int → Prop) (σ τ : Sto) : Prop := (∃ r, τ.R = (σ.wR 555 74 r).R) ∧ (τ.sh = σ.sh ∧ τ.n = σ.n) ∧ ∀ c i, ¬ P c i → τ.I c i = σ.I c i
theorem ChS.of {P : Nat → Int → Prop} {σ τ : Sto} (h : Ch P σ τ) : ChS P σ τ := ⟨⟨σ.R 555 74, by
  rw [h.1.1]; funext c i
  show _ = up2 σ.R 555 74 (σ.R 555 74) c i
  unfold up2; split
  · rename_i z; rw [z.1, z.2]
  · rfl⟩, ⟨h.1.2.1, h.1.2.2⟩, h.2⟩
theorem ChS.rf {P : Nat → Int → Prop} {σ : Sto} : ChS P σ σ := ChS.of Ch.rf
theorem ChS.w {P : Nat → Int → Prop} {σ τ : Sto} {r : Option Nat} (h : Ch P (σ.wR 555 74 r) τ) : ChS P σ τ := ⟨⟨r, h.1.1⟩, ⟨h.1.2.1, h.1.2.2⟩, h.2⟩
theorem ChS.tr {P : Nat → Int → Prop} {σ τ ρ : Sto} (h : ChS P σ τ) (g : ChS P τ ρ) : ChS P σ ρ := by
  obtain ⟨⟨r, hr⟩, hs, hi⟩ := h
  obtain ⟨⟨r', gr⟩, gs, gi⟩ := g
  refine ⟨⟨r', ?_⟩, ⟨gs.1.trans hs.1, gs.2.trans hs.2⟩, fun c i q => (gi c i q).trans (hi c i q)⟩
  rw [gr]
  funext c i
  show up2 τ.R 555 74 r' c i = up2 σ.R 555 74 r' c i
  rw [hr]
  show up2 (up2 σ.R 555 74 r) 555 74 r' c i = _
  unfold up2; split
  · rfl
  · rfl
theorem ChS.mono {P P' : Nat → Int → Prop} {σ τ : Sto} (h : ChS P σ τ) (g : ∀ c i, P c i → P' c i) : ChS P' σ τ := ⟨h.1, h.2.1, fun c i q => h.2.2 c i (fun z => q (g c i z))⟩
theorem ChS.R {P : Nat → Int → Prop} {σ τ : Sto} (h : ChS P σ τ) {c : Nat} {i : Int} (q : ¬ (c = 555 ∧ i = 74)) : τ.R c i = σ.R c i := by
  obtain ⟨⟨r, hr⟩, _, _⟩ := h
  rw [hr]; show up2 σ.R 555 74 r c i = _
  unfold up2; exact if_neg q

theorem sp_X9_load {E : XE} {d : Nat} {σ : Sto} {o1 : Nat} {n1 : Nat} {x2 : Int} {x3 : Int} (hd : 101 ≤ d) (hL : Lay σ) (ho1 : σ.sh o1 = (1, n1)) (p0 : 0 ≤ x3 ∧ x3 ≤ 400) (p1 : 0 ≤ x2 ∧ x2 + x3 ≤ n1 ∧ x2 ≤ 10000) (p2 : o1 = 557 ∨ (603 ≤ o1 ∧ o1 ≤ 607) ∨ o1 = 640) (p3 : 0 ≤ σ.I 555 27 ∧ σ.I 555 27 ≤ 12) : CC E mX9_load d [aO 555, aO o1, aI (x2), aI (x3)] σ (RV (fun τ => (KQu (σ.wR 555 74 (some o1)) τ) ∧ (eM τ = (eQ σ o1 x2 x3)) ∧ (qok (eQ σ o1 x2 x3) = 1 → qR (eQ σ o1 x2 x3) = .inr (τ.I 555 80 - 1, psM τ) ∧ PO (eQ σ o1 x2 x3) s00 (psM τ) (τ.I 555 80 - 1) (tb 0) ∧ τ.I 555 76 = x3 ∧ τ.I 555 78 = 0) ∧ (SRC τ))) := by sorry
/-- what question leaves, but for the tables -/
noncomputable def qF (σ : Sto) (ok on n k : Int) (c : Nat) (i : Int) : Int :=
  if at2 c i 555 2 then 0 else if ok = 1 then (if fgM c i then 0 else if at2 c i 555 66 then n else if at2 c i 555 67 then on else if c = 603 ∧ 0 ≤ i ∧ i < k then σ.I 557 i else σ.I c i) else σ.I c i
def QI (σ τ : Sto) (ok on n k : Int) : Prop := (∃ r, τ.R = (σ.wR 555 74 r).R) ∧ (τ.sh = σ.sh ∧ τ.n = σ.n) ∧ ∀ c i, ¬ wsQu c i → τ.I c i = qF σ ok on n k c i
theorem QI_T {σ σ1 τ : Sto} {on n k : Int} (h : Ch (fun c i => at2 c i 555 2) σ σ1) (h0 : σ1.I 555 2 = 0) (hq : ChS wsQu σ1 τ) : QI σ τ 0 on n k := by
  refine ⟨?_, ⟨hq.2.1.1.trans h.1.2.1, hq.2.1.2.trans h.1.2.2⟩, fun c i q => ?_⟩
  · obtain ⟨r, hr⟩ := hq.1
    refine ⟨r, hr.trans ?_⟩
    show up2 σ1.R 555 74 r = up2 σ.R 555 74 r
    rw [h.1.1]
  · rw [hq.2.2 c i q]
    unfold qF
    by_cases z : at2 c i 555 2
    · rw [if_pos z, z.1, z.2]; exact h0
    · rw [if_neg z, if_neg (by decide)]; exact h.2 c i z
theorem QI_N {σ σ2 σ3 : Sto} {on n : Int} (h : QI σ σ2 0 on n 0) (r : σ3.R = σ2.R) (s : σ3.sh = σ2.sh) (m : σ3.n = σ2.n) (e : σ3.I = fun c i => if fgM c i then 0 else σ2.I c i) : ∀ c i, ¬ wsQu c i → ¬ at2 c i 555 66 → ¬ at2 c i 555 67 → σ3.I c i = qF σ 1 on n 0 c i := by
  intro c i q a1 a2
  rw [e]
  show (if fgM c i then 0 else σ2.I c i) = _
  rw [h.2.2 c i q]
  unfold qF
  rw [if_pos rfl, if_neg a1, if_neg a2, if_neg (by decide : ¬ ((0 : Int) = 1)), if_neg (show ¬ (c = 603 ∧ 0 ≤ i ∧ i < 0) by omega)]
  by_cases z : at2 c i 555 2
  · rw [if_pos z, if_pos z]; split <;> rfl
  · rw [if_neg z, if_neg z]
/-- while it copies -/
def QL (σ τ : Sto) (on n k : Int) : Prop := ((∃ r, τ.R = (σ.wR 555 74 r).R) ∧ (τ.sh = σ.sh ∧ τ.n = σ.n)) ∧ ∀ c i, ¬ wsQu c i → ¬ at2 c i 555 66 → ¬ at2 c i 555 67 → τ.I c i = qF σ 1 on n k c i
theorem QL_0 {σ σ2 σ3 : Sto} {on n : Int} (h : QI σ σ2 0 on n 0) (r : σ3.R = σ2.R) (s : σ3.sh = σ2.sh) (m : σ3.n = σ2.n) (e : σ3.I = fun c i => if fgM c i then 0 else σ2.I c i) : QL σ σ3 on n 0 := by
  refine ⟨⟨?_, ⟨s.trans h.2.1.1, m.trans h.2.1.2⟩⟩, QI_N h r s m e⟩
  obtain ⟨q, hq⟩ := h.1
  exact ⟨q, r.trans hq⟩
theorem QL_s {σ τ ρ : Sto} {on n k v : Int} (h : QL σ τ on n k) (k0 : 0 ≤ k) (e : ρ = τ.wI 603 k v) (hv : v = σ.I 557 k) : QL σ ρ on n (k + 1) := by
  refine ⟨by rw [e]; exact h.1, fun c i q a1 a2 => ?_⟩
  have h2 := h.2 c i q a1 a2
  rw [e, I_wI]
  unfold qF at h2 ⊢
  rw [if_pos rfl] at h2 ⊢
  by_cases z : c = 603 ∧ i = k
  · rw [if_pos z, hv, if_neg (show ¬ at2 c i 555 2 from fun y => absurd (z.1.symm.trans y.1) (by decide)), if_neg (show ¬ fgM c i by unfold fgM; have := z.1; omega), if_neg a1, if_neg a2, if_pos ⟨z.1, by omega, by omega⟩, z.2]
  · rw [if_neg z, h2]
    by_cases y : c = 603 ∧ 0 ≤ i ∧ i < k
    · rw [if_pos y, if_pos (show c = 603 ∧ 0 ≤ i ∧ i < k + 1 from ⟨y.1, y.2.1, by omega⟩)]
    · rw [if_neg y, if_neg (show ¬ (c = 603 ∧ 0 ≤ i ∧ i < k + 1) from fun w => y ⟨w.1, w.2.1, by have : i ≠ k := fun u => z ⟨w.1, u⟩; omega⟩)]
theorem QL_e {σ τ ρ1 ρ : Sto} {on n k : Int} (h : QL σ τ on n k) (e1 : ρ1 = τ.wI 555 66 n) (e : ρ = ρ1.wI 555 67 on) : QI σ ρ 1 on n k := by
  subst e1
  refine ⟨by rw [e]; exact h.1.1, by rw [e]; exact h.1.2, fun c i q => ?_⟩
  rw [e, I_wI]
  by_cases z : c = 555 ∧ i = 67
  · rw [if_pos z]; unfold qF; rw [if_pos rfl, if_neg (show ¬ at2 c i 555 2 from fun y => absurd (z.2.symm.trans y.2) (by decide)), if_neg (show ¬ fgM c i by unfold fgM; have := z.2; omega), if_neg (show ¬ at2 c i 555 66 from fun y => absurd (z.2.symm.trans y.2) (by decide)), if_pos (show at2 c i 555 67 from z)]
  · rw [if_neg z, I_wI]
    by_cases y : c = 555 ∧ i = 66
    · rw [if_pos y]; unfold qF; rw [if_pos rfl, if_neg (show ¬ at2 c i 555 2 from fun w => absurd (y.2.symm.trans w.2) (by decide)), if_neg (show ¬ fgM c i by unfold fgM; have := y.2; omega), if_pos (show at2 c i 555 66 from y)]
    · rw [if_neg y]; exact h.2 c i q y z

theorem eQ_c {σ σ1 : Sto} {x n : Int} (h : Ch (fun c i => at2 c i 555 2) σ σ1) (hx : x = n) : eQ σ1 557 0 x = eQ σ 557 0 n := by
  unfold eQ
  rw [hx, h.2 555 27 (fun z => absurd z.2 (by decide))]
  have hK : σ1.I 577 = σ.I 577 := by funext k; exact h.2 _ _ (fun z => absurd z.1 (by decide))
  have hB : σ1.I 557 = σ.I 557 := by funext k; exact h.2 _ _ (fun z => absurd z.1 (by decide))
  rw [hK, hB]
theorem QL_t {σ τ : Sto} {on n k i : Int} (h : QL σ τ on n k) : τ.I 557 i = σ.I 557 i := by
  have := h.2 557 i (by unfold wsQu; omega) (fun z => absurd z.1 (by decide)) (fun z => absurd z.1 (by decide))
  rw [this]; unfold qF
  rw [if_pos rfl, if_neg (fun z => absurd z.1 (by decide)), if_neg (show ¬ fgM 557 i by unfold fgM; omega), if_neg (fun z => absurd z.1 (by decide)), if_neg (fun z => absurd z.1 (by decide)), if_neg (fun z => absurd z.1 (by decide))]
theorem qR_FB {e : PE} {c : Int} (h12 : e.f ≤ 12) (hn : 0 ≤ e.n) (h : qR e = .inl c) : FB e c := by
  have h0 : inTx e s00.p := ⟨Int.le_refl _, hn⟩
  unfold qR at h
  cases hx : rn e (.any 0, [], s00) with
  | inl x => rw [hx] at h; cases h; exact rn_FB (z := (.any 0, [], s00)) h12 h0 hx
  | inr vs =>
    obtain ⟨v, s⟩ := vs
    rw [hx] at h
    simp only at h
    split at h
    · cases h
      have h2 := rn_FB' (z := (.any 0, [], s00)) h12 h0 hx
      exact FB_at h2.1 (by have := h2.2; omega)
    · cases h
theorem QI_eq {σ τ : Sto} {ok ok' on n k : Int} (h : QI σ τ ok on n k) (e : ok' = ok) : QI σ τ ok' on n k := e ▸ h

theorem sp_X9_question {E : XE} {d : Nat} {σ : Sto}  (hd : 102 ≤ d) (hL : Lay σ)  (p0 : 0 ≤ σ.I 555 2 ∧ σ.I 555 2 ≤ 20000) (p1 : 0 ≤ σ.I 555 27 ∧ σ.I 555 27 ≤ 12) : CC E mX9_question d [aO 555] σ (RVI (fun y τ => (y = if 400 < (σ.I 555 2) then -3 else qA (eQ σ 557 0 (σ.I 555 2))) ∧ (QI σ τ (if 400 < (σ.I 555 2) then 0 else qok (eQ σ 557 0 (σ.I 555 2))) (qA (eQ σ 557 0 (σ.I 555 2))) (σ.I 555 2) (σ.I 555 2)))) := by sorry
end
section
/-! contracts: printed by tools/mk.py out of s49_xtree.py -/
set_option maxRecDepth 100000
set_option maxHeartbeats 1500000
/-! the reader's nodes: X's table against the abstract one -/
abbrev TB : Type := Nat → Int → Int
/-- a node's row, without the links -/
def RX (T G : TB) (k x : Int) : Prop := G 0 x = T 0 k ∧ G 3 x = T 3 k ∧ G 4 x = T 4 k ∧ G 5 x = T 5 k ∧ G 8 x = (if T 0 k = 3 then T 6 k else T 8 k) ∧ (lfk (T 0 k) → G 6 x = T 6 k ∧ G 7 x = T 7 k) ∧ (T 0 k = 9 ∨ T 0 k = 10 → G 9 x = T 9 k ∧ G 10 x = T 10 k) ∧ (T 0 k = 10 → G 11 x = T 11 k)
/-- a chain of nodes, with all that hangs below; the nodes are in I -/
def LX (T G : TB) (I : Int → Int → Prop) (k x : Int) : Prop := ∀ P : (Int → Int → Prop) → Int → Int → Prop, (∀ I, P I (-1) (-1)) → (∀ (I : Int → Int → Prop) (k x : Int), I k x → RX T G k x → P (fun a b => I a b ∧ a ≠ k ∧ b ≠ x) (T 1 k) (G 1 x) → P I (T 2 k) (G 2 x) → P I k x) → P I k x
theorem LX.nil {T G : TB} {I : Int → Int → Prop} : LX T G I (-1) (-1) := fun _ h _ => h I
theorem LX.cons {T G : TB} {I : Int → Int → Prop} {k x : Int} (hi : I k x) (hr : RX T G k x) (hm : LX T G (fun a b => I a b ∧ a ≠ k ∧ b ≠ x) (T 1 k) (G 1 x)) (hn : LX T G I (T 2 k) (G 2 x)) : LX T G I k x := fun P h1 h2 => h2 I k x hi hr (hm P h1 h2) (hn P h1 h2)
theorem LX.ind {T G : TB} {P : (Int → Int → Prop) → Int → Int → Prop} {I : Int → Int → Prop} {k x : Int} (h : LX T G I k x) (h1 : ∀ I, P I (-1) (-1)) (h2 : ∀ (I : Int → Int → Prop) (k x : Int), I k x → RX T G k x → LX T G (fun a b => I a b ∧ a ≠ k ∧ b ≠ x) (T 1 k) (G 1 x) → LX T G I (T 2 k) (G 2 x) → P (fun a b => I a b ∧ a ≠ k ∧ b ≠ x) (T 1 k) (G 1 x) → P I (T 2 k) (G 2 x) → P I k x) : P I k x :=
  (h (fun I k x => LX T G I k x ∧ P I k x) (fun I => ⟨.nil, h1 I⟩) (fun I k x a b c e => ⟨.cons a b c.1 e.1, h2 I k x a b c.1 e.1 c.2 e.2⟩)).2
/-- a node alone, with all that hangs below -/
def TNd (T G : TB) (I : Int → Int → Prop) (k x : Int) : Prop := I k x ∧ RX T G k x ∧ LX T G (fun a b => I a b ∧ a ≠ k ∧ b ≠ x) (T 1 k) (G 1 x)
/-- a chain from a first to a last one -/
def SX' (T G : TB) (I : Int → Int → Prop) (f x l z : Int) : Prop := ∀ P : (Int → Int → Prop) → Int → Int → Int → Int → Prop, (∀ (I : Int → Int → Prop) (k x : Int), TNd T G I k x → P I k x k x) → (∀ (I J U : Int → Int → Prop) (f x l z v y : Int), P I f x l z → T 2 l = v → G 2 z = y → TNd T G J v y → (∀ a b, I a b → U a b) → (∀ a b, J a b → U a b) → (∀ a b a' b', I a b → J a' b' → a ≠ a' ∧ b ≠ b') → P U f x v y) → P I f x l z
theorem SX'.one {T G : TB} {I : Int → Int → Prop} {k x : Int} (h : TNd T G I k x) : SX' T G I k x k x := fun _ h1 _ => h1 I k x h
theorem SX'.snoc {T G : TB} {I J U : Int → Int → Prop} {f x l z v y : Int} (h : SX' T G I f x l z) (h1 : T 2 l = v) (h2 : G 2 z = y) (h3 : TNd T G J v y) (h4 : ∀ a b, I a b → U a b) (h5 : ∀ a b, J a b → U a b) (h6 : ∀ a b a' b', I a b → J a' b' → a ≠ a' ∧ b ≠ b') : SX' T G U f x v y := fun P p1 p2 => p2 I J U f x l z v y (h P p1 p2) h1 h2 h3 h4 h5 h6
theorem SX'.ind {T G : TB} {P : (Int → Int → Prop) → Int → Int → Int → Int → Prop} {I : Int → Int → Prop} {f x l z : Int} (h : SX' T G I f x l z) (p1 : ∀ (I : Int → Int → Prop) (k x : Int), TNd T G I k x → P I k x k x) (p2 : ∀ (I J U : Int → Int → Prop) (f x l z v y : Int), SX' T G I f x l z → T 2 l = v → G 2 z = y → TNd T G J v y → (∀ a b, I a b → U a b) → (∀ a b, J a b → U a b) → (∀ a b a' b', I a b → J a' b' → a ≠ a' ∧ b ≠ b') → P I f x l z → P U f x v y) : P I f x l z :=
  (h (fun I f x l z => SX' T G I f x l z ∧ P I f x l z) (fun I k x a => ⟨.one a, p1 I k x a⟩) (fun I J U f x l z v y a h1 h2 h3 h4 h5 h6 => ⟨.snoc a.1 h1 h2 h3 h4 h5 h6, p2 I J U f x l z v y a.1 h1 h2 h3 h4 h5 h6 a.2⟩)).2
section LXS
variable {T T' G G' : TB} {I J U : Int → Int → Prop} {k x f l z v y : Int}
theorem RX.cg (h : RX T G k x) (ht : ∀ c, c ≠ 1 → c ≠ 2 → T' c k = T c k) (hg : ∀ c, c ≠ 1 → c ≠ 2 → G' c x = G c x) : RX T' G' k x := by
  unfold RX at h ⊢
  rw [ht 0 (by decide) (by decide), ht 3 (by decide) (by decide), ht 4 (by decide) (by decide), ht 5 (by decide) (by decide), ht 6 (by decide) (by decide), ht 7 (by decide) (by decide), ht 8 (by decide) (by decide), ht 9 (by decide) (by decide), ht 10 (by decide) (by decide), ht 11 (by decide) (by decide),
    hg 0 (by decide) (by decide), hg 3 (by decide) (by decide), hg 4 (by decide) (by decide), hg 5 (by decide) (by decide), hg 6 (by decide) (by decide), hg 7 (by decide) (by decide), hg 8 (by decide) (by decide), hg 9 (by decide) (by decide), hg 10 (by decide) (by decide), hg 11 (by decide) (by decide)]
  exact h
theorem LX.mv (h : LX T G I k x) : ∀ {U : Int → Int → Prop}, (∀ a b, I a b → U a b) → (∀ a b, I a b → (∀ c, T' c a = T c a) ∧ ∀ c, G' c b = G c b) → LX T' G' U k x := by
  refine h.ind (P := fun I k x => ∀ {U : Int → Int → Prop}, (∀ a b, I a b → U a b) → (∀ a b, I a b → (∀ c, T' c a = T c a) ∧ ∀ c, G' c b = G c b) → LX T' G' U k x) ?_ ?_
  · intro I U _ _; exact .nil
  · intro I k x hi hr hm hn ih1 ih2 U hU hA
    have e := hA k x hi
    refine .cons (hU _ _ hi) (hr.cg (fun c _ _ => e.1 c) (fun c _ _ => e.2 c)) ?_ ?_
    · rw [e.1 1, e.2 1]
      exact ih1 (fun a b z => ⟨hU a b z.1, z.2⟩) (fun a b z => hA a b z.1)
    · rw [e.1 2, e.2 2]
      exact ih2 hU hA
theorem TNd.mv (h : TNd T G I k x) (hU : ∀ a b, I a b → U a b) (hA : ∀ a b, I a b → a ≠ k → b ≠ x → (∀ c, T' c a = T c a) ∧ ∀ c, G' c b = G c b) (ht : T' 1 k = T 1 k) (hg : G' 1 x = G 1 x) (hr : RX T' G' k x) : TNd T' G' U k x := by
  refine ⟨hU _ _ h.1, hr, ?_⟩
  rw [ht, hg]
  exact h.2.2.mv (fun a b z => ⟨hU a b z.1, z.2⟩) (fun a b z => hA a b z.1 z.2.1 z.2.2)
/-- all but the link to the next one is as it was -/
theorem TNd.nx (h : TNd T G I k x) (hU : ∀ a b, I a b → U a b) (hA : ∀ a b, I a b → (∀ c, ¬ (c = 2 ∧ a = k) → T' c a = T c a) ∧ ∀ c, ¬ (c = 2 ∧ b = x) → G' c b = G c b) : TNd T' G' U k x := by
  have e := hA k x h.1
  exact h.mv hU (fun a b z za zb => ⟨fun c => (hA a b z).1 c (fun q => za q.2), fun c => (hA a b z).2 c (fun q => zb q.2)⟩) (e.1 1 (by omega)) (e.2 1 (by omega)) (h.2.1.cg (fun c _ c2 => e.1 c (fun q => c2 q.1)) (fun c _ c2 => e.2 c (fun q => c2 q.1)))
theorem SX'.lst (h : SX' T G I f x l z) : I l z :=
  h.ind (P := fun I _ _ l z => I l z) (fun I k x h => h.1) (fun I J U f x l z v y h h1 h2 h3 h4 h5 h6 _ => h5 _ _ h3.1)
theorem SX'.fst (h : SX' T G I f x l z) : I f x :=
  h.ind (P := fun I f x _ _ => I f x) (fun I k x h => h.1) (fun I J U f x l z v y h h1 h2 h3 h4 h5 h6 ih => h4 _ _ ih)
theorem SX'.mv (h : SX' T G I f x l z) : ∀ {U : Int → Int → Prop}, (∀ a b, I a b → U a b) → (∀ a b, I a b → (∀ c, ¬ (c = 2 ∧ a = l) → T' c a = T c a) ∧ ∀ c, ¬ (c = 2 ∧ b = z) → G' c b = G c b) → SX' T' G' U f x l z := by
  refine h.ind (P := fun I f x l z => ∀ {U : Int → Int → Prop}, (∀ a b, I a b → U a b) → (∀ a b, I a b → (∀ c, ¬ (c = 2 ∧ a = l) → T' c a = T c a) ∧ ∀ c, ¬ (c = 2 ∧ b = z) → G' c b = G c b) → SX' T' G' U f x l z) ?_ ?_
  · intro I k x h U hU hA; exact .one (h.nx hU hA)
  · intro I J U f x l z v y h h1 h2 h3 h4 h5 h6 ih W hU hA
    have hin := h.lst
    have hd : ∀ a b, I a b → a ≠ v ∧ b ≠ y := fun a b q => h6 a b v y q h3.1
    refine .snoc (I := I) (J := J) (ih (fun _ _ q => q) (fun a b q => ⟨fun c _ => (hA a b (h4 a b q)).1 c (fun p => (hd a b q).1 p.2), fun c _ => (hA a b (h4 a b q)).2 c (fun p => (hd a b q).2 p.2)⟩)) ?_ ?_ (h3.nx (fun _ _ q => q) (fun a b q => hA a b (h5 a b q))) (fun a b q => hU a b (h4 a b q)) (fun a b q => hU a b (h5 a b q)) h6
    · rw [(hA l z (h4 _ _ hin)).1 2 (fun p => (hd l z hin).1 p.2)]; exact h1
    · rw [(hA l z (h4 _ _ hin)).2 2 (fun p => (hd l z hin).2 p.2)]; exact h2
/-- one more -/
theorem SX'.app (h : SX' T G I f x l z) (hA : ∀ a b, I a b → (∀ c, ¬ (c = 2 ∧ a = l) → T' c a = T c a) ∧ ∀ c, ¬ (c = 2 ∧ b = z) → G' c b = G c b) (h1 : T' 2 l = v) (h2 : G' 2 z = y) (h3 : TNd T' G' J v y) (h4 : ∀ a b, I a b → U a b) (h5 : ∀ a b, J a b → U a b) (h6 : ∀ a b a' b', I a b → J a' b' → a ≠ a' ∧ b ≠ b') : SX' T' G' U f x v y :=
  .snoc (I := I) (J := J) (h.mv (fun _ _ q => q) hA) h1 h2 h3 h4 h5 h6
theorem SX'.lx (h : SX' T G I f x l z) : ∀ {U : Int → Int → Prop}, (∀ a b, I a b → U a b) → LX T G U (T 2 l) (G 2 z) → LX T G U f x := by
  refine h.ind (P := fun I f x l z => ∀ {U : Int → Int → Prop}, (∀ a b, I a b → U a b) → LX T G U (T 2 l) (G 2 z) → LX T G U f x) ?_ ?_
  · intro I k x h U hU hn
    exact .cons (hU _ _ h.1) h.2.1 (h.2.2.mv (fun a b q => ⟨hU a b q.1, q.2⟩) (fun a b q => ⟨fun _ => rfl, fun _ => rfl⟩)) hn
  · intro I J U f x l z v y h h1 h2 h3 h4 h5 h6 ih W hU hn
    refine ih (fun a b q => hU a b (h4 a b q)) ?_
    rw [h1, h2]
    exact .cons (hU _ _ (h5 _ _ h3.1)) h3.2.1 (h3.2.2.mv (fun a b q => ⟨hU a b (h5 a b q.1), q.2⟩) (fun a b q => ⟨fun _ => rfl, fun _ => rfl⟩)) hn
theorem SX'.end (h : SX' T G I f x l z) (h1 : T 2 l = -1) (h2 : G 2 z = -1) : LX T G I f x := h.lx (fun _ _ q => q) (by rw [h1, h2]; exact .nil)
theorem TNd.lx (h : TNd T G I k x) (h1 : T 2 k = -1) (h2 : G 2 x = -1) : LX T G I k x := (SX'.one h).end h1 h2
end LXS
/-- abstract nodes k0 .. k1 - 1, X's nodes n0 .. n1 - 1 without n -/
def RG (k0 k1 n0 n1 n : Int) : Int → Int → Prop := fun a b => (k0 ≤ a ∧ a < k1) ∧ (n0 ≤ b ∧ b < n1) ∧ b ≠ n
/-- what a part of the reading leaves: a node y of X's for the abstract node v -/
def XP (G G' : TB) (N N' : Int) (s s' : PS) (v y : Int) : Prop := N' = N + (s'.nc - s.nc) ∧ (∀ c b, b < N → G' c b = G c b) ∧ TNd s'.T G' (RG s.nc s'.nc N N' (-1)) v y ∧ s'.T 2 v = -1 ∧ G' 2 y = -1
/-- a chain under way: f .. l, X's x .. z; X's node n for all of it, or none yet -/
def XL (G G1 : TB) (N N1 : Int) (s s1 : PS) (f l x z n kd fr : Int) : Prop := N1 = N + (s1.nc - s.nc) + (if n = -1 then 0 else 1) ∧ (∀ c b, b < N → G1 c b = G c b) ∧ SX' s1.T G1 (RG s.nc s1.nc N N1 n) f x l z ∧ s1.T 2 l = -1 ∧ G1 2 z = -1 ∧
  (n ≠ -1 → (N ≤ n ∧ n < N1) ∧ G1 0 n = kd ∧ G1 1 n = x ∧ G1 2 n = -1 ∧ G1 3 n = 0 ∧ G1 4 n = 1 ∧ G1 5 n = 0 ∧ G1 8 n = fr)
section XPS
variable {G G1 G2 G3 : TB} {N N1 N2 : Int} {s s1 s2 : PS} {f l x z n kd fr v y p w : Int}
theorem up_off {c c' : Nat} {k m u : Int} (h : ¬ (c' = c ∧ k = m)) : (s.up c m u).T c' k = s.T c' k := if_neg h
theorem up_on {c : Nat} {m u : Int} : (s.up c m u).T c m = u := if_pos ⟨rfl, rfl⟩
theorem ad_off {g : Nat → Int} {c : Nat} {k : Int} (h : k ≠ s.nc) : (s.ad p g).T c k = s.T c k := if_neg h
theorem ad_on {g : Nat → Int} {c : Nat} : (s.ad p g).T c s.nc = g c := if_pos rfl
theorem XP.b (h : XP G G1 N N1 s s1 v y) : (s.nc ≤ v ∧ v < s1.nc) ∧ N ≤ y ∧ y < N1 := ⟨h.2.2.1.1.1, h.2.2.1.1.2.1⟩
theorem XL.b (h : XL G G1 N N1 s s1 f l x z n kd fr) : (s.nc ≤ f ∧ f < s1.nc) ∧ (s.nc ≤ l ∧ l < s1.nc) ∧ (N ≤ x ∧ x < N1) ∧ (N ≤ z ∧ z < N1) ∧ x ≠ n ∧ z ≠ n :=
  ⟨h.2.2.1.fst.1, h.2.2.1.lst.1, h.2.2.1.fst.2.1, h.2.2.1.lst.2.1, h.2.2.1.fst.2.2, h.2.2.1.lst.2.2⟩
theorem XL.start (h : XP G G1 N N1 s s1 v y) : XL G G1 N N1 s s1 v v y y (-1) kd fr := by
  obtain ⟨h1, h2, h3, h4, h5⟩ := h
  exact ⟨by rw [if_pos rfl]; omega, h2, .one h3, h4, h5, fun z => absurd rfl z⟩
theorem XL.alloc (h : XL G G1 N N1 s s1 f l x z (-1) kd fr) (h0 : 0 ≤ N) (ho : ∀ c b, b ≠ N1 → G2 c b = G1 c b) (hr : G2 0 N1 = kd ∧ G2 1 N1 = x ∧ G2 2 N1 = -1 ∧ G2 3 N1 = 0 ∧ G2 4 N1 = 1 ∧ G2 5 N1 = 0 ∧ G2 8 N1 = fr) : XL G G2 N (N1 + 1) s s1 f l x z N1 kd fr := by
  have hb := h.b
  obtain ⟨h1, h2, h3, h4, h5, h6⟩ := h
  rw [if_pos rfl] at h1
  refine ⟨by rw [if_neg (by omega)]; omega, fun c b q => (ho c b (by omega)).trans (h2 c b q), ?_, h4, (ho 2 z (by omega)).trans h5, fun _ => ⟨by omega, hr⟩⟩
  exact h3.mv (fun a b q => ⟨q.1, ⟨q.2.1.1, by have := q.2.1.2; omega⟩, by have := q.2.1.2; omega⟩) (fun a b q => ⟨fun _ _ => rfl, fun c _ => ho c b (by have := q.2.1.2; omega)⟩)
theorem XL.app (h : XL G G1 N N1 s s1 f l x z n kd fr) (h0 : 0 ≤ N) (hold : ∀ c k, k < s1.nc → s2.T c k = s1.T c k) (hp : XP G1 G2 N1 N2 (s1.to p) s2 v y) (hw : ∀ c b, ¬ (c = 2 ∧ b = z) → G3 c b = G2 c b) (hz : G3 2 z = y) : XL G G3 N N2 s (s2.up 2 l v) f v x y n kd fr := by
  have hb := h.b
  have hpb : (s1.nc ≤ v ∧ v < s2.nc) ∧ N1 ≤ y ∧ y < N2 := hp.b
  obtain ⟨h1, h2, h3, h4, h5, h6⟩ := h
  obtain ⟨p1, p2, p3, p4, p5⟩ := hp
  have p1 : N2 = N1 + (s2.nc - s1.nc) := p1
  have hn : n < N1 ∧ (n = -1 ∨ N ≤ n) := by
    by_cases q : n = -1
    · exact ⟨by omega, Or.inl q⟩
    · have := (h6 q).1; exact ⟨this.2, Or.inr this.1⟩
  have nc' : (s2.up 2 l v).nc = s2.nc := rfl
  refine ⟨by rw [nc']; omega, fun c b q => ?_, ?_, ?_, ?_, fun q => ?_⟩
  · rw [hw c b (by omega), p2 c b (by omega)]; exact h2 c b q
  · rw [nc']
    refine h3.app (J := RG s1.nc s2.nc N1 N2 (-1)) (fun a b q => ⟨fun c hc => ?_, fun c hc => ?_⟩) up_on hz (p3.mv (fun _ _ q => q) (fun a b q _ _ => ⟨fun c => up_off (by have := q.1.1; have : s1.nc ≤ a := this; omega), fun c => hw c b (by have := q.2.1.1; omega)⟩) (up_off (by omega)) (hw 1 y (by omega)) (p3.2.1.cg (fun c _ c2 => up_off (fun q => c2 q.1)) (fun c _ c2 => hw c y (fun q => c2 q.1)))) (fun a b q => ⟨⟨q.1.1, by have := q.1.2; omega⟩, ⟨q.2.1.1, by have := q.2.1.2; omega⟩, q.2.2⟩) (fun a b q => ⟨⟨by have := q.1.1; omega, q.1.2⟩, ⟨by have := q.2.1.1; omega, q.2.1.2⟩, by have := q.2.1.1; omega⟩) (fun a b a' b' q q' => ⟨by have := q.1.2; have := q'.1.1; omega, by have := q.2.1.2; have := q'.2.1.1; omega⟩)
    · rw [up_off hc]; exact hold c a q.1.2
    · rw [hw c b hc]; exact p2 c b q.2.1.2
  · rw [up_off (by omega)]; exact p4
  · rw [hw 2 y (by omega)]; exact p5
  · obtain ⟨q0, q1⟩ := h6 q
    have e : ∀ c, G3 c n = G1 c n := fun c => by rw [hw c n (by omega)]; exact p2 c n q0.2
    rw [e, e, e, e, e, e, e]
    exact ⟨by omega, q1⟩
theorem SX'.sng {T : TB} {I : Int → Int → Prop} (h : SX' T G I f x l z) (hf : f = l) : TNd T G I f x ∧ x = z :=
  h.ind (P := fun I f x l z => f = l → TNd T G I f x ∧ x = z) (fun I k x h _ => ⟨h, rfl⟩) (fun I J U f x l z v y h h1 h2 h3 h4 h5 h6 _ hf => absurd hf (h6 _ _ _ _ h.fst h3.1).1) hf
theorem XL.fin0 (h : XL G G1 N N1 s s1 f l x z (-1) kd fr) (hf : f = l) : XP G G1 N N1 s s1 f x := by
  obtain ⟨h1, h2, h3, h4, h5, h6⟩ := h
  obtain ⟨a, b⟩ := h3.sng hf
  rw [if_pos rfl] at h1
  exact ⟨by omega, h2, a, by rw [hf]; exact h4, by rw [b]; exact h5⟩
theorem XL.fin (h : XL G G1 N N1 s s1 f l x z n kd fr) (hn : n ≠ -1) (h0 : 0 ≤ N) (hk : 0 ≤ kd ∧ kd ≤ 5) (hfr : kd = 3 ∨ fr = 0) : XP G G1 N N1 s (s1.ad p (rowN kd f fr)) s1.nc n := by
  have hb := h.b
  obtain ⟨h1, h2, h3, h4, h5, h6⟩ := h
  obtain ⟨q0, r0, r1, r2, r3, r4, r5, r8⟩ := h6 hn
  rw [if_neg hn] at h1
  have nc' : (s1.ad p (rowN kd f fr)).nc = s1.nc + 1 := rfl
  refine ⟨by rw [nc']; omega, h2, ⟨⟨⟨by omega, by rw [nc']; omega⟩, q0, hn⟩, ?_, ?_⟩, ad_on, r2⟩
  · unfold RX
    rw [ad_on, ad_on, ad_on, ad_on, ad_on, ad_on, ad_on, ad_on, ad_on, ad_on, r0, r3, r4, r5, r8]
    refine ⟨rfl, rfl, rfl, rfl, ?_, fun q => ?_, fun q => ?_, fun q => ?_⟩
    · show fr = if kd = 3 then fr else 0
      split <;> omega
    · exfalso; have q : lfk kd := q; unfold lfk at q; omega
    · exfalso; have q : kd = 9 ∨ kd = 10 := q; omega
    · exfalso; have q : kd = 10 := q; omega
  · rw [ad_on, r1]
    refine (h3.end h4 h5).mv (fun a b q => ⟨⟨⟨q.1.1, by rw [nc']; have := q.1.2; omega⟩, q.2.1, by have := q.2.1.1; omega⟩, by have := q.1.2; omega, q.2.2⟩) (fun a b q => ⟨fun c => ad_off (by have := q.1.2; omega), fun _ => rfl⟩)
/-- X's node n was made before the first one -/
theorem XL.head (hp : XP G1 G2 (N + 1) N2 s1 s2 v y) (hs : s1.nc = s.nc) (h0 : 0 ≤ N) (ho : ∀ c b, b ≠ N → G1 c b = G c b) (hw : ∀ c b, ¬ (c = 1 ∧ b = N) → G3 c b = G2 c b) (h1 : G3 1 N = y) (hr : G1 0 N = kd ∧ G1 2 N = -1 ∧ G1 3 N = 0 ∧ G1 4 N = 1 ∧ G1 5 N = 0 ∧ G1 8 N = fr) : XL G G3 N N2 s s2 v v y y N kd fr := by
  have hb := hp.b
  obtain ⟨p1, p2, p3, p4, p5⟩ := hp
  have e : ∀ c, c ≠ 1 → G3 c N = G1 c N := fun c hc => by rw [hw c N (fun q => hc q.1)]; exact p2 c N (by omega)
  refine ⟨by rw [if_neg (by omega)]; omega, fun c b q => ?_, .one (p3.mv (fun a b q => ⟨⟨by have := q.1.1; omega, q.1.2⟩, ⟨by have := q.2.1.1; omega, q.2.1.2⟩, by have := q.2.1.1; omega⟩) (fun a b q _ _ => ⟨fun _ => rfl, fun c => hw c b (by have := q.2.1.1; omega)⟩) rfl (hw 1 y (by omega)) (p3.2.1.cg (fun _ _ _ => rfl) (fun c c1 _ => hw c y (fun q => c1 q.1)))), p4, (hw 2 y (by omega)).trans p5, fun _ => ⟨by omega, ?_⟩⟩
  · rw [hw c b (by omega), p2 c b (by omega)]; exact ho c b (by omega)
  · rw [e 0 (by decide), e 2 (by decide), e 3 (by decide), e 4 (by decide), e 5 (by decide), e 8 (by decide)]
    exact ⟨hr.1, h1, hr.2⟩
theorem XP.top {c : Nat} (h : XP G G1 N N1 s s1 v y) (hc : c = 3 ∨ c = 4) (hw : ∀ c' b, ¬ (c' = c ∧ b = y) → G2 c' b = G1 c' b) (h1 : G2 c y = w) : XP G G2 N N1 s (s1.up c v w) v y := by
  have hb := h.b
  obtain ⟨p1, p2, p3, p4, p5⟩ := h
  refine ⟨p1, fun c' b q => ?_, p3.mv (fun _ _ q => q) (fun a b q qa qb => ⟨fun c' => up_off (fun r => qa r.2), fun c' => hw c' b (fun r => qb r.2)⟩) (up_off (by omega)) (hw 1 y (by omega)) ?_, ?_, ?_⟩
  · rw [hw c' b (by omega)]; exact p2 c' b q
  · have o : ∀ c', c' ≠ c → (s1.up c v w).T c' v = s1.T c' v := fun c' r => up_off (fun q => r q.1)
    have g : ∀ c', c' ≠ c → G2 c' y = G1 c' y := fun c' r => hw c' y (fun q => r q.1)
    have r := p3.2.1
    unfold RX at r ⊢
    rw [o 0 (by omega), o 5 (by omega), o 6 (by omega), o 7 (by omega), o 8 (by omega), o 9 (by omega), o 10 (by omega), o 11 (by omega), g 0 (by omega), g 5 (by omega), g 6 (by omega), g 7 (by omega), g 8 (by omega), g 9 (by omega), g 10 (by omega), g 11 (by omega)]
    refine ⟨r.1, ?_, ?_, r.2.2.2⟩
    · rcases hc with rfl | rfl
      · rw [h1]; exact up_on.symm
      · rw [o 3 (by decide), g 3 (by decide)]; exact r.2.1
    · rcases hc with rfl | rfl
      · rw [o 4 (by decide), g 4 (by decide)]; exact r.2.2.1
      · rw [h1]; exact up_on.symm
  · rw [up_off (by omega)]; exact p4
  · rw [hw 2 y (by omega)]; exact p5
theorem XP.new {g : Nat → Int} (h0 : 0 ≤ N) (hs : s1.nc = s.nc) (ho : ∀ c b, b ≠ N → G1 c b = G c b) (hr : RX (s1.ad p g).T G1 s1.nc N) (g1 : g 1 = -1) (g2 : g 2 = -1) (r1 : G1 1 N = -1) (r2 : G1 2 N = -1) : XP G G1 N (N + 1) s (s1.ad p g) s1.nc N := by
  have nc' : (s1.ad p g).nc = s1.nc + 1 := rfl
  refine ⟨by rw [nc']; omega, fun c b q => ho c b (by omega), ⟨⟨⟨by omega, by rw [nc']; omega⟩, ⟨by omega, by omega⟩, by omega⟩, hr, ?_⟩, by rw [ad_on]; exact g2, r2⟩
  rw [ad_on, g1, r1]; exact .nil
theorem up_cm {c c' : Nat} {a b : Int} (h : c ≠ c') : (s.up c v a).up c' v b = (s.up c' v b).up c v a := by
  unfold PS.up
  have e : (fun (d : Nat) (k : Int) => if d = c' ∧ k = v then b else if d = c ∧ k = v then a else s.T d k) = (fun (d : Nat) (k : Int) => if d = c ∧ k = v then a else if d = c' ∧ k = v then b else s.T d k) := by
    funext d k
    by_cases q : d = c ∧ k = v
    · rw [if_neg (fun r => h (q.1.symm.trans r.1)), if_pos q, if_pos q]
    · rw [if_neg q, if_neg q]
  exact congrArg (fun q => ((s.p, s.on, s.nc, q) : PS)) e
end XPS
end
section
/-! contracts: printed by tools/mk.py out of s49b_rdX.py -/
set_option maxRecDepth 100000
set_option maxHeartbeats 1500000
/-- what the reader writes -/
def wsX (c : Nat) (i : Int) : Prop := (67 ≤ c ∧ c ≤ 78) ∨ (c = 80 ∧ i = 1) ∨ (c = 65 ∧ (i = 2 ∨ i = 3))
abbrev KX (σ τ : Sto) : Prop := Ch wsX σ τ
theorem KX_rf {σ : Sto} : KX σ σ := Ch.rf
theorem KX_w {σ τ : Sto} {a : Nat} {i v : Int} (e : τ = σ.wI a i v) (h : wsX a i) : KX σ τ := by subst e; exact Ch.wI Ch.rf h
theorem KX_rd {σ τ : Sto} {F : Nat → Int → Int} (r : τ.R = σ.R) (s : τ.sh = σ.sh) (n : τ.n = σ.n) (e : τ.I = F) (h : ∀ c i, ¬ wsX c i → F c i = σ.I c i) : KX σ τ := ⟨⟨r, s, n⟩, fun c i q => by rw [e]; exact h c i q⟩
theorem kx_16 {σ τ : Sto} (h : KX σ τ) : τ.I 16 = σ.I 16 := funext fun i => h.2 16 i (by unfold wsX; omega)
theorem kx_66 {σ τ : Sto} (h : KX σ τ) : τ.I 66 = σ.I 66 := funext fun i => h.2 66 i (by unfold wsX; omega)
def eX (σ : Sto) : PE := ⟨σ.I 66, σ.I 80 2, σ.I 16, σ.I 0 9⟩
theorem eX_k {σ τ : Sto} (h : KX σ τ) : eX τ = eX σ := by
  unfold eX
  rw [kx_66 h, kx_16 h, h.2 80 2 (by unfold wsX; omega), h.2 0 9 (by unfold wsX; omega)]
theorem eX_B {σ : Sto} (k : Int) : (eX σ).B k = σ.I 66 k := rfl
theorem eX_n {σ : Sto} : (eX σ).n = σ.I 80 2 := rfl
theorem eX_K {σ : Sto} (k : Int) : (eX σ).K k = σ.I 16 k := rfl
theorem eX_f {σ : Sto} : (eX σ).f = σ.I 0 9 := rfl
/-- the reader at work -/
def SRD (σ : Sto) : Prop := σ.R 80 0 = some 65 ∧ (0 ≤ σ.I 80 2 ∧ σ.I 80 2 ≤ 400) ∧ (0 ≤ σ.I 0 9 ∧ σ.I 0 9 ≤ 12) ∧ σ.n + 1 ≤ NC ∧ ssum σ + 7 ≤ NS
theorem ssum_k {σ τ : Sto} (h : τ.sh = σ.sh) (n : τ.n = σ.n) : ssum τ = ssum σ := by unfold ssum; rw [h, n]
theorem SRD_k {σ τ : Sto} (h : KX σ τ) (g : SRD σ) : SRD τ := by
  unfold SRD
  rw [h.1.1, h.1.2.2, ssum_k h.1.2.1 h.1.2.2, h.2 80 2 (by unfold wsX; omega), h.2 0 9 (by unfold wsX; omega)]; exact g
/-- a Fault thrown -/
def FT (σ τ : Sto) (a : Nat) (c : Int) : Prop := ∃ ρ, KX σ ρ ∧ a = ρ.n ∧ τ = (ρ.al 112 7).wI a 0 c
theorem FT.tr {σ ρ τ : Sto} {a : Nat} {c : Int} (h : KX σ ρ) (g : FT ρ τ a c) : FT σ τ a c := by
  obtain ⟨ρ', g1, g2, g3⟩ := g
  exact ⟨ρ', Ch.tr h g1, g2, g3⟩

theorem sp_X4_wrong {E : XE} {d : Nat} {σ : Sto} {x1 : Int} (hd : 7 ≤ d) (hL : Lay σ)  (p0 : SRD σ) (p1 : -100 ≤ x1 ∧ x1 ≤ 1000) : CC E mX4_wrong d [aO 80, aI (x1)] σ (RVO (fun y τ => (FT σ τ y (-10 - x1)))) := by sorry
theorem sp_X4_peek {E : XE} {d : Nat} {σ : Sto}  (hd : 1 ≤ d) (hL : Lay σ)  (p0 : SRD σ) (p1 : 0 ≤ (σ.I 80 1)) : CC E mX4_peek d [aO 80] σ (RI σ (hc (eX σ) (σ.I 80 1))) := by sorry
theorem sp_X4_must {E : XE} {d : Nat} {σ : Sto} {x1 : Int} (hd : 8 ≤ d) (hL : Lay σ)  (p0 : SRD σ) (p1 : 0 ≤ (σ.I 80 1) ∧ (σ.I 80 1) ≤ σ.I 80 2) (p2 : inR x1) : CC E mX4_must d [aO 80, aI (x1)] σ (RTV (fun τ => (hc (eX σ) (σ.I 80 1) = x1) ∧ (RD σ τ (fun c i => if at2 c i 80 1 then (σ.I 80 1) + 1 else σ.I c i))) (fun a τ => (SF σ τ) ∧ (FT σ τ a (-10 - (σ.I 80 1))) ∧ (hc (eX σ) (σ.I 80 1) ≠ x1))) := by sorry
theorem sp_X4_isDigit {E : XE} {d : Nat} {σ : Sto} {x1 : Int} (hd : 1 ≤ d) (hL : Lay σ)  (p0 : inR x1) : CC E mX4_isDigit d [aO 80, aI (x1)] σ (RZ σ (dg x1)) := by sorry
theorem sp_X4_digit {E : XE} {d : Nat} {σ : Sto} {x1 : Int} {x2 : Int} (hd : 8 ≤ d) (hL : Lay σ)  (p0 : SRD σ) (p1 : 0 ≤ (σ.I 80 1) ∧ (σ.I 80 1) ≤ σ.I 80 2) (p2 : 0 ≤ x1 ∧ x1 ≤ 9) (p3 : 0 ≤ x2 ∧ x2 ≤ 9) : CC E mX4_digit d [aO 80, aI (x1), aI (x2)] σ (RTI (fun y τ => (48 + x1 ≤ hc (eX σ) (σ.I 80 1) ∧ hc (eX σ) (σ.I 80 1) ≤ 48 + x2) ∧ (y = hc (eX σ) (σ.I 80 1) - 48) ∧ (RD σ τ (fun c i => if at2 c i 80 1 then (σ.I 80 1) + 1 else σ.I c i))) (fun a τ => (SF σ τ) ∧ (FT σ τ a (-10 - (σ.I 80 1))) ∧ (¬ (48 + x1 ≤ hc (eX σ) (σ.I 80 1) ∧ hc (eX σ) (σ.I 80 1) ≤ 48 + x2)))) := by sorry
theorem sp_X4_node {E : XE} {d : Nat} {σ : Sto} {x1 : Int} (hd : 1 ≤ d) (hL : Lay σ)  (p0 : SRD σ) (p1 : 0 ≤ σ.I 65 2 ∧ σ.I 65 2 < 200) (p2 : inR x1) : CC E mX4_node d [aO 80, aI (x1)] σ (RVI (fun y τ => (y = σ.I 65 2) ∧ (RD σ τ (fun c i => if at2 c i 67 (σ.I 65 2) then x1 else if at2 c i 68 (σ.I 65 2) then -1 else if at2 c i 69 (σ.I 65 2) then -1 else if at2 c i 70 (σ.I 65 2) then 0 else if at2 c i 71 (σ.I 65 2) then 1 else if at2 c i 72 (σ.I 65 2) then 0 else if at2 c i 75 (σ.I 65 2) then 0 else if at2 c i 65 2 then σ.I 65 2 + 1 else σ.I c i)))) := by sorry
theorem sp_X4_isPatternByte {E : XE} {d : Nat} {σ : Sto} {x1 : Int} (hd : 2 ≤ d) (hL : Lay σ)  (p0 : SRD σ) (p1 : 0 ≤ x1 ∧ x1 ≤ 1000) : CC E mX4_isPatternByte d [aO 80, aI (x1)] σ (RZ σ (ptb (hc (eX σ) x1))) := by sorry
theorem sp_X4_field {E : XE} {d : Nat} {σ : Sto}  (hd : 2 ≤ d) (hL : Lay σ)  (p0 : SRD σ) (p1 : 0 ≤ (σ.I 80 1) ∧ (σ.I 80 1) ≤ σ.I 80 2) : CC E mX4_field d [aO 80] σ (RVI (fun y τ => (y = fhF (eX σ) (σ.I 80 1)) ∧ (RD σ τ (fun c i => if at2 c i 80 1 then fhP (eX σ) (σ.I 80 1) else σ.I c i)))) := by sorry
def FTR {A : Type} (σ τ : Sto) (a : Nat) (r : Int ⊕ A) : Prop := ∃ c, r = .inl c ∧ FT σ τ a c

theorem sp_X4_value {E : XE} {d : Nat} {σ : Sto} {x1 : Int} (hd : 8 ≤ d) (hL : Lay σ)  (p0 : SRD σ) (p1 : 0 ≤ (σ.I 80 1) ∧ (σ.I 80 1) ≤ σ.I 80 2) (p2 : x1 = 9 ∨ x1 = 18) : CC E mX4_value d [aO 80, aI (x1)] σ (RTL (fun y τ => (vR (eX σ) x1 (σ.I 80 1) = .inr (y, τ.I 80 1)) ∧ (0 ≤ τ.I 80 1 ∧ τ.I 80 1 ≤ σ.I 80 2) ∧ (x1 = 9 → -1000000000 ≤ y ∧ y ≤ 1000000000) ∧ (hc (eX σ) (σ.I 80 1) ≠ 45 → 0 ≤ y) ∧ (RD σ τ (fun c i => if at2 c i 80 1 then τ.I c i else σ.I c i))) (fun a τ => (SF σ τ) ∧ (FTR σ τ a (vR (eX σ) x1 (σ.I 80 1))))) := by sorry
end
section
/-! contracts: printed by tools/mk.py out of s49ba_tab.py -/
set_option maxRecDepth 100000
set_option maxHeartbeats 1500000
/-- X's columns -/
def XG (σ : Sto) : TB := fun c x => if c < 12 then σ.I (67 + c) x else 0
theorem XG_at {σ : Sto} {c : Nat} {x : Int} (h : c < 12) : XG σ c x = σ.I (67 + c) x := if_pos h
/-- X's node made for a leaf -/
def LFX (σ τ : Sto) (r : Int ⊕ LD) (f : Int) : Prop := ∃ l, r = .inr l ∧ τ.I 80 1 = l.p ∧ (∀ (T : TB) (k : Int), (∀ c, T c k = rowL l f c) → RX T (XG τ) k (σ.I 65 2)) ∧ XG τ 1 (σ.I 65 2) = -1 ∧ XG τ 2 (σ.I 65 2) = -1 ∧ (∀ c b, b ≠ σ.I 65 2 → XG τ c b = XG σ c b)
end
section
/-! contracts: printed by tools/mk.py out of s49c_rdL.py -/
set_option maxRecDepth 100000
set_option maxHeartbeats 1500000
/-- X's node n filled with a leaf -/
def LWX (σ τ : Sto) (n : Int) (r : Int ⊕ LD) : Prop := ∃ l, r = .inr l ∧ τ.I 80 1 = l.p ∧ τ.I 67 n = l.kd ∧ τ.I 75 n = l.sl ∧ (lfk l.kd → τ.I 73 n = l.fr ∧ τ.I 74 n = l.to) ∧ (l.kd = 9 ∨ l.kd = 10 → τ.I 76 n = l.lo ∧ τ.I 77 n = l.hi) ∧ (l.kd = 10 → τ.I 78 n = l.rd)

theorem sp_X4_circle {E : XE} {d : Nat} {σ : Sto} {x1 : Int} (hd : 9 ≤ d) (hL : Lay σ)  (p0 : SRD σ) (p1 : 0 ≤ (σ.I 80 1) ∧ (σ.I 80 1) < σ.I 80 2) (p2 : 0 ≤ x1 ∧ x1 < 200) (p3 : σ.I 75 x1 = 0) : CC E mX4_circle d [aO 80, aI (x1)] σ (RTV (fun τ => (LWX σ τ x1 (nrR (eX σ) (σ.I 80 1))) ∧ (RD σ τ (fun c i => if at2 c i 80 1 then τ.I c i else if at2 c i 67 x1 then τ.I c i else if at2 c i 73 x1 then τ.I c i else if at2 c i 74 x1 then τ.I c i else if at2 c i 75 x1 then τ.I c i else if at2 c i 76 x1 then τ.I c i else if at2 c i 77 x1 then τ.I c i else if at2 c i 78 x1 then τ.I c i else σ.I c i)) ∧ (KX σ τ)) (fun a τ => (SF σ τ) ∧ (FTR σ τ a (nrR (eX σ) (σ.I 80 1))))) := by sorry
theorem sp_X4_range {E : XE} {d : Nat} {σ : Sto} {x1 : Int} (hd : 9 ≤ d) (hL : Lay σ)  (p0 : SRD σ) (p1 : 0 ≤ (σ.I 80 1) ∧ (σ.I 80 1) < σ.I 80 2) (p2 : 0 ≤ x1 ∧ x1 < 200) (p3 : σ.I 75 x1 = 0) : CC E mX4_range d [aO 80, aI (x1)] σ (RTV (fun τ => (LWX σ τ x1 (rgR (eX σ) (σ.I 80 1))) ∧ (RD σ τ (fun c i => if at2 c i 80 1 then τ.I c i else if at2 c i 67 x1 then τ.I c i else if at2 c i 73 x1 then τ.I c i else if at2 c i 74 x1 then τ.I c i else if at2 c i 75 x1 then τ.I c i else if at2 c i 76 x1 then τ.I c i else if at2 c i 77 x1 then τ.I c i else if at2 c i 78 x1 then τ.I c i else σ.I c i)) ∧ (KX σ τ)) (fun a τ => (SF σ τ) ∧ (FTR σ τ a (rgR (eX σ) (σ.I 80 1))))) := by sorry
end
section
/-! contracts: printed by tools/mk.py out of s49d_rdQ.py -/
set_option maxRecDepth 100000
set_option maxHeartbeats 1500000
theorem sp_X4_quoted {E : XE} {d : Nat} {σ : Sto} {x1 : Int} {x2 : Int} (hd : 9 ≤ d) (hL : Lay σ)  (p0 : SRD σ) (p1 : 0 ≤ (σ.I 80 1) ∧ (σ.I 80 1) < σ.I 80 2) (p2 : 0 ≤ x1 ∧ x1 < 200) (p3 : σ.I 75 x1 = 0) (p4 : x2 = 0 ∨ x2 = 1) : CC E mX4_quoted d [aO 80, aI (x1), aI (x2)] σ (RTV (fun τ => (LWX σ τ x1 (qtR (eX σ) x2 (σ.I 80 1))) ∧ (RD σ τ (fun c i => if at2 c i 80 1 then τ.I c i else if at2 c i 67 x1 then τ.I c i else if at2 c i 73 x1 then τ.I c i else if at2 c i 74 x1 then τ.I c i else if at2 c i 75 x1 then τ.I c i else if at2 c i 76 x1 then τ.I c i else if at2 c i 77 x1 then τ.I c i else if at2 c i 78 x1 then τ.I c i else σ.I c i)) ∧ (KX σ τ)) (fun a τ => (SF σ τ) ∧ (FTR σ τ a (qtR (eX σ) x2 (σ.I 80 1))))) := by sorry
end
section
/-! contracts: printed by tools/mk.py out of s49dd_rdP.py -/
set_option maxRecDepth 100000
set_option maxHeartbeats 1500000
theorem or01 {x : Int} (h : x = 0 ∨ x = 1) : b32or x 1 = 1 ∧ b32or x 0 = x := by
  rcases h with rfl | rfl <;> decide

theorem sp_X4_pattern {E : XE} {d : Nat} {σ : Sto} {x1 : Int} {x2 : Int} (hd : 9 ≤ d) (hL : Lay σ)  (p0 : SRD σ) (p1 : 0 ≤ (σ.I 80 1) ∧ (σ.I 80 1) < σ.I 80 2) (p2 : 0 ≤ x1 ∧ x1 < 200) (p3 : σ.I 75 x1 = 0) (p4 : x2 = 0 ∨ x2 = 1) : CC E mX4_pattern d [aO 80, aI (x1), aI (x2)] σ (RTV (fun τ => (LWX σ τ x1 (ptR (eX σ) x2 (σ.I 80 1))) ∧ (RD σ τ (fun c i => if at2 c i 80 1 then τ.I c i else if at2 c i 67 x1 then τ.I c i else if at2 c i 73 x1 then τ.I c i else if at2 c i 74 x1 then τ.I c i else if at2 c i 75 x1 then τ.I c i else if at2 c i 76 x1 then τ.I c i else if at2 c i 77 x1 then τ.I c i else if at2 c i 78 x1 then τ.I c i else σ.I c i)) ∧ (KX σ τ)) (fun a τ => (SF σ τ) ∧ (FTR σ τ a (ptR (eX σ) x2 (σ.I 80 1))))) := by sorry
end
section
/-! contracts: printed by tools/mk.py out of s49e_rdF.py -/
set_option maxRecDepth 100000
set_option maxHeartbeats 1500000
/-- X's node made, not yet filled -/
def NDL (σ ρ : Sto) (f : Int) : Prop := (ρ.I 68 (σ.I 65 2) = -1 ∧ ρ.I 69 (σ.I 65 2) = -1 ∧ ρ.I 70 (σ.I 65 2) = 0 ∧ ρ.I 71 (σ.I 65 2) = 1 ∧ ρ.I 72 (σ.I 65 2) = f ∧ ρ.I 75 (σ.I 65 2) = 0) ∧ (∀ c b, 67 ≤ c → c ≤ 78 → b ≠ σ.I 65 2 → ρ.I c b = σ.I c b) ∧ ρ.I 80 1 = σ.I 80 1 ∧ ρ.I 65 2 = σ.I 65 2 + 1 ∧ ρ.I 65 3 = σ.I 65 3
theorem LFX_mk {σ ρ τ : Sto} {r : Int ⊕ LD} {f n : Int} (hn : n = σ.I 65 2) (h : NDL σ ρ f) (hk : ∀ l, r = .inr l → l.kd ≠ 3) (hw : LWX ρ τ n r) (e : τ.I = fun c i => if at2 c i 80 1 then τ.I c i else if at2 c i 67 n then τ.I c i else if at2 c i 73 n then τ.I c i else if at2 c i 74 n then τ.I c i else if at2 c i 75 n then τ.I c i else if at2 c i 76 n then τ.I c i else if at2 c i 77 n then τ.I c i else if at2 c i 78 n then τ.I c i else ρ.I c i) : LFX σ τ r f := by
  have old : ∀ c i, ¬ (c = 80 ∧ i = 1) → ¬ (i = n ∧ (c = 67 ∨ (73 ≤ c ∧ c ≤ 78))) → τ.I c i = ρ.I c i := fun c i h1 h2 => (congrFun (congrFun e c) i).trans ((if_neg h1).trans ((if_neg (fun z => h2 ⟨z.2, by have := z.1; omega⟩)).trans ((if_neg (fun z => h2 ⟨z.2, by have := z.1; omega⟩)).trans ((if_neg (fun z => h2 ⟨z.2, by have := z.1; omega⟩)).trans ((if_neg (fun z => h2 ⟨z.2, by have := z.1; omega⟩)).trans ((if_neg (fun z => h2 ⟨z.2, by have := z.1; omega⟩)).trans ((if_neg (fun z => h2 ⟨z.2, by have := z.1; omega⟩)).trans (if_neg (fun z => h2 ⟨z.2, by have := z.1; omega⟩)))))))))
  subst hn
  obtain ⟨⟨a1, a2, a3, a4, a5, a6⟩, ho, -⟩ := h
  obtain ⟨l, h1, h2, h3, h4, h5, h6, h7⟩ := hw
  have hk3 := hk l h1
  refine ⟨l, h1, h2, fun T k hT => ?_, ?_, ?_, fun c b hb => ?_⟩
  · unfold RX
    rw [hT, hT, hT, hT, hT, hT, hT, hT, hT, hT, XG_at (by decide), XG_at (by decide), XG_at (by decide), XG_at (by decide), XG_at (by decide), XG_at (by decide), XG_at (by decide), XG_at (by decide), XG_at (by decide), XG_at (by decide)]
    refine ⟨h3, (old 70 _ (by omega) (by omega)).trans a3, (old 71 _ (by omega) (by omega)).trans a4, (old 72 _ (by omega) (by omega)).trans a5, ?_, h5, h6, h7⟩
    show τ.I 75 _ = if l.kd = 3 then l.fr else l.sl
    rw [if_neg hk3]; exact h4
  · rw [XG_at (by decide)]; exact (old 68 _ (by omega) (by omega)).trans a1
  · rw [XG_at (by decide)]; exact (old 69 _ (by omega) (by omega)).trans a2
  · unfold XG
    by_cases q : c < 12
    · rw [if_pos q, if_pos q, old _ _ (by omega) (fun z => hb z.1)]
      exact ho _ _ (by omega) (by omega) hb
    · rw [if_neg q, if_neg q]

theorem kd_pt {e : PE} {kd p : Int} : ∀ l, ptR e kd p = .inr l → l.kd ≠ 3 := by
  intro l h
  unfold ptR at h
  split at h
  · cases h
  · split at h
    · cases h
    · split at h
      · cases h; show (11 : Int) ≠ 3; decide
      · split at h
        · split at h
          · cases h; show (12 : Int) ≠ 3; decide
          · cases h
        · cases h; show (if kd = 0 then (7 : Int) else 8) ≠ 3; split <;> decide
theorem kd_qt {e : PE} {kd p : Int} : ∀ l, qtR e kd p = .inr l → l.kd ≠ 3 := by
  intro l h
  unfold qtR at h
  split at h
  · cases h
  · split at h
    · split at h
      · cases h; show (7 : Int) ≠ 3; decide
      · cases h
    · cases h; show (if kd = 0 then (7 : Int) else 8) ≠ 3; split <;> decide
theorem kd_rg {e : PE} {p : Int} (h0 : 0 ≤ p) : ∀ l, rgR e p = .inr l → l.kd ≠ 3 := fun l h => by rw [(rgR_wf h h0).2.1]; decide
theorem kd_nr {e : PE} {p : Int} (h0 : 0 ≤ p) : ∀ l, nrR e p = .inr l → l.kd ≠ 3 := fun l h => by rw [(nrR_wf h h0).2.1]; decide

theorem sp_X4_leaf {E : XE} {d : Nat} {σ : Sto} {x1 : Int} (hd : 10 ≤ d) (hL : Lay σ)  (p0 : SRD σ) (p1 : 0 ≤ (σ.I 80 1) ∧ (σ.I 80 1) ≤ σ.I 80 2) (p2 : 0 ≤ σ.I 65 2 ∧ σ.I 65 2 < 200) (p3 : 0 ≤ x1 ∧ x1 ≤ 99) : CC E mX4_leaf d [aO 80, aI (x1)] σ (RTI (fun y τ => (y = σ.I 65 2) ∧ (τ.I 65 2 = σ.I 65 2 + 1 ∧ τ.I 65 3 = σ.I 65 3) ∧ (LFX σ τ (lfR (eX σ) x1 (σ.I 80 1)) x1) ∧ (KX σ τ)) (fun a τ => (SF σ τ) ∧ (FTR σ τ a (lfR (eX σ) x1 (σ.I 80 1))))) := by sorry
end
