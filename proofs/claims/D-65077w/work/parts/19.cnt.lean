/-! PLAIN LAW: words of the contracts -/
abbrev at2 (c : Nat) (i : Int) (a : Nat) (k : Int) : Prop := c = a ∧ i = k
/-- places lo .. hi - 1 of a cell -/
abbrev rg (c : Nat) (i : Int) (a : Nat) (lo hi : Int) : Prop := c = a ∧ lo ≤ i ∧ i < hi
/-- the store behind is told whole: its numbers are F -/
def RD (σ τ : Sto) (F : Nat → Int → Int) : Prop := (τ.R = σ.R ∧ τ.sh = σ.sh ∧ τ.n = σ.n) ∧ τ.I = F
theorem RD.sf {σ τ : Sto} {F : Nat → Int → Int} (h : RD σ τ F) : SF σ τ := ⟨fun a k b _ q => by rw [h.1.1]; exact q, fun a t z q _ => by rw [h.1.2.1]; exact q, by rw [h.1.2.2]; exact Nat.le_refl _⟩
theorem fI_wI (σ : Sto) (a : Nat) (i v : Int) : (σ.wI a i v).I = fun b j => if b = a ∧ j = i then v else σ.I b j := rfl
theorem fI_cp (σ : Sto) (a b : Nat) (i j z : Int) : (σ.cp a i b j z).I = fun c y => if c = b ∧ j ≤ y ∧ y < j + z then σ.I a (i + (y - j)) else σ.I c y := rfl
/-- a byte (0 .. 255) is a letter -/
def isLet (b : Int) : Prop := 97 ≤ b ∧ b ≤ 122 ∨ 65 ≤ b ∧ b ≤ 90 ∨ 48 ≤ b ∧ b ≤ 57 ∨ 127 < b
theorem zb_cs (c : Prop) : c ∧ zb c = 1 ∨ ¬ c ∧ zb c = 0 := by
  by_cases h : c
  · exact Or.inl ⟨h, zb_t h⟩
  · exact Or.inr ⟨h, zb_f h⟩
/-! how many below n -/
noncomputable def cnN (p : Int → Prop) : Nat → Int
  | 0 => 0
  | n + 1 => cnN p n + zb (p n)
noncomputable def cn (p : Int → Prop) (n : Int) : Int := cnN p n.toNat
theorem cn_0 (p : Int → Prop) (n : Int) (h : n ≤ 0) : cn p n = 0 := by
  unfold cn
  have : n.toNat = 0 := by omega
  rw [this]; rfl
theorem cn_s (p : Int → Prop) (n m : Int) (h : 0 ≤ n) (hm : m = n + 1) : cn p m = cn p n + zb (p n) := by
  unfold cn
  have e : m.toNat = n.toNat + 1 := by omega
  have e2 : ((n.toNat : Nat) : Int) = n := by omega
  rw [e]
  show cnN p n.toNat + zb (p (n.toNat : Nat)) = _
  rw [e2]
theorem cn_in (p : Int → Prop) (n : Int) : cn p n = 0 ∨ (0 < cn p n ∧ cn p n ≤ n) := by
  unfold cn
  have key : ∀ m : Nat, 0 ≤ cnN p m ∧ cnN p m ≤ m := by
    intro m
    induction m with
    | zero => exact ⟨Int.le_refl _, Int.le_refl _⟩
    | succ m ih =>
      have := zb_in (p m)
      show 0 ≤ cnN p m + zb (p m) ∧ cnN p m + zb (p m) ≤ _
      omega
  have := key n.toNat
  omega
theorem cn_cg {p q : Int → Prop} {n : Int} (h : ∀ k, 0 ≤ k → k < n → (p k ↔ q k)) : cn p n = cn q n := by
  unfold cn
  have key : ∀ m : Nat, (m : Int) ≤ n ∨ m = 0 → cnN p m = cnN q m := by
    intro m
    induction m with
    | zero => intro _; rfl
    | succ m ih =>
      intro hm
      show cnN p m + zb (p m) = cnN q m + zb (q m)
      rw [ih (Or.inl (by omega)), zb_iff (h m (by omega) (by omega))]
  exact key n.toNat (by omega)
/-! for all, for one below n -/
def alN (p : Int → Prop) (n : Int) : Prop := ∀ j, 0 ≤ j → j < n → p j
def exN (p : Int → Prop) (n : Int) : Prop := ∃ j, 0 ≤ j ∧ j < n ∧ p j
theorem alN_0 (p : Int → Prop) (n : Int) (h : n ≤ 0) : alN p n := fun j h1 h2 => by omega
theorem alN_s (p : Int → Prop) (n m : Int) (h : 0 ≤ n) (hm : m = n + 1) : alN p m ↔ (alN p n ∧ p n) := by
  constructor
  · intro q; exact ⟨fun j h1 h2 => q j h1 (by omega), q n h (by omega)⟩
  · rintro ⟨q1, q2⟩ j h1 h2
    by_cases e : j = n
    · subst e; exact q2
    · exact q1 j h1 (by omega)
theorem exN_0 (p : Int → Prop) (n : Int) (h : n ≤ 0) : ¬ exN p n := fun ⟨j, h1, h2, _⟩ => by omega
theorem exN_s (p : Int → Prop) (n m : Int) (h : 0 ≤ n) (hm : m = n + 1) : exN p m ↔ (exN p n ∨ p n) := by
  constructor
  · rintro ⟨j, h1, h2, h3⟩
    by_cases e : j = n
    · subst e; exact Or.inr h3
    · exact Or.inl ⟨j, h1, by omega, h3⟩
  · rintro (⟨j, h1, h2, h3⟩ | q)
    · exact ⟨j, h1, by omega, h3⟩
    · exact ⟨n, h, by omega, q⟩
theorem alN_cg {p q : Int → Prop} {n : Int} (h : ∀ k, 0 ≤ k → k < n → (p k ↔ q k)) : alN p n ↔ alN q n := ⟨fun a k h1 h2 => (h k h1 h2).mp (a k h1 h2), fun a k h1 h2 => (h k h1 h2).mpr (a k h1 h2)⟩
theorem exN_cg {p q : Int → Prop} {n : Int} (h : ∀ k, 0 ≤ k → k < n → (p k ↔ q k)) : exN p n ↔ exN q n := ⟨fun ⟨k, h1, h2, a⟩ => ⟨k, h1, h2, (h k h1 h2).mp a⟩, fun ⟨k, h1, h2, a⟩ => ⟨k, h1, h2, (h k h1 h2).mpr a⟩⟩
/-! how long the way up is -/
def dpN (P : Int → Int) : Nat → Int → Int
  | 0, _ => 0
  | f + 1, o => if o < 0 then 0 else 1 + dpN P f (P o)
def dp (P : Int → Int) (o : Int) : Int := dpN P (o + 1).toNat o
theorem dp_0 (P : Int → Int) (o : Int) (h : o < 0) : dp P o = 0 := by
  unfold dp
  have : (o + 1).toNat = 0 := by omega
  rw [this]; rfl
theorem dpN_cg {P : Int → Int} {n : Int} (hP : ∀ k, 0 ≤ k → k < n → P k < k) : ∀ (f g : Nat) (o : Int), o < n → o < f → o < g → dpN P f o = dpN P g o := by
  intro f
  induction f with
  | zero =>
    intro g o hn hf hg
    cases g with
    | zero => rfl
    | succ g => show 0 = if o < 0 then (0 : Int) else _; rw [if_pos (by omega)]
  | succ f ih =>
    intro g o hn hf hg
    cases g with
    | zero => show (if o < 0 then (0 : Int) else _) = 0; rw [if_pos (by omega)]
    | succ g =>
      show (if o < 0 then (0 : Int) else _) = if o < 0 then (0 : Int) else _
      by_cases h : o < 0
      · rw [if_pos h, if_pos h]
      · rw [if_neg h, if_neg h]
        have := hP o (by omega) hn
        rw [ih g (P o) (by omega) (by omega) (by omega)]
theorem dp_s {P : Int → Int} {n : Int} (hP : ∀ k, 0 ≤ k → k < n → P k < k) (o : Int) (h0 : 0 ≤ o) (h : o < n) : dp P o = 1 + dp P (P o) := by
  unfold dp
  have e : (o + 1).toNat = o.toNat + 1 := by omega
  have := hP o h0 h
  rw [e]
  show (if o < 0 then (0 : Int) else _) = _
  rw [if_neg (by omega), dpN_cg hP o.toNat (P o + 1).toNat (P o) (by omega) (by omega) (by omega)]
theorem dp_in {P : Int → Int} {n : Int} (hP : ∀ k, 0 ≤ k → k < n → P k < k) (o : Int) (h : o < n) : dp P o = 0 ∨ (0 < dp P o ∧ dp P o ≤ o + 1) := by
  have key : ∀ (f : Nat) (o : Int), o < n → 0 ≤ dpN P f o ∧ (dpN P f o ≤ o + 1 ∨ o < 0) := by
    intro f
    induction f with
    | zero => intro o hn; exact ⟨Int.le_refl _, by show (0 : Int) ≤ o + 1 ∨ o < 0; omega⟩
    | succ f ih =>
      intro o hn
      show 0 ≤ (if o < 0 then (0 : Int) else _) ∧ ((if o < 0 then (0 : Int) else _) ≤ o + 1 ∨ o < 0)
      by_cases h : o < 0
      · rw [if_pos h]; exact ⟨by omega, Or.inr h⟩
      · rw [if_neg h]
        have h1 := hP o (by omega) hn
        have := ih (P o) (by omega)
        by_cases h2 : P o < 0
        · have e : dpN P f (P o) = 0 := by
            cases f with
            | zero => rfl
            | succ f => show (if P o < 0 then (0 : Int) else _) = 0; rw [if_pos h2]
          rw [e]; exact ⟨by omega, Or.inl (by omega)⟩
        · exact ⟨by omega, Or.inl (by omega)⟩
  by_cases h0 : o < 0
  · exact Or.inl (dp_0 P o h0)
  · have := key (o + 1).toNat o h
    unfold dp
    omega
def tm (a b : Int) : Int := a.tmod b
def td (a b : Int) : Int := a.tdiv b
theorem tm_in (a b : Int) (h : 0 ≤ a) (hb : 0 < b) : tm a b = 0 ∨ (0 < tm a b ∧ tm a b < b) := by
  unfold tm
  rw [Int.tmod_eq_emod_of_nonneg h]
  have h1 := Int.emod_nonneg a (b := b) (by omega)
  have h2 := Int.emod_lt_of_pos a hb
  omega
/-- bounds of an array's numbers -/
def bnd (σ : Sto) (a : Nat) (n lo hi : Int) : Prop := ∀ i, 0 ≤ i → i < n → lo ≤ σ.I a i ∧ σ.I a i ≤ hi
theorem bnd_at {σ : Sto} {a : Nat} {n lo hi i : Int} (h : bnd σ a n lo hi) (h0 : 0 ≤ i) (h1 : i < n) : σ.I a i = lo ∨ (lo < σ.I a i ∧ σ.I a i ≤ hi) := by have := h i h0 h1; omega
theorem bnd_eq {σ τ : Sto} {a : Nat} {n lo hi : Int} (h : bnd σ a n lo hi) (e : τ.I a = σ.I a) : bnd τ a n lo hi := by unfold bnd; rw [e]; exact h
/-- parents come before their children -/
def tre (σ : Sto) (a : Nat) (n : Int) : Prop := ∀ k, 0 ≤ k → k < n → -1 ≤ σ.I a k ∧ σ.I a k < k
theorem tre_at {σ : Sto} {a : Nat} {n k : Int} (h : tre σ a n) (h0 : 0 ≤ k) (h1 : k < n) : σ.I a k = -1 ∨ (-1 < σ.I a k ∧ σ.I a k < k) := by have := h k h0 h1; omega
theorem tre_dp {σ : Sto} {a : Nat} {n : Int} (h : tre σ a n) (o : Int) (h0 : 0 ≤ o) (h1 : o < n) : dp (σ.I a) o = 1 + dp (σ.I a) (σ.I a o) := dp_s (fun k q1 q2 => (h k q1 q2).2) o h0 h1
theorem tre_in {σ : Sto} {a : Nat} {n : Int} (h : tre σ a n) (o : Int) (h1 : o < n) : dp (σ.I a) o = 0 ∨ (0 < dp (σ.I a) o ∧ dp (σ.I a) o ≤ o + 1) := dp_in (fun k q1 q2 => (h k q1 q2).2) o h1
/-! objects and versions -/
def lv (H G : Int → Int) (n o : Int) : Prop := 0 ≤ o ∧ o < n ∧ H o = 1 ∧ G o = 2147483647
def inV (H C G : Int → Int) (v o : Int) : Prop := H o = 1 ∧ C o ≤ v ∧ v < G o
def ndd (H C G P : Int → Int) (v w o : Int) : Prop := G o = 2147483647 ∨ inV H C G v o ∨ inV H C G w o ∨ exN (fun p => 0 ≤ P p ∧ inV H C G (P p) o) 4
def fpin (P : Int → Int) : Int := if P 0 < 0 then 0 else if P 1 < 0 then 1 else if P 2 < 0 then 2 else if P 3 < 0 then 3 else 4
/-! shards -/
def nOf (lost : Int → Int) (nodes s : Int) : Int := if lost (tm s nodes) = 0 then tm s nodes else if lost (tm (s + 1) nodes) = 0 then tm (s + 1) nodes else -1
