/-! PLAIN LAW, base: booleans as ints, induction upwards, reads behind writes, what a run changes -/
noncomputable def zb (c : Prop) : Int := @ite Int c (Classical.propDecidable c) 1 0
theorem zb_t {c : Prop} (h : c) : zb c = 1 := by unfold zb; exact if_pos h
theorem zb_f {c : Prop} (h : ¬ c) : zb c = 0 := by unfold zb; exact if_neg h
theorem zb_1 {c : Prop} : zb c = 1 ↔ c := ⟨fun h => Classical.byContradiction fun q => by rw [zb_f q] at h; omega, zb_t⟩
theorem zb_0 {c : Prop} : zb c = 0 ↔ ¬ c := ⟨fun h q => by rw [zb_t q] at h; omega, zb_f⟩
theorem zb_n0 {c : Prop} : zb c ≠ 0 ↔ c := ⟨fun h => Classical.byContradiction fun q => h (zb_f q), fun h => by rw [zb_t h]; omega⟩
theorem zb_in (c : Prop) : 0 ≤ zb c ∧ zb c ≤ 1 := by
  by_cases h : c
  · rw [zb_t h]; omega
  · rw [zb_f h]; omega
theorem zb_iff {c e : Prop} (h : c ↔ e) : zb c = zb e := by
  by_cases q : c
  · rw [zb_t q, zb_t (h.mp q)]
  · rw [zb_f q, zb_f (fun z => q (h.mpr z))]
theorem up_ind {P : Int → Prop} {a b : Int} (hb : P b) (hs : ∀ i, a ≤ i → i < b → P (i + 1) → P i) : ∀ i, a ≤ i → i ≤ b → P i := by
  have key : ∀ (m : Nat) (i : Int), a ≤ i → i ≤ b → (b - i).toNat = m → P i := by
    intro m
    induction m with
    | zero => intro i h1 h2 h3; have hib : i = b := (by omega); rw [hib]; exact hb
    | succ m ih => intro i h1 h2 h3; exact hs i h1 (by omega) (ih (i + 1) (by omega) (by omega) (by omega))
  intro i h1 h2
  exact key _ i h1 h2 rfl
/-- a loop that ends at or behind its bound -/
theorem up_ind' {P : Int → Prop} {a b : Int} (hb : ∀ i, b ≤ i → P i) (hs : ∀ i, a ≤ i → i < b → P (i + 1) → P i) : ∀ i, a ≤ i → P i := by
  intro i h1
  by_cases h : i ≤ b
  · exact up_ind (hb b (Int.le_refl _)) hs i h1 h
  · exact hb i (by omega)
theorem down_ind {P : Int → Prop} {a b : Int} (hb : ∀ i, i < a → P i) (hs : ∀ i, a ≤ i → i ≤ b → P (i - 1) → P i) : ∀ i, i ≤ b → P i := by
  have key : ∀ (m : Nat) (i : Int), i ≤ b → (i - a + 1).toNat = m → P i := by
    intro m
    induction m with
    | zero => intro i h1 h3; exact hb i (by omega)
    | succ m ih =>
      intro i h1 h3
      exact hs i (by omega) h1 (ih (i - 1) (by omega) (by omega))
  intro i h1
  exact key _ i h1 rfl
/-- a measure that falls -/
theorem me_ind {α : Type} {P : α → Prop} (f : α → Nat) (h : ∀ x, (∀ y, f y < f x → P y) → P x) : ∀ x, P x := by
  have key : ∀ (m : Nat) (x : α), f x < m → P x := by
    intro m
    induction m with
    | zero => intro x h1; omega
    | succ m ih => intro x h1; exact h x (fun y hy => ih y (by omega))
  intro x
  exact key (f x + 1) x (by omega)
theorem I_wI (σ : Sto) (a b : Nat) (i j v : Int) : (σ.wI a i v).I b j = if b = a ∧ j = i then v else σ.I b j := rfl
theorem I_same (σ : Sto) (a : Nat) (i v : Int) : (σ.wI a i v).I a i = v := up2_at
theorem I_ne (σ : Sto) {a b : Nat} (i j v : Int) (h : b ≠ a) : (σ.wI a i v).I b j = σ.I b j := up2_ne h
theorem I_nj (σ : Sto) (a b : Nat) {i j : Int} (v : Int) (h : j ≠ i) : (σ.wI a i v).I b j = σ.I b j := up2_nj h
theorem I_cp (σ : Sto) (a b c : Nat) (i j z y : Int) : (σ.cp a i b j z).I c y = if c = b ∧ j ≤ y ∧ y < j + z then σ.I a (i + (y - j)) else σ.I c y := rfl
theorem R_wI (σ : Sto) (a : Nat) (i v : Int) : (σ.wI a i v).R = σ.R := rfl
theorem sh_wI (σ : Sto) (a : Nat) (i v : Int) : (σ.wI a i v).sh = σ.sh := rfl
theorem n_wI (σ : Sto) (a : Nat) (i v : Int) : (σ.wI a i v).n = σ.n := rfl
theorem R_cp (σ : Sto) (a b : Nat) (i j z : Int) : (σ.cp a i b j z).R = σ.R := rfl
theorem sh_cp (σ : Sto) (a b : Nat) (i j z : Int) : (σ.cp a i b j z).sh = σ.sh := rfl
theorem n_cp (σ : Sto) (a b : Nat) (i j z : Int) : (σ.cp a i b j z).n = σ.n := rfl
/-- nothing but numbers at places P has changed -/
def Ch (P : Nat → Int → Prop) (σ σ' : Sto) : Prop := (σ'.R = σ.R ∧ σ'.sh = σ.sh ∧ σ'.n = σ.n) ∧ ∀ c i, ¬ P c i → σ'.I c i = σ.I c i
theorem Ch.rf {P : Nat → Int → Prop} {σ : Sto} : Ch P σ σ := ⟨⟨rfl, rfl, rfl⟩, fun _ _ _ => rfl⟩
theorem Ch.tr {P : Nat → Int → Prop} {σ τ ρ : Sto} (h : Ch P σ τ) (g : Ch P τ ρ) : Ch P σ ρ := ⟨⟨g.1.1.trans h.1.1, g.1.2.1.trans h.1.2.1, g.1.2.2.trans h.1.2.2⟩, fun c i q => (g.2 c i q).trans (h.2 c i q)⟩
theorem Ch.mono {P P' : Nat → Int → Prop} {σ τ : Sto} (h : Ch P σ τ) (g : ∀ c i, P c i → P' c i) : Ch P' σ τ := ⟨h.1, fun c i q => h.2 c i (fun z => q (g c i z))⟩
theorem Ch.wI {P : Nat → Int → Prop} {σ τ : Sto} {a : Nat} {i v : Int} (h : Ch P σ τ) (hp : P a i) : Ch P σ (τ.wI a i v) := ⟨h.1, fun c j q => by
  have : ¬ (c = a ∧ j = i) := fun z => q (by rw [z.1, z.2]; exact hp)
  rw [I_wI, if_neg this]; exact h.2 c j q⟩
theorem Ch.cp {P : Nat → Int → Prop} {σ τ : Sto} {a b : Nat} {i j z : Int} (h : Ch P σ τ) (hp : ∀ y, j ≤ y → y < j + z → P b y) : Ch P σ (τ.cp a i b j z) := ⟨h.1, fun c y q => by
  have : ¬ (c = b ∧ j ≤ y ∧ y < j + z) := fun w => q (by rw [w.1]; exact hp y w.2.1 w.2.2)
  rw [I_cp, if_neg this]; exact h.2 c y q⟩
theorem Ch.sf {P : Nat → Int → Prop} {σ σ' : Sto} (h : Ch P σ σ') : SF σ σ' := ⟨fun a k b _ q => by rw [h.1.1]; exact q, fun a t z q _ => by rw [h.1.2.1]; exact q, by rw [h.1.2.2]; exact Nat.le_refl _⟩
theorem Ch.at {P : Nat → Int → Prop} {σ σ' : Sto} (h : Ch P σ σ') {c : Nat} {i : Int} (q : ¬ P c i) : σ'.I c i = σ.I c i := h.2 c i q
/-- rows of two arrays are the same -/
def eqR (σ : Sto) (a : Nat) (i : Int) (b : Nat) (j n : Int) : Prop := ∀ t, 0 ≤ t → t < n → σ.I a (i + t) = σ.I b (j + t)
theorem nn_some {α : Type} {r : Option α} (h : r ≠ none) : ∃ b, r = some b := by
  cases r with
  | none => exact absurd rfl h
  | some b => exact ⟨b, rfl⟩
def lt3 (a b c a' b' c' : Nat) : Prop := a < a' ∨ a = a' ∧ (b < b' ∨ b = b' ∧ c < c')
theorem lex3 {P : Nat → Nat → Nat → Prop} (h : ∀ a b c, (∀ a' b' c', lt3 a' b' c' a b c → P a' b' c') → P a b c) : ∀ a b c, P a b c := by
  have k1 : ∀ n a b c, a < n → P a b c := by
    intro n
    induction n with
    | zero => intro a b c h1; omega
    | succ n ih =>
      have k2 : ∀ m a b c, a < n + 1 → b < m → P a b c := by
        intro m
        induction m with
        | zero => intro a b c h1 h2; omega
        | succ m ih2 =>
          have k3 : ∀ q a b c, a < n + 1 → b < m + 1 → c < q → P a b c := by
            intro q
            induction q with
            | zero => intro a b c h1 h2 h3; omega
            | succ q ih3 =>
              intro a b c h1 h2 h3
              refine h a b c (fun a' b' c' hl => ?_)
              rcases hl with hl | ⟨rfl, hl | ⟨rfl, hl⟩⟩
              · exact ih a' b' c' (by omega)
              · exact ih2 _ b' c' h1 (by omega)
              · exact ih3 _ _ c' h1 h2 (by omega)
          intro a b c h1 h2
          exact k3 (c + 1) a b c h1 h2 (by omega)
      intro a b c h1
      exact k2 (b + 1) a b c h1 (by omega)
  intro a b c
  exact k1 (a + 1) a b c (by omega)
/-- an answer that is an int; the store is as it was -/
def RI (σ : Sto) (x : Int) : Res → Sto → Prop := fun r τ => r = .inl (some (aI x)) ∧ inR x ∧ τ = σ
def RL (σ : Sto) (x : Int) : Res → Sto → Prop := fun r τ => r = .inl (some (aL x)) ∧ inL x ∧ τ = σ
/-- an answer that is a truth value; the store is as it was -/
def RZ (σ : Sto) (c : Prop) : Res → Sto → Prop := fun r τ => r = .inl (some (aI (zb c))) ∧ τ = σ
def RV (P : Sto → Prop) : Res → Sto → Prop := fun r τ => r = .inl none ∧ P τ
def RVI (P : Int → Sto → Prop) : Res → Sto → Prop := fun r τ => ∃ y, r = .inl (some (aI y)) ∧ inR y ∧ P y τ
def RVZ (P : Int → Sto → Prop) : Res → Sto → Prop := fun r τ => ∃ y, r = .inl (some (aI y)) ∧ (0 ≤ y ∧ y ≤ 1) ∧ P y τ
def RVL (P : Int → Sto → Prop) : Res → Sto → Prop := fun r τ => ∃ y, r = .inl (some (aL y)) ∧ inL y ∧ P y τ
section RETS
variable {E : XE} {M : MI} {d pc pc' : Nat} {L : List (Nat × AV)} {st : List AV} {σ : Sto} {Q : Res → Sto → Prop} {x e : Int} {c : Prop}
theorem RI_ret (h : ∀ y, y = x → inR y → VV E M d pc' L (aI y :: st) σ Q) : ∀ v σ', RI σ x (.inl v) σ' → SF σ σ' → VV E M d pc' L (v.toList ++ st) σ' Q := by
  rintro v σ' ⟨h1, h2, rfl⟩ _
  cases h1
  exact h x rfl h2
theorem RL_ret (h : ∀ y, y = x → inL y → VV E M d pc' L (aL y :: st) σ Q) : ∀ v σ', RL σ x (.inl v) σ' → SF σ σ' → VV E M d pc' L (v.toList ++ st) σ' Q := by
  rintro v σ' ⟨h1, h2, rfl⟩ _
  cases h1
  exact h x rfl h2
theorem RZ_ret (h1 : c → VV E M d pc' L (aI 1 :: st) σ Q) (h0 : ¬ c → VV E M d pc' L (aI 0 :: st) σ Q) : ∀ v σ', RZ σ c (.inl v) σ' → SF σ σ' → VV E M d pc' L (v.toList ++ st) σ' Q := by
  rintro v σ' ⟨q1, rfl⟩ _
  cases q1
  by_cases q : c
  · have := h1 q; rw [← zb_t q] at this; exact this
  · have := h0 q; rw [← zb_f q] at this; exact this
theorem RZ_retv (h : ∀ y, (0 ≤ y ∧ y ≤ 1) → (y = 1 ↔ c) → VV E M d pc' L (aI y :: st) σ Q) : ∀ v σ', RZ σ c (.inl v) σ' → SF σ σ' → VV E M d pc' L (v.toList ++ st) σ' Q := by
  rintro v σ' ⟨q1, rfl⟩ _
  cases q1
  exact h _ (zb_in c) zb_1
theorem RV_ret {P : Sto → Prop} (h : ∀ σ', SF σ σ' → P σ' → VV E M d pc' L st σ' Q) : ∀ v σ', RV P (.inl v) σ' → SF σ σ' → VV E M d pc' L (v.toList ++ st) σ' Q := by
  rintro v σ' ⟨q1, q2⟩ g
  cases q1
  exact h σ' g q2
theorem RVI_ret {P : Int → Sto → Prop} (h : ∀ y σ', inR y → SF σ σ' → P y σ' → VV E M d pc' L (aI y :: st) σ' Q) : ∀ v σ', RVI P (.inl v) σ' → SF σ σ' → VV E M d pc' L (v.toList ++ st) σ' Q := by
  rintro v σ' ⟨y, q1, q2, q3⟩ g
  cases q1
  exact h y σ' q2 g q3
theorem RVZ_ret {P : Int → Sto → Prop} (h : ∀ y σ', (0 ≤ y ∧ y ≤ 1) → SF σ σ' → P y σ' → VV E M d pc' L (aI y :: st) σ' Q) : ∀ v σ', RVZ P (.inl v) σ' → SF σ σ' → VV E M d pc' L (v.toList ++ st) σ' Q := by
  rintro v σ' ⟨y, q1, q2, q3⟩ g
  cases q1
  exact h y σ' q2 g q3
theorem RVL_ret {P : Int → Sto → Prop} (h : ∀ y σ', inL y → SF σ σ' → P y σ' → VV E M d pc' L (aL y :: st) σ' Q) : ∀ v σ', RVL P (.inl v) σ' → SF σ σ' → VV E M d pc' L (v.toList ++ st) σ' Q := by
  rintro v σ' ⟨y, q1, q2, q3⟩ g
  cases q1
  exact h y σ' q2 g q3
theorem RI_thr {B : Nat → Sto → Prop} : ∀ a σ', RI σ x (.inr a) σ' → B a σ' := by
  rintro a σ' ⟨h, _⟩
  cases h
theorem RL_thr {B : Nat → Sto → Prop} : ∀ a σ', RL σ x (.inr a) σ' → B a σ' := by
  rintro a σ' ⟨h, _⟩
  cases h
theorem RZ_thr {B : Nat → Sto → Prop} : ∀ a σ', RZ σ c (.inr a) σ' → B a σ' := by
  rintro a σ' ⟨h, _⟩
  cases h
theorem RV_thr {P : Sto → Prop} {B : Nat → Sto → Prop} : ∀ a σ', RV P (.inr a) σ' → B a σ' := by
  rintro a σ' ⟨h, _⟩
  cases h
theorem RVI_thr {P : Int → Sto → Prop} {B : Nat → Sto → Prop} : ∀ a σ', RVI P (.inr a) σ' → B a σ' := by
  rintro a σ' ⟨y, h, _⟩
  cases h
theorem RVZ_thr {P : Int → Sto → Prop} {B : Nat → Sto → Prop} : ∀ a σ', RVZ P (.inr a) σ' → B a σ' := by
  rintro a σ' ⟨y, h, _⟩
  cases h
theorem RVL_thr {P : Int → Sto → Prop} {B : Nat → Sto → Prop} : ∀ a σ', RVL P (.inr a) σ' → B a σ' := by
  rintro a σ' ⟨y, h, _⟩
  cases h
theorem RI_mk (h1 : e = x) (h2 : inR e) : RI σ x (.inl (some (aI e))) σ := by subst h1; exact ⟨rfl, h2, rfl⟩
theorem RL_mk (h1 : e = x) (h2 : inL e) : RL σ x (.inl (some (aL e))) σ := by subst h1; exact ⟨rfl, h2, rfl⟩
theorem RZ_mk (h1 : 0 ≤ e ∧ e ≤ 1) (h2 : e = 1 ↔ c) : RZ σ c (.inl (some (aI e))) σ := by
  have : e = zb c := by
    by_cases q : c
    · rw [zb_t q]; exact h2.mpr q
    · rw [zb_f q]; have : ¬ e = 1 := fun z => q (h2.mp z)
      omega
  rw [this]; exact ⟨rfl, rfl⟩
theorem RV_mk {P : Sto → Prop} (h : P σ) : RV P (.inl none) σ := ⟨rfl, h⟩
theorem RVI_mk {P : Int → Sto → Prop} (h : inR e) (h2 : P e σ) : RVI P (.inl (some (aI e))) σ := ⟨e, rfl, h, h2⟩
theorem RVZ_mk {P : Int → Sto → Prop} (h : 0 ≤ e ∧ e ≤ 1) (h2 : P e σ) : RVZ P (.inl (some (aI e))) σ := ⟨e, rfl, h, h2⟩
theorem RVL_mk {P : Int → Sto → Prop} (h : inL e) (h2 : P e σ) : RVL P (.inl (some (aL e))) σ := ⟨e, rfl, h, h2⟩
end RETS
