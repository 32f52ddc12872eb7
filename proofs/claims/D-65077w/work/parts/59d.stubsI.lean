section
/-! contracts: printed by tools/mk.py out of s98zj_listM.py -/
set_option maxRecDepth 100000
set_option maxHeartbeats 1200000
def bd_m128_127 (σ : Sto) (a : Nat) (n : Int) : Prop := ∀ i, 0 ≤ i → i < n → (-128) ≤ σ.I a i ∧ σ.I a i ≤ 127
theorem bd_m128_127_at {σ : Sto} {a : Nat} {n i : Int} (h : bd_m128_127 σ a n) (h0 : 0 ≤ i) (h1 : i < n) : σ.I a i = (-128) ∨ ((-128) < σ.I a i ∧ σ.I a i ≤ 127) := by have := h i h0 h1; omega
theorem bd_m128_127_eq {σ τ : Sto} {a : Nat} {n : Int} (h : bd_m128_127 σ a n) (e : τ.I a = σ.I a) : bd_m128_127 τ a n := by unfold bd_m128_127; rw [e]; exact h
/-! the list of terms -/
theorem od_z (A : Int → Int) (i n : Int) (B : Int → Int) (j m : Int) : ∀ (f : Nat) (k : Int), k + f = 1000 → n ≤ 20 → m ≤ 20 → 0 ≤ k → k ≤ n → k ≤ m → od A i n B j m k = 0 → n = m ∧ ∀ l, k ≤ l → l < n → A (i + l) % 256 = B (j + l) % 256 := by
  intro f
  induction f with
  | zero => intro k hk hn hm h0 h1; omega
  | succ f ih =>
    intro k hk hn hm h0 h1 h2 h
    by_cases e : n ≤ k ∨ m ≤ k
    · rw [od_e _ _ _ _ _ _ _ e] at h
      exact ⟨by omega, fun l a b => by omega⟩
    · by_cases z : A (i + k) % 256 = B (j + k) % 256
      · rw [od_s A i n B j m k (k + 1) (by omega) (by omega) rfl z] at h
        obtain ⟨a, b⟩ := ih (k + 1) (by omega) hn hm (by omega) (by omega) (by omega) h
        refine ⟨a, fun l c d => ?_⟩
        rcases (show l = k ∨ k + 1 ≤ l by omega) with w | w
        · rw [w]; exact z
        · exact b l w d
      · rw [od_d A i n B j m k (by omega) (by omega) z] at h
        omega
/-- the rows of the terms -/
def TRW (σ : Sto) : Prop := bd_0_20 σ 587 24000 ∧ bd_m128_127 σ 586 480000
section TEM
variable {σ τ : Sto} {a b c f : Int}
theorem teM_rf (h : TRW σ) (a0 : 0 ≤ a) (a1 : a < 24000) : teM σ a a := by
  have z := h.1 a a0 a1
  have q := od_neg (σ.I 586) (20 * a) (σ.I 587 a) (σ.I 586) (20 * a) (σ.I 587 a) 1000 0 (by omega) (by omega) (by omega) (by omega)
  unfold teM; omega
theorem teM_sy (h : TRW σ) (a0 : 0 ≤ a) (a1 : a < 24000) (b0 : 0 ≤ b) (b1 : b < 24000) (e : teM σ a b) : teM σ b a := by
  have z := h.1 a a0 a1
  have w := h.1 b b0 b1
  have q := od_neg (σ.I 586) (20 * a) (σ.I 587 a) (σ.I 586) (20 * b) (σ.I 587 b) 1000 0 (by omega) (by omega) (by omega) (by omega)
  unfold teM at *; omega
theorem teM_tr (h : TRW σ) (a0 : 0 ≤ a) (a1 : a < 24000) (b0 : 0 ≤ b) (b1 : b < 24000) (c0 : 0 ≤ c) (c1 : c < 24000) (e : teM σ a b) (g : teM σ b c) : teM σ a c := by
  have z := h.1 a a0 a1
  have w := h.1 b b0 b1
  have v := h.1 c c0 c1
  have e' := teM_sy h a0 a1 b0 b1 e
  have g' := teM_sy h b0 b1 c0 c1 g
  unfold teM at *
  have q1 := od_tr (σ.I 586) (20 * a) (σ.I 587 a) (σ.I 586) (20 * b) (σ.I 587 b) (σ.I 586) (20 * c) (σ.I 587 c) 1000 0 (by omega) (by omega) (by omega) (by omega) (by omega) (by omega) (by omega)
  have q2 := od_tr (σ.I 586) (20 * c) (σ.I 587 c) (σ.I 586) (20 * b) (σ.I 587 b) (σ.I 586) (20 * a) (σ.I 587 a) 1000 0 (by omega) (by omega) (by omega) (by omega) (by omega) (by omega) (by omega)
  have q3 := od_neg (σ.I 586) (20 * a) (σ.I 587 a) (σ.I 586) (20 * c) (σ.I 587 c) 1000 0 (by omega) (by omega) (by omega) (by omega)
  omega
theorem hsH_c2 (A : Int → Int) (i j f : Int) : ∀ n : Nat, (∀ l, 0 ≤ l → l < (n : Int) → A (i + l) = A (j + l)) → hsH A i f (n : Int) = hsH A j f (n : Int) := by
  intro n
  induction n with
  | zero => intro _; rw [hsH_0 _ _ _ _ (by omega), hsH_0 _ _ _ _ (by omega)]
  | succ n ih =>
    intro h
    rw [hsH_s A i f (n : Int) ((n + 1 : Nat) : Int) (by omega) (by omega), hsH_s A j f (n : Int) ((n + 1 : Nat) : Int) (by omega) (by omega), ih (fun l a b => h l a (by omega)), h n (by omega) (by omega)]
theorem hmM_e (h : TRW σ) (a0 : 0 ≤ a) (a1 : a < 24000) (b0 : 0 ≤ b) (b1 : b < 24000) (e : teM σ a b) : hmM σ a f = hmM σ b f := by
  have z := h.1 a a0 a1
  have w := h.1 b b0 b1
  obtain ⟨x, y⟩ := od_z (σ.I 586) (20 * a) (σ.I 587 a) (σ.I 586) (20 * b) (σ.I 587 b) 1000 0 (by omega) (by omega) (by omega) (by omega) (by omega) (by omega) e
  unfold hmM
  have q := hsH_c2 (σ.I 586) (20 * a) (20 * b) f (σ.I 587 a).toNat (fun l l0 l1 => by
    have q1 := y l l0 (by omega)
    have q2 := h.2 (20 * a + l) (by omega) (by omega)
    have q3 := h.2 (20 * b + l) (by omega) (by omega)
    omega)
  rw [show (((σ.I 587 a).toNat : Nat) : Int) = σ.I 587 a by omega] at q
  rw [q, x]
theorem TRW_e (h : TRW σ) (e : ∀ c i, c = 586 ∨ c = 587 → τ.I c i = σ.I c i) : TRW τ := ⟨bd_0_20_eq h.1 (funext fun i => e _ _ (by omega)), bd_m128_127_eq h.2 (funext fun i => e _ _ (by omega))⟩
theorem teM_e (e : ∀ c i, c = 586 ∨ c = 587 → τ.I c i = σ.I c i) : teM τ = teM σ := by
  funext x y; unfold teM
  rw [show τ.I 586 = σ.I 586 from funext fun i => e _ _ (by omega), show τ.I 587 = σ.I 587 from funext fun i => e _ _ (by omega)]
theorem hmM_s (e : ∀ c i, c = 586 ∨ c = 587 → τ.I c i = σ.I c i) : hmM τ = hmM σ := by
  funext x y; unfold hmM
  rw [show τ.I 586 = σ.I 586 from funext fun i => e _ _ (by omega), show τ.I 587 = σ.I 587 from funext fun i => e _ _ (by omega)]
end TEM
/-- the table -/
def HTB (τ : Sto) : Prop := (0 ≤ τ.I 555 148 ∧ τ.I 555 148 ≤ 24000) ∧ (∀ s, 0 ≤ s → s < 65536 → 0 ≤ τ.I 661 s ∧ τ.I 661 s ≤ τ.I 555 148) ∧ τ.I 555 148 = cn (fun s => 0 < τ.I 661 s) 65536 ∧ τ.I 555 148 = cn (fun t => ∃ k, 0 ≤ k ∧ k < τ.I 555 148 ∧ τ.I 662 k = t) 24000 ∧ bd_0_23999 τ 662 24000 ∧
  (∀ k, 0 ≤ k → k < τ.I 555 148 → ∃ s, (0 ≤ s ∧ s < 65536) ∧ τ.I 661 s = k + 1 ∧ ∀ j, 0 ≤ j → j < (s - hmM τ (τ.I 662 k) (τ.I 666 k)) % 65536 → 0 < τ.I 661 ((hmM τ (τ.I 662 k) (τ.I 666 k) + j) % 65536)) ∧
  (∀ k l, 0 ≤ k → k < τ.I 555 148 → 0 ≤ l → l < τ.I 555 148 → τ.I 666 k = τ.I 666 l → teM τ (τ.I 662 k) (τ.I 662 l) → k = l)
def hoM (τ : Sto) (S : Int → Int → Int → Prop) (k o : Int) : Prop := ∃ t, S t (τ.I 666 k) o ∧ teM τ (τ.I 662 k) t
/-- the list of what was seen, up to an object -/
def LTB (τ : Sto) (S : Int → Int → Int → Prop) (x : Int) : Prop := TRW τ ∧ HTB τ ∧ (∀ t f o, S t f o → (0 ≤ t ∧ t < 24000) ∧ 0 ≤ o ∧ o ≤ x) ∧ (∀ k, 0 ≤ k → k < τ.I 555 148 → ∃ o, S (τ.I 662 k) (τ.I 666 k) o) ∧ (∀ t f o, S t f o → ∃ k, (0 ≤ k ∧ k < τ.I 555 148) ∧ τ.I 666 k = f ∧ teM τ (τ.I 662 k) t) ∧ (∀ k, 0 ≤ k → k < τ.I 555 148 → τ.I 663 k = cn (hoM τ S k) 601) ∧ ∀ k, 0 ≤ k → k < τ.I 555 148 → τ.I 664 k ≤ x ∧ (τ.I 664 k = x ↔ hoM τ S k x)
def SSt (S : Int → Int → Int → Prop) (t f o : Int) : Int → Int → Int → Prop := fun t' f' o' => S t' f' o' ∨ (t' = t ∧ f' = f ∧ o' = o)
theorem cn_all {p : Int → Prop} : ∀ n : Nat, (∀ k, 0 ≤ k → k < (n : Int) → p k) → cn p (n : Int) = n := by
  intro n
  induction n with
  | zero => intro _; rw [cn_0 _ _ (by omega)]; rfl
  | succ n ih =>
    intro h
    rw [cn_s p (n : Int) ((n + 1 : Nat) : Int) (by omega) (by omega), ih (fun k a b => h k a (by omega)), zb_t (h n (by omega) (by omega))]
    omega
theorem HTB_x {τ : Sto} (h : HTB τ) : ∃ s, 0 ≤ s ∧ s < 65536 ∧ τ.I 661 s ≤ 0 := by
  apply Classical.byContradiction
  intro z
  have q := cn_all (p := fun s => 0 < τ.I 661 s) 65536 (fun k a b => by
    apply Classical.byContradiction
    intro w
    exact z ⟨k, a, by omega, by omega⟩)
  have e := h.2.2.1
  rw [show ((65536 : Nat) : Int) = 65536 from rfl] at q
  rw [q] at e
  have := h.1
  omega
section LTBS
variable {τ υ : Sto} {S : Int → Int → Int → Prop} {t f o y k : Int}
/-- an empty slot: the term is not listed -/
theorem LTB_nm (hT : TRW τ) (h : HTB τ) (t0 : 0 ≤ t) (t1 : t < 24000) (hs : SLR τ t f y) (hy : τ.I 661 y = 0) : ∀ k, 0 ≤ k → k < τ.I 555 148 → τ.I 666 k = f → ¬ teM τ (τ.I 662 k) t := by
  intro k k0 k1 kf kt
  have kb := h.2.2.2.2.1 k k0 (by have := h.1; omega)
  obtain ⟨s, s0, s1, s2⟩ := h.2.2.2.2.2.1 k k0 k1
  rw [kf, hmM_e (f := f) hT (by omega) (by omega) t0 t1 kt] at s2
  have hm := hmM_in τ t f
  obtain ⟨a, b, c⟩ := hs
  rcases (show (s - hmM τ t f) % 65536 < (y - hmM τ t f) % 65536 ∨ (y - hmM τ t f) % 65536 < (s - hmM τ t f) % 65536 ∨ s = y by omega) with q | q | q
  · have w := c _ (by omega) q
    rw [show (hmM τ t f + (s - hmM τ t f) % 65536) % 65536 = s by omega] at w
    refine w (Or.inr ?_)
    rw [s1, show k + 1 - 1 = k by omega]
    exact ⟨kf, kt⟩
  · have w := s2 _ (by omega) q
    rw [show (hmM τ t f + (y - hmM τ t f) % 65536) % 65536 = y by omega] at w
    omega
  · rw [q] at s1; omega
theorem hoM_n (hn : τ.I 666 k = f → ¬ teM τ (τ.I 662 k) t) (o' : Int) : hoM τ (SSt S t f o) k o' ↔ hoM τ S k o' := by
  constructor
  · rintro ⟨x, a | ⟨a, b, c⟩, d⟩
    · exact ⟨x, a, d⟩
    · rw [a] at d; exact absurd d (hn b)
  · rintro ⟨x, a, d⟩; exact ⟨x, Or.inl a, d⟩
theorem hoM_y (hf : τ.I 666 k = f) (hk : teM τ (τ.I 662 k) t) (o' : Int) : hoM τ (SSt S t f o) k o' ↔ (hoM τ S k o' ∨ o' = o) := by
  constructor
  · rintro ⟨x, a | ⟨a, b, c⟩, d⟩
    · exact Or.inl ⟨x, a, d⟩
    · exact Or.inr c
  · rintro (⟨x, a, d⟩ | e)
    · exact ⟨x, Or.inl a, d⟩
    · exact ⟨t, Or.inr ⟨rfl, hf, e⟩, hk⟩
/-- listed already: who else is it -/
theorem LTB_ot (hT : TRW τ) (h : HTB τ) (t0 : 0 ≤ t) (t1 : t < 24000) (k0 : 0 ≤ k) (k1 : k < τ.I 555 148) (hf : τ.I 666 k = f) (hk : teM τ (τ.I 662 k) t) : ∀ l, 0 ≤ l → l < τ.I 555 148 → l ≠ k → τ.I 666 l = f → ¬ teM τ (τ.I 662 l) t := by
  intro l l0 l1 ln lf lt
  have hb := h.1
  have kb := h.2.2.2.2.1 k k0 (by omega)
  have lb := h.2.2.2.2.1 l l0 (by omega)
  exact ln (h.2.2.2.2.2.2 l k l0 l1 k0 k1 (lf.trans hf.symm) (teM_tr hT (by omega) (by omega) t0 t1 (by omega) (by omega) lt (teM_sy hT (by omega) (by omega) t0 t1 hk)))
theorem LTB_1 (h : LTB τ S o) (o0 : 0 ≤ o) (t0 : 0 ≤ t) (t1 : t < 24000) (k0 : 0 ≤ k) (k1 : k < τ.I 555 148) (hf : τ.I 666 k = f) (hk : teM τ (τ.I 662 k) t) (hl : τ.I 664 k = o) : LTB τ (SSt S t f o) o := by
  obtain ⟨hT, hH, a, b, c, d, e⟩ := h
  have hot := LTB_ot hT hH t0 t1 k0 k1 hf hk
  have key : ∀ l, 0 ≤ l → l < τ.I 555 148 → ∀ o', hoM τ (SSt S t f o) l o' ↔ hoM τ S l o' := by
    intro l l0 l1 o'
    by_cases z : l = k
    · subst z
      rw [hoM_y hf hk]
      exact ⟨fun q => q.elim id (fun w => by rw [w]; exact (e l l0 l1).2.mp hl), Or.inl⟩
    · exact hoM_n (hot l l0 l1 z) o'
  refine ⟨hT, hH, ?_, fun l l0 l1 => (b l l0 l1).imp (fun _ q => Or.inl q), ?_, fun l l0 l1 => ?_, fun l l0 l1 => ?_⟩
  · rintro t' f' o' (q | ⟨q1, q2, q3⟩)
    · exact a _ _ _ q
    · exact ⟨by omega, by omega⟩
  · rintro t' f' o' (q | ⟨q1, q2, q3⟩)
    · exact c _ _ _ q
    · exact ⟨k, ⟨k0, k1⟩, by rw [q2]; exact hf, by rw [q1]; exact hk⟩
  · rw [d l l0 l1]; exact cn_cg (fun o' _ _ => (key l l0 l1 o').symm)
  · exact ⟨(e l l0 l1).1, (e l l0 l1).2.trans (key l l0 l1 o).symm⟩
theorem HTB_e (h : HTB τ) (e : ∀ c i, c = 661 ∨ c = 662 ∨ c = 666 ∨ c = 586 ∨ c = 587 ∨ (c = 555 ∧ i = 148) → υ.I c i = τ.I c i) : HTB υ := by
  have e1 : υ.I 661 = τ.I 661 := funext fun i => e _ _ (by omega)
  have e2 : υ.I 662 = τ.I 662 := funext fun i => e _ _ (by omega)
  have e3 : υ.I 666 = τ.I 666 := funext fun i => e _ _ (by omega)
  have e4 : υ.I 555 148 = τ.I 555 148 := e _ _ (by omega)
  have e5 : teM υ = teM τ := teM_e (fun c i q => e c i (by omega))
  have e6 : hmM υ = hmM τ := hmM_s (fun c i q => e c i (by omega))
  unfold HTB bd_0_23999 at *
  rw [e1, e2, e3, e4, e5, e6]
  exact h
theorem LTB_2 (h : LTB τ S o) (o0 : 0 ≤ o) (o1 : o < 601) (t0 : 0 ≤ t) (t1 : t < 24000) (k0 : 0 ≤ k) (k1 : k < τ.I 555 148) (hf : τ.I 666 k = f) (hk : teM τ (τ.I 662 k) t) (hl : τ.I 664 k ≠ o)
   (u : ∀ c i, ¬ (i = k ∧ (c = 663 ∨ c = 664)) → υ.I c i = τ.I c i) (u1 : υ.I 663 k = τ.I 663 k + 1) (u2 : υ.I 664 k = o) : LTB υ (SSt S t f o) o := by
  obtain ⟨hT, hH, a, b, c, d, e⟩ := h
  have hot := LTB_ot hT hH t0 t1 k0 k1 hf hk
  have e2 : υ.I 662 = τ.I 662 := funext fun i => u _ _ (by omega)
  have e3 : υ.I 666 = τ.I 666 := funext fun i => u _ _ (by omega)
  have e4 : υ.I 555 148 = τ.I 555 148 := u _ _ (by omega)
  have e5 : teM υ = teM τ := teM_e (fun c i q => u c i (by omega))
  have eh : ∀ S' l o', hoM υ S' l o' ↔ hoM τ S' l o' := fun S' l o' => by unfold hoM; rw [e2, e3, e5]
  refine ⟨TRW_e hT (fun c i q => u c i (by omega)), HTB_e hH (fun c i q => u c i (by omega)), ?_, ?_, ?_, ?_, ?_⟩
  · rintro t' f' o' (q | ⟨q1, q2, q3⟩)
    · exact a _ _ _ q
    · exact ⟨by omega, by omega⟩
  · rw [e2, e3, e4]; exact fun l l0 l1 => (b l l0 l1).imp (fun _ q => Or.inl q)
  · rw [e2, e3, e4, e5]
    rintro t' f' o' (q | ⟨q1, q2, q3⟩)
    · exact c _ _ _ q
    · exact ⟨k, ⟨k0, k1⟩, by rw [q2]; exact hf, by rw [q1]; exact hk⟩
  · rw [e4]
    intro l l0 l1
    rw [cn_cg (fun o' _ _ => eh (SSt S t f o) l o')]
    by_cases z : l = k
    · subst z
      have q := cn_one (p := hoM τ S l) (q := hoM τ (SSt S t f o) l) (h := o) (fun o' => hoM_y hf hk o') (fun w => hl ((e l l0 l1).2.mpr w)) o0 601
      rw [show ((601 : Nat) : Int) = 601 from rfl, if_pos o1] at q
      rw [u1, d l l0 l1, q]
    · rw [u _ _ (by omega), d l l0 l1]
      exact cn_cg (fun o' _ _ => (hoM_n (hot l l0 l1 z) o').symm)
  · rw [e4]
    intro l l0 l1
    rw [eh]
    by_cases z : l = k
    · subst z
      rw [u2, hoM_y hf hk]
      exact ⟨Int.le_refl _, fun _ => Or.inr rfl, fun _ => rfl⟩
    · rw [u _ _ (by omega), hoM_n (hot l l0 l1 z)]
      exact e l l0 l1
theorem LTB_3 (h : LTB τ S o) (o0 : 0 ≤ o) (o1 : o < 601) (t0 : 0 ≤ t) (t1 : t < 24000) (hs : SLR τ t f y) (hy : τ.I 661 y = 0) (hF : ∀ f' o', S t f' o' → f' = f)
   (u : ∀ c i, ¬ (i = τ.I 555 148 ∧ (c = 662 ∨ c = 663 ∨ c = 664 ∨ c = 666)) → ¬ (c = 661 ∧ i = y) → ¬ (c = 555 ∧ i = 148) → υ.I c i = τ.I c i) (u1 : υ.I 662 (τ.I 555 148) = t) (u2 : υ.I 666 (τ.I 555 148) = f) (u3 : υ.I 663 (τ.I 555 148) = 1) (u4 : υ.I 664 (τ.I 555 148) = o) (u5 : υ.I 661 y = τ.I 555 148 + 1) (u6 : υ.I 555 148 = τ.I 555 148 + 1) : LTB υ (SSt S t f o) o := by
  obtain ⟨hT, hH, a, b, c, d, e⟩ := h
  have nm := LTB_nm hT hH t0 t1 hs hy
  have e5 : teM υ = teM τ := teM_e (fun c i q => u c i (by omega) (by omega) (by omega))
  have e6 : hmM υ = hmM τ := hmM_s (fun c i q => u c i (by omega) (by omega) (by omega))
  obtain ⟨h1, h2, h3, h4, h5, h6, h7⟩ := hH
  obtain ⟨n, hn⟩ : ∃ n, n = τ.I 555 148 := ⟨_, rfl⟩
  rw [← hn] at u u1 u2 u3 u4 u5 u6 nm h1 h2 h3 h4 h6 h7 b c d e
  have v2 : ∀ i, i ≠ n → υ.I 662 i = τ.I 662 i := fun i q => u _ _ (by omega) (by omega) (by omega)
  have v6 : ∀ i, i ≠ n → υ.I 666 i = τ.I 666 i := fun i q => u _ _ (by omega) (by omega) (by omega)
  have v1 : ∀ i, i ≠ y → υ.I 661 i = τ.I 661 i := fun i q => u _ _ (by omega) (by omega) (by omega)
  have nt : ¬ ∃ k, 0 ≤ k ∧ k < n ∧ τ.I 662 k = t := by
    rintro ⟨k, k0, k1, k2⟩
    obtain ⟨o', q⟩ := b k k0 k1
    rw [k2] at q
    exact nm k k0 k1 (hF _ _ q) (by rw [k2]; exact teM_rf hT t0 t1)
  have ct := cn_one (p := fun t' => ∃ k, 0 ≤ k ∧ k < n ∧ τ.I 662 k = t') (q := fun t' => ∃ k, 0 ≤ k ∧ k < n + 1 ∧ υ.I 662 k = t') (h := t) (fun t' => by
    constructor
    · rintro ⟨k, k0, k1, k2⟩
      rcases (show k = n ∨ k ≠ n by omega) with z | z
      · rw [z, u1] at k2; exact Or.inr k2.symm
      · rw [v2 k z] at k2; exact Or.inl ⟨k, k0, by omega, k2⟩
    · rintro (⟨k, k0, k1, k2⟩ | z)
      · exact ⟨k, k0, by omega, by rw [v2 k (by omega)]; exact k2⟩
      · exact ⟨n, by omega, by omega, by rw [u1, z]⟩) nt t0 24000
  rw [show ((24000 : Nat) : Int) = 24000 from rfl, if_pos t1, ← h4] at ct
  have hn1 : n + 1 ≤ 24000 := by have := cn_in (fun t' => ∃ k, 0 ≤ k ∧ k < n + 1 ∧ υ.I 662 k = t') 24000; omega
  have cs := cn_one (p := fun s => 0 < τ.I 661 s) (q := fun s => 0 < υ.I 661 s) (h := y) (fun s => by
    rcases (show s = y ∨ s ≠ y by omega) with z | z
    · rw [z, u5]; exact ⟨fun _ => Or.inr rfl, fun _ => by omega⟩
    · rw [v1 s z]; exact ⟨Or.inl, fun q => q.elim id (fun w => absurd w z)⟩) (by show ¬ 0 < τ.I 661 y; omega) hs.1.1 65536
  rw [show ((65536 : Nat) : Int) = 65536 from rfl, if_pos hs.1.2, ← h3] at cs
  have hnmk : ∀ k, 0 ≤ k → k < n → υ.I 666 k = τ.I 666 k ∧ υ.I 662 k = τ.I 662 k := fun k k0 k1 => ⟨v6 k (by omega), v2 k (by omega)⟩
  have eho : ∀ S' k, 0 ≤ k → k < n → ∀ o', hoM υ S' k o' ↔ hoM τ S' k o' := fun S' k k0 k1 o' => by unfold hoM; rw [e5, v2 k (by omega), v6 k (by omega)]
  have non : ∀ o', ¬ ∃ t', S t' f o' ∧ teM τ t t' := by
    rintro o' ⟨t', q1, q2⟩
    have tb := a _ _ _ q1
    obtain ⟨k, ⟨k0, k1⟩, k2, k3⟩ := c _ _ _ q1
    have kb := h5 k k0 (by omega)
    exact nm k k0 k1 k2 (teM_tr hT (by omega) (by omega) tb.1.1 tb.1.2 t0 t1 k3 (teM_sy hT t0 t1 tb.1.1 tb.1.2 q2))
  have hon : ∀ o', hoM υ (SSt S t f o) n o' ↔ (False ∨ o' = o) := by
    intro o'
    unfold hoM
    rw [u1, u2, e5]
    constructor
    · rintro ⟨x, q | ⟨q1, q2, q3⟩, w⟩
      · exact absurd ⟨x, q, w⟩ (non o')
      · exact Or.inr q3
    · rintro (z | z)
      · exact z.elim
      · exact ⟨t, Or.inr ⟨rfl, rfl, z⟩, teM_rf hT t0 t1⟩
  refine ⟨TRW_e hT (fun c i q => u c i (by omega) (by omega) (by omega)), ⟨by omega, fun s s0 s1 => ?_, by rw [u6]; exact cs.symm, by rw [u6]; exact ct.symm, fun i i0 i1 => ?_, ?_, ?_⟩, ?_, ?_, ?_, ?_, ?_⟩
  · rw [u6]
    rcases (show s = y ∨ s ≠ y by omega) with z | z
    · rw [z, u5]; omega
    · rw [v1 s z]; have := h2 s s0 s1; omega
  · rcases (show i = n ∨ i ≠ n by omega) with z | z
    · rw [z, u1]; omega
    · rw [v2 i z]; exact h5 i i0 i1
  · rw [u6, e6]
    intro k k0 k1
    rcases (show k = n ∨ k < n by omega) with z | z
    · refine ⟨y, hs.1, by rw [u5, z], fun j j0 j1 => ?_⟩
      rw [z, u1, u2] at j1 ⊢
      have w := hs.2.2 j j0 j1
      have ne : (hmM τ t f + j) % 65536 ≠ y := by have := hmM_in τ t f; omega
      rw [v1 _ ne]
      apply Classical.byContradiction
      intro x
      exact w (Or.inl (by omega))
    · obtain ⟨s, s0, s1, s2⟩ := h6 k k0 z
      have sy : s ≠ y := fun w => by rw [w] at s1; omega
      refine ⟨s, s0, by rw [v1 s sy]; exact s1, fun j j0 j1 => ?_⟩
      rw [(hnmk k k0 z).1, (hnmk k k0 z).2] at j1 ⊢
      have w := s2 j j0 j1
      rcases (show (hmM τ (τ.I 662 k) (τ.I 666 k) + j) % 65536 = y ∨ (hmM τ (τ.I 662 k) (τ.I 666 k) + j) % 65536 ≠ y by omega) with x | x
      · rw [x, u5]; omega
      · rw [v1 _ x]; exact w
  · rw [u6, e5]
    intro k l k0 k1 l0 l1 q1 q2
    rcases (show k = n ∨ k < n by omega) with z | z <;> rcases (show l = n ∨ l < n by omega) with w | w
    · omega
    · rw [z, u1, (hnmk l l0 w).2] at q2
      rw [z, u2, (hnmk l l0 w).1] at q1
      have lb := h5 l l0 (by omega)
      exact absurd (teM_sy hT t0 t1 (by omega) (by omega) q2) (nm l l0 w q1.symm)
    · rw [w, u1, (hnmk k k0 z).2] at q2
      rw [w, u2, (hnmk k k0 z).1] at q1
      exact absurd q2 (nm k k0 z q1)
    · rw [(hnmk k k0 z).2, (hnmk l l0 w).2] at q2
      rw [(hnmk k k0 z).1, (hnmk l l0 w).1] at q1
      exact h7 k l k0 z l0 w q1 q2
  · rintro t' f' o' (q | ⟨q1, q2, q3⟩)
    · exact a _ _ _ q
    · exact ⟨by omega, by omega⟩
  · rw [u6]
    intro k k0 k1
    rcases (show k = n ∨ k < n by omega) with z | z
    · exact ⟨o, Or.inr ⟨by rw [z, u1], by rw [z, u2], rfl⟩⟩
    · rw [(hnmk k k0 z).1, (hnmk k k0 z).2]
      exact (b k k0 z).imp (fun _ q => Or.inl q)
  · rw [u6, e5]
    rintro t' f' o' (q | ⟨q1, q2, q3⟩)
    · obtain ⟨k, ⟨k0, k1⟩, k2, k3⟩ := c _ _ _ q
      exact ⟨k, ⟨k0, by omega⟩, by rw [(hnmk k k0 k1).1]; exact k2, by rw [(hnmk k k0 k1).2]; exact k3⟩
    · exact ⟨n, ⟨by omega, by omega⟩, by rw [u2, q2], by rw [u1, q1]; exact teM_rf hT t0 t1⟩
  · rw [u6]
    intro k k0 k1
    rcases (show k = n ∨ k < n by omega) with z | z
    · rw [z, u3]
      have q := cn_one (p := fun _ => False) (q := hoM υ (SSt S t f o) n) (h := o) hon (fun w => w) o0 601
      have q0 := cn_no (p := fun _ => False) 601 (fun _ _ _ w => w)
      rw [show ((601 : Nat) : Int) = 601 from rfl] at q q0
      rw [q, q0, if_pos o1]; rfl
    · rw [u _ _ (by omega) (by omega) (by omega), d k k0 z]
      exact cn_cg (fun o' _ _ => ((eho _ k k0 z o').trans (hoM_n (nm k k0 z) o')).symm)
  · rw [u6]
    intro k k0 k1
    rcases (show k = n ∨ k < n by omega) with z | z
    · rw [z, u4, hon]; exact ⟨Int.le_refl _, fun _ => Or.inr rfl, fun _ => rfl⟩
    · rw [u _ _ (by omega) (by omega) (by omega), eho _ k k0 z, hoM_n (nm k k0 z)]
      exact e k k0 z
end LTBS
def wsLi (c : Nat) (i : Int) : Prop := (661 ≤ c ∧ c ≤ 664) ∨ c = 666 ∨ (c = 555 ∧ i = 148)
abbrev KLi (σ τ : Sto) : Prop := Ch wsLi σ τ
theorem KLi_rf {σ : Sto} : KLi σ σ := Ch.rf
theorem KLi_w {σ τ : Sto} {a : Nat} {i v : Int} (e : τ = σ.wI a i v) (h : wsLi a i) : KLi σ τ := by subst e; exact Ch.wI Ch.rf h

theorem LTB_lt {τ : Sto} {S : Int → Int → Int → Prop} {t f o y : Int} (h : LTB τ S o) (t0 : 0 ≤ t) (t1 : t < 24000) (hs : SLR τ t f y) (hy : τ.I 661 y = 0) (hF : ∀ f' o', S t f' o' → f' = f) : τ.I 555 148 < 24000 := by
  obtain ⟨hT, hH, a, b, c, d, e⟩ := h
  have nm := LTB_nm hT hH t0 t1 hs hy
  have nt : ¬ ∃ k, 0 ≤ k ∧ k < τ.I 555 148 ∧ τ.I 662 k = t := by
    rintro ⟨k, k0, k1, k2⟩
    obtain ⟨o', q⟩ := b k k0 k1
    rw [k2] at q
    exact nm k k0 k1 (hF _ _ q) (by rw [k2]; exact teM_rf hT t0 t1)
  have ct := cn_one (p := fun t' => ∃ k, 0 ≤ k ∧ k < τ.I 555 148 ∧ τ.I 662 k = t') (q := fun t' => (∃ k, 0 ≤ k ∧ k < τ.I 555 148 ∧ τ.I 662 k = t') ∨ t' = t) (h := t) (fun _ => Iff.rfl) nt t0 24000
  rw [show ((24000 : Nat) : Int) = 24000 from rfl, if_pos t1, ← hH.2.2.2.1] at ct
  have := cn_in (fun t' => (∃ k, 0 ≤ k ∧ k < τ.I 555 148 ∧ τ.I 662 k = t') ∨ t' = t) 24000
  omega

theorem sp_X9_list {E : XE} {d : Nat} {σ : Sto} {S : Int → Int → Int → Prop} {x1 : Int} {x2 : Int} {x3 : Int} (hd : 4 ≤ d) (hL : Lay σ)  (p0 : 0 ≤ x1 ∧ x1 < 24000) (p1 : inR x2) (p2 : 0 ≤ x3 ∧ x3 < 601) (p3 : LTB σ S x3) (p4 : ∀ f o, S x1 f o → f = x2) : CC E mX9_list d [aO 555, aI (x1), aI (x2), aI (x3)] σ (RV (fun τ => (LTB τ (SSt S x1 x2 x3) x3) ∧ (KLi σ τ))) := by sorry
end
