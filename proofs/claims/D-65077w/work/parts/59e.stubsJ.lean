section
/-! contracts: printed by tools/mk.py out of s98zk_lstA.py -/
set_option maxRecDepth 100000
set_option maxHeartbeats 1200000
/-! all terms of a world -/
def okF (σ : Sto) (g f : Int) : Prop := (0 ≤ g → f = g) ∧ (g < 0 → σ.I 577 f = 0)
def inTk (σ : Sto) (g t f o v : Int) : Prop := (σ.I 595 o ≤ v ∧ v < σ.I 595 o + σ.I 596 o) ∧ σ.I 601 o = 1 ∧ (σ.I 582 v ≤ t ∧ t < σ.I 582 (v + 1)) ∧ σ.I 579 v = f ∧ okF σ g f ∧ σ.I 602 f ≠ 0
def VS (σ : Sto) (g o v t : Int) : Int → Int → Int → Prop := fun t' f' o' => ∃ v', inTk σ g t' f' o' v' ∧ 0 ≤ o' ∧ (o' < o ∨ (o' = o ∧ (v' < v ∨ (v' = v ∧ t' < t))))
/-- what is in the world, of the first n objects -/
def VW (σ : Sto) (g n : Int) : Int → Int → Int → Prop := fun t f o => (0 ≤ o ∧ o < n) ∧ ∃ v, inTk σ g t f o v
section VSS
variable {σ τ : Sto} {S S' : Int → Int → Int → Prop} {g o v t f n x : Int}
theorem LTB_cg (h : LTB τ S x) (e : ∀ t f o, S t f o ↔ S' t f o) : LTB τ S' x := by
  have : S = S' := funext fun a => funext fun b => funext fun c => propext (e a b c)
  rw [← this]; exact h
theorem LTB_up (h : LTB τ S x) : LTB τ S (x + 1) := by
  obtain ⟨a, b, c, d, e, f, k⟩ := h
  refine ⟨a, b, fun t f o q => ?_, d, e, f, fun i i0 i1 => ?_⟩
  · have := c t f o q; omega
  · have z := k i i0 i1
    refine ⟨by omega, fun w => by omega, fun w => ?_⟩
    obtain ⟨t, q, _⟩ := w
    have := c _ _ _ q
    omega
theorem VS_t (hv : σ.I 595 o ≤ v ∧ v < σ.I 595 o + σ.I 596 o) (ho : 0 ≤ o) (hw : σ.I 601 o = 1) (ht : σ.I 582 v ≤ t ∧ t < σ.I 582 (v + 1)) (hf : σ.I 579 v = f) (hk : okF σ g f) (hs : σ.I 602 f ≠ 0) (t' f' o' : Int) : SSt (VS σ g o v t) t f o t' f' o' ↔ VS σ g o v (t + 1) t' f' o' := by
  constructor
  · rintro (⟨v', a, b, c⟩ | ⟨q1, q2, q3⟩)
    · exact ⟨v', a, b, by omega⟩
    · exact ⟨v, by rw [q1, q2, q3]; exact ⟨hv, hw, ht, hf, hk, hs⟩, by omega, by omega⟩
  · rintro ⟨v', a, b, c⟩
    rcases (show (o' < o ∨ (o' = o ∧ (v' < v ∨ (v' = v ∧ t' < t)))) ∨ (o' = o ∧ v' = v ∧ t' = t) by omega) with z | ⟨z1, z2, z3⟩
    · exact Or.inl ⟨v', a, b, z⟩
    · refine Or.inr ⟨z3, ?_, z1⟩
      have := a.2.2.2.1
      rw [z2] at this
      exact this.symm.trans hf
theorem VS_v (h : σ.I 582 (v + 1) ≤ t ∨ ¬ (okF σ g (σ.I 579 v) ∧ σ.I 602 (σ.I 579 v) ≠ 0)) (t' f' o' : Int) : VS σ g o v t t' f' o' ↔ VS σ g o (v + 1) (σ.I 582 (v + 1)) t' f' o' := by
  constructor
  · rintro ⟨v', a, b, c⟩
    exact ⟨v', a, b, by omega⟩
  · rintro ⟨v', a, b, c⟩
    refine ⟨v', a, b, ?_⟩
    have at1 := a.2.2.1
    rcases (show (o' < o ∨ (o' = o ∧ v' < v)) ∨ (o' = o ∧ v' = v) ∨ (o' = o ∧ v' = v + 1 ∧ t' < σ.I 582 (v + 1)) by omega) with z | ⟨z1, z2⟩ | ⟨z1, z2, z3⟩
    · omega
    · rcases h with h | h
      · rw [z2] at at1; omega
      · exfalso
        have q := a.2.2.2
        rw [z2] at q
        rw [← q.1] at q
        exact h ⟨q.2.1, q.2.2⟩
    · rw [z2] at at1; omega
theorem VS_o (h : σ.I 601 o = 0 ∨ σ.I 595 o + σ.I 596 o ≤ v) (t' f' o' : Int) : VS σ g o v t t' f' o' ↔ VS σ g (o + 1) (σ.I 595 (o + 1)) (σ.I 582 (σ.I 595 (o + 1))) t' f' o' := by
  constructor
  · rintro ⟨v', a, b, c⟩
    exact ⟨v', a, b, by omega⟩
  · rintro ⟨v', a, b, c⟩
    refine ⟨v', a, b, ?_⟩
    have a1 := a.1
    have a2 := a.2.1
    have a3 := a.2.2.1
    rcases (show o' < o ∨ o' = o ∨ o' = o + 1 by omega) with z | z | z
    · omega
    · rw [z] at a1 a2; omega
    · rcases (show v' < σ.I 595 (o + 1) ∨ (v' = σ.I 595 (o + 1) ∧ t' < σ.I 582 (σ.I 595 (o + 1))) by omega) with w | ⟨w, w2⟩
      · rw [z] at a1; omega
      · rw [w] at a3; omega
theorem VS_w (t' f' o' : Int) : VS σ g n (σ.I 595 n) (σ.I 582 (σ.I 595 n)) t' f' o' ↔ VW σ g n t' f' o' := by
  constructor
  · rintro ⟨v', a, b, c⟩
    have a1 := a.1
    have a3 := a.2.2.1
    refine ⟨⟨b, ?_⟩, v', a⟩
    rcases (show o' < n ∨ (o' = n ∧ v' < σ.I 595 n) ∨ (o' = n ∧ v' = σ.I 595 n ∧ t' < σ.I 582 (σ.I 595 n)) by omega) with z | ⟨z, w⟩ | ⟨z, w, y⟩
    · exact z
    · rw [z] at a1; omega
    · rw [w] at a3; omega
  · rintro ⟨⟨b, c⟩, v', a⟩
    exact ⟨v', a, b, Or.inl c⟩
theorem VS_e (h : Ch wsLi σ τ) : VS τ = VS σ := by
  have e : ∀ c, c = 577 ∨ c = 579 ∨ c = 582 ∨ c = 595 ∨ c = 596 ∨ c = 601 ∨ c = 602 → τ.I c = σ.I c := fun c q => funext fun i => h.2 _ _ (by unfold wsLi; omega)
  funext g o v t a b c
  unfold VS inTk okF
  rw [e 577 (by omega), e 579 (by omega), e 582 (by omega), e 595 (by omega), e 596 (by omega), e 601 (by omega), e 602 (by omega)]
theorem okF_e (h : Ch wsLi σ τ) : okF τ g f ↔ okF σ g f := by unfold okF; rw [show τ.I 577 f = σ.I 577 f from h.2 _ _ (by unfold wsLi; omega)]
theorem LTB_0 (h1 : TRW τ) (h2 : bd_0_23999 τ 662 24000) (h3 : τ.I 555 148 = 0) (h4 : ∀ s, 0 ≤ s → s < 65536 → τ.I 661 s = 0) (hS : ∀ t f o, ¬ S t f o) : LTB τ S 0 := by
  refine ⟨h1, ⟨by omega, fun s a b => by rw [h4 s a b]; omega, ?_, ?_, h2, fun k a b => by omega, fun k l a b => by omega⟩, fun t f o q => absurd q (hS t f o), fun k a b => by omega, fun t f o q => absurd q (hS t f o), fun k a b => by omega, fun k a b => by omega⟩
  · rw [h3]; exact (cn_no (p := fun s => 0 < τ.I 661 s) 65536 (fun j a b => by rw [h4 j a (by omega)]; omega)).symm
  · rw [h3]; exact (cn_no (p := fun t => ∃ k, 0 ≤ k ∧ k < (0 : Int) ∧ τ.I 662 k = t) 24000 (fun j a b => fun ⟨k, x, y, z⟩ => by omega)).symm
theorem VT_mo (hV : VT σ n) {a b : Int} (h0 : 0 ≤ a) (h : a ≤ b) (hb : b ≤ n) : σ.I 582 a ≤ σ.I 582 b := by
  obtain ⟨m, hm⟩ := Int.eq_ofNat_of_zero_le (show 0 ≤ b - a by omega)
  have e : b = a + m := by omega
  subst e
  clear hm h
  induction m with
  | zero => exact Int.le_of_eq (by congr 1; omega)
  | succ m ih =>
    have q := ih (by omega)
    have w := (hV (a + m) (by omega) (by omega)).1
    unfold tcM at w
    rw [show a + ((m + 1 : Nat) : Int) = a + m + 1 by omega]
    omega
theorem VS_f (hV : VT σ n) (hO : ∀ o, 0 ≤ o → o < 601 → σ.I 601 o = 1 → 0 ≤ σ.I 595 o ∧ σ.I 595 o + σ.I 596 o ≤ n) (ho : o < 601) (hv : 0 ≤ v ∧ v < n) (ht : σ.I 582 v ≤ t ∧ t < σ.I 582 (v + 1)) {s : Int} {f' o' : Int} (h : VS σ g o v s t f' o') : f' = σ.I 579 v := by
  obtain ⟨v', a, b, c⟩ := h
  have q := hO o' b (by omega) a.2.1
  have a1 := a.1
  have a3 := a.2.2.1
  rcases (show v' < v ∨ v' = v ∨ v < v' by omega) with z | z | z
  · have := VT_mo hV (a := v' + 1) (b := v) (by omega) (by omega) (by omega); omega
  · rw [← z]; exact a.2.2.2.1.symm
  · have := VT_mo hV (a := v + 1) (b := v') (by omega) (by omega) (by omega); omega
end VSS

theorem sp_X9_listAll {E : XE} {d : Nat} {σ : Sto} {x1 : Int} (hd : 6 ≤ d) (hL : Lay σ)  (p0 : inR x1) (p1 : 0 ≤ σ.I 555 52 ∧ σ.I 555 52 ≤ 600) (p2 : OB σ 595 596) (p3 : VT σ (σ.I 555 30)) (p4 : σ.I 555 30 ≤ 6000) (p5 : WOB σ) (p6 : bd_0_1 σ 601 601) (p7 : ∀ v, 0 ≤ v → v < σ.I 555 30 → 0 ≤ σ.I 579 v ∧ σ.I 579 v < 12) (p8 : TRW σ) (p9 : bd_0_23999 σ 662 24000) : CC E mX9_listAll d [aO 555, aI (x1)] σ (RV (fun τ => (LTB τ (VW σ x1 (σ.I 555 52)) (σ.I 555 52)) ∧ (KLi σ τ))) := by sorry
end
section
/-! contracts: printed by tools/mk.py out of s98zl_keepF.py -/
set_option maxRecDepth 100000
set_option maxHeartbeats 1200000
/-! the ten first of the list -/
def wsKf (c : Nat) (i : Int) : Prop := 667 ≤ c ∧ c ≤ 669 ∨ (c = 555 ∧ i = 154)
abbrev KKf (σ τ : Sto) : Prop := Ch wsKf σ τ
theorem KKf_rf {σ : Sto} : KKf σ σ := Ch.rf
theorem KKf_w {σ τ : Sto} {a : Nat} {i v : Int} (e : τ = σ.wI a i v) (h : wsKf a i) : KKf σ τ := by subst e; exact Ch.wI Ch.rf h
def tkF (σ : Sto) (x : Int) : Int → Prop := fun k => (0 ≤ k ∧ k < x) ∧ σ.I 665 k ≤ 2
theorem lbM_e {σ τ : Sto} (h : Ch wsKf σ τ) : lbM τ = lbM σ := by
  have e : ∀ c, c = 662 ∨ c = 663 ∨ c = 665 ∨ c = 586 ∨ c = 587 → τ.I c = σ.I c := fun c q => funext fun i => h.2 _ _ (by unfold wsKf; omega)
  funext a b
  unfold lbM odM
  rw [e 662 (by omega), e 663 (by omega), e 665 (by omega), e 586 (by omega), e 587 (by omega)]
/-- an entry is on its way in -/
def SHF (σ τ : Sto) (x p : Int) : Prop := ∃ φ : Int → Int, TopK (tkF σ x) (lbM σ) 10 (τ.I 555 154) φ ∧ (∀ i, 0 ≤ i → i < p → τ.I 669 i = φ i) ∧ (∀ i, p < i → i ≤ τ.I 555 154 → τ.I 669 i = φ (i - 1)) ∧ ∀ i, p ≤ i → i < τ.I 555 154 → lbM σ x (φ i)
def TKF (σ τ : Sto) (x : Int) : Prop := TopK (tkF σ x) (lbM σ) 10 (τ.I 555 154) (τ.I 669)
theorem TKF_0 {σ τ : Sto} (h : τ.I 555 154 = 0) : TKF σ τ 0 := by
  unfold TKF; rw [h]; exact TopK_0 (fun x z => by have := z.1; omega) (by omega)
theorem TKF_n {σ τ : Sto} {x : Int} (h : TKF σ τ x) (hn : 2 < σ.I 665 x) : TKF σ τ (x + 1) := by
  refine TopK_cg h (fun y => ?_) (fun _ _ _ _ => Iff.rfl) (fun _ _ _ => rfl)
  constructor
  · rintro ⟨z1, z2⟩
    rcases (show y < x ∨ y = x by omega) with w | w
    · exact ⟨⟨z1.1, w⟩, z2⟩
    · rw [w] at z2; omega
  · rintro ⟨z1, z2⟩; exact ⟨⟨z1.1, by omega⟩, z2⟩
theorem SHF_0 {σ τ : Sto} {x : Int} (h : TKF σ τ x) : SHF σ τ x (τ.I 555 154) := ⟨τ.I 669, h, fun _ _ _ => rfl, fun i a b => by omega, fun i a b => by omega⟩
theorem SHF_s {σ τ υ : Sto} {x p : Int} (h : SHF σ τ x p) (hp : 0 < p) (hn : p ≤ τ.I 555 154) (hl : lbM σ x (τ.I 669 (p - 1))) (e : υ = τ.wI 669 p (τ.I 669 (p - 1))) : SHF σ υ x (p - 1) := by
  obtain ⟨φ, a, b, c, d⟩ := h
  have e1 : υ.I 555 154 = τ.I 555 154 := by rw [e, I_ne _ _ _ _ (by decide)]
  have bp := b (p - 1) (by omega) (by omega)
  refine ⟨φ, by rw [e1]; exact a, fun i i0 i1 => ?_, fun i i0 i1 => ?_, fun i i0 i1 => ?_⟩
  · rw [e, I_nj _ _ _ _ (by omega)]; exact b i i0 (by omega)
  · rcases (show i = p ∨ p < i by omega) with z | z
    · rw [z, e, I_same, bp]
    · rw [e, I_nj _ _ _ _ (by omega)]; exact c i z (by omega)
  · rcases (show i = p - 1 ∨ p ≤ i by omega) with z | z
    · rw [z, ← bp]; exact hl
    · exact d i z (by omega)
theorem SHF_e {σ τ υ : Sto} {x p N : Int} (h : SHF σ τ x p) (hp : 0 ≤ p) (hn : p ≤ τ.I 555 154) (hw : σ.I 665 x ≤ 2) (hx : 0 ≤ x ∧ x < N) (ho : STO (fun k => 0 ≤ k ∧ k < N) (lbM σ)) (hl : 0 < p → ¬ lbM σ x (τ.I 669 (p - 1))) (e : ∀ i, υ.I 669 i = if i = p then x else τ.I 669 i) (e2 : υ.I 555 154 = min 10 (τ.I 555 154 + 1)) : TKF σ υ (x + 1) := by
  obtain ⟨φ, a, b, c, d⟩ := h
  unfold TKF
  rw [e2]
  have t := TopK_ins (x := x) (n' := min 10 (τ.I 555 154 + 1)) (f' := υ.I 669) (p := p) a (fun z => by have := z.1; omega) (ho.mono (fun y hy => by
    rcases hy with w | w
    · have := w.1; omega
    · omega)) ⟨hp, hn⟩ (fun i a c => d i a c) (fun q => by rw [← b (p - 1) (by omega) (by omega)]; exact hl q) (by omega) rfl (fun i i0 i1 => by
      rw [e]
      rcases (show i < p ∨ i = p ∨ p < i by omega) with z | z | z
      · rw [if_neg (by omega), if_pos z]; exact b i i0 z
      · rw [if_pos z, if_neg (by omega), if_pos z]
      · rw [if_neg (by omega), if_neg (by omega), if_neg (by omega)]; exact c i z (by omega))
  refine TopK_cg t (fun y => ?_) (fun _ _ _ _ => Iff.rfl) (fun _ _ _ => rfl)
  constructor
  · rintro ⟨z1, z2⟩
    rcases (show y < x ∨ y = x by omega) with w | w
    · exact Or.inl ⟨⟨z1.1, w⟩, z2⟩
    · exact Or.inr w
  · rintro (⟨z1, z2⟩ | z)
    · exact ⟨⟨z1.1, by omega⟩, z2⟩
    · rw [z]; exact ⟨⟨hx.1, by omega⟩, hw⟩
theorem SHF_b {σ τ : Sto} {x p i : Int} (h : SHF σ τ x p) (hp : p ≤ τ.I 555 154) (h0 : 0 ≤ i) (h1 : i < p) : 0 ≤ τ.I 669 i ∧ τ.I 669 i < x := by
  obtain ⟨φ, a, b, c, d⟩ := h
  rw [b i h0 h1]
  exact (a.2.1 i h0 (by omega)).1
/-- what is told of them -/
def FR3 (σ τ : Sto) (j : Int) : Prop := τ.I 668 (3 * j) = σ.I 587 (σ.I 662 (τ.I 669 j)) ∧ τ.I 668 (3 * j + 1) = σ.I 663 (τ.I 669 j) ∧ τ.I 668 (3 * j + 2) = σ.I 665 (τ.I 669 j)
def FRB (σ τ : Sto) (j m : Int) : Prop := ∀ k, 0 ≤ k → k < m → τ.I 667 (20 * j + k) = σ.I 586 (20 * σ.I 662 (τ.I 669 j) + k)
def FRA (σ τ : Sto) (x : Int) : Prop := ∀ j, 0 ≤ j → j < x → FR3 σ τ j ∧ FRB σ τ j (σ.I 587 (σ.I 662 (τ.I 669 j)))
theorem FRA_w {σ τ υ : Sto} {x : Int} (h : FRA σ τ x) (e9 : ∀ i, υ.I 669 i = τ.I 669 i) (e8 : ∀ i, i < 3 * x → υ.I 668 i = τ.I 668 i) (e7 : ∀ i, i < 20 * x → υ.I 667 i = τ.I 667 i) (hz : bd_0_20 σ 587 24000) (hb : bd_0_23999 σ 662 24000) (hq : ∀ j, 0 ≤ j → j < x → 0 ≤ τ.I 669 j ∧ τ.I 669 j < 24000) : FRA σ υ x := by
  intro j j0 j1
  obtain ⟨⟨a1, a2, a3⟩, b⟩ := h j j0 j1
  have q := hq j j0 j1
  have w := hb _ q.1 q.2
  have s := hz _ w.1 (by omega)
  unfold FR3 FRB
  rw [e9, e8 _ (by omega), e8 _ (by omega), e8 _ (by omega)]
  refine ⟨⟨a1, a2, a3⟩, fun k k0 k1 => ?_⟩
  rw [e7 _ (by omega)]
  exact b k k0 k1
theorem TKF_w {σ τ υ : Sto} {x : Int} (h : TKF σ τ x) (e9 : ∀ i, υ.I 669 i = τ.I 669 i) (e : υ.I 555 154 = τ.I 555 154) : TKF σ υ x := by
  unfold TKF; rw [e, show υ.I 669 = τ.I 669 from funext e9]; exact h

theorem sp_X9_keepFirst {E : XE} {d : Nat} {σ : Sto}  (hd : 6 ≤ d) (hL : Lay σ)  (p0 : 0 ≤ (σ.I 555 148) ∧ (σ.I 555 148) ≤ 24000) (p1 : TRW σ) (p2 : bd_0_23999 σ 662 24000) (p3 : STO (fun k => 0 ≤ k ∧ k < (σ.I 555 148)) (lbM σ)) : CC E mX9_keepFirst d [aO 555] σ (RVI (fun y τ => (y = τ.I 555 154) ∧ (TKF σ τ (σ.I 555 148)) ∧ (FRA σ τ (τ.I 555 154)) ∧ (KKf σ τ))) := by sorry
end
section
/-! contracts: printed by tools/mk.py out of s98zm_trmM.py -/
set_option maxRecDepth 100000
set_option maxHeartbeats 1200000
/-! terms of a world: the model -/
def TS0 (σ ς : Sto) : Prop := (ς.R = σ.R ∧ ς.sh = σ.sh ∧ ς.n = σ.n) ∧ ς.I = fun c i => if c = 599 then σ.I c i + cn (fun s => nOf (σ.I 598) (σ.I 555 58) s = i) (σ.I 555 57) else if c = 555 ∧ (i = 2 ∨ i = 154) then 0 else σ.I c i
theorem TS0_c {σ ς : Sto} (h : TS0 σ ς) {c : Nat} {i : Int} (q : c ≠ 599) (q2 : ¬ (c = 555 ∧ (i = 2 ∨ i = 154))) : ς.I c i = σ.I c i := by rw [h.2]; show (if _ then _ else if _ then _ else _) = _; rw [if_neg q, if_neg q2]
def wsTw (c : Nat) (i : Int) : Prop := wsQ c i ∨ c = 665
noncomputable def wtM (σ : Sto) (n sp k : Int) : Int := if sp ≠ 0 then ed (σ.I 557) 0 (σ.I 586) (20 * σ.I 662 k) (min n 20) (σ.I 587 (σ.I 662 k)) else if zb (n ≤ σ.I 587 (σ.I 662 k) ∧ eqA (σ.I 586) (σ.I 557) (20 * σ.I 662 k) 0 n) = 1 then 0 else 3
theorem wtM_e {σ τ : Sto} (h : Ch wsTw σ τ) : wtM τ = wtM σ := by
  have e : ∀ c, c = 557 ∨ c = 586 ∨ c = 587 ∨ c = 662 → τ.I c = σ.I c := fun c q => funext fun i => h.2 _ _ (by unfold wsTw wsQ; omega)
  funext n sp k
  unfold wtM
  rw [e 557 (by omega), e 586 (by omega), e 587 (by omega), e 662 (by omega)]
theorem LTB_w {τ υ : Sto} {S : Int → Int → Int → Prop} {x : Int} (h : LTB τ S x) (e : ∀ c i, (661 ≤ c ∧ c ≤ 664) ∨ c = 666 ∨ c = 586 ∨ c = 587 ∨ (c = 555 ∧ i = 148) → υ.I c i = τ.I c i) : LTB υ S x := by
  obtain ⟨hT, hH, a, b, c, d, f⟩ := h
  have e2 : υ.I 662 = τ.I 662 := funext fun i => e _ _ (by omega)
  have e3 : υ.I 663 = τ.I 663 := funext fun i => e _ _ (by omega)
  have e4 : υ.I 664 = τ.I 664 := funext fun i => e _ _ (by omega)
  have e6 : υ.I 666 = τ.I 666 := funext fun i => e _ _ (by omega)
  have en : υ.I 555 148 = τ.I 555 148 := e _ _ (by omega)
  have e5 : teM υ = teM τ := teM_e (fun c i q => e c i (by omega))
  refine ⟨TRW_e hT (fun c i q => e c i (by omega)), HTB_e hH (fun c i q => e c i (by omega)), a, ?_, ?_, ?_, ?_⟩
  · rw [e2, e6, en]; exact b
  · rw [e2, e6, en, e5]; exact c
  · unfold hoM at *; rw [e2, e3, e6, en, e5]; exact d
  · unfold hoM at *; rw [e2, e4, e6, en, e5]; exact f
theorem lbM_sto {τ : Sto} {S : Int → Int → Int → Prop} {x f : Int} (h : LTB τ S x) (hF : ∀ k, 0 ≤ k → k < τ.I 555 148 → τ.I 666 k = f) : STO (fun k => 0 ≤ k ∧ k < τ.I 555 148) (lbM τ) := by
  obtain ⟨hT, hH, _⟩ := h
  have hb : ∀ a, 0 ≤ a ∧ a < τ.I 555 148 → (0 ≤ τ.I 662 a ∧ τ.I 662 a < 24000) ∧ 0 ≤ τ.I 587 (τ.I 662 a) ∧ τ.I 587 (τ.I 662 a) ≤ 20 := fun a q => by
    have z := hH.2.2.2.2.1 a q.1 (by have := hH.1; omega)
    have w := hT.1 _ z.1 (by omega)
    omega
  have ng : ∀ a b, 0 ≤ a ∧ a < τ.I 555 148 → 0 ≤ b ∧ b < τ.I 555 148 → odM τ (τ.I 662 b) (τ.I 662 a) = - odM τ (τ.I 662 a) (τ.I 662 b) := fun a b ha hb' => by
    have q1 := hb a ha
    have q2 := hb b hb'
    exact od_neg _ _ _ _ _ _ 1000 0 (by omega) (by omega) (by omega) (by omega)
  have z0 : ∀ a b, 0 ≤ a ∧ a < τ.I 555 148 → 0 ≤ b ∧ b < τ.I 555 148 → odM τ (τ.I 662 a) (τ.I 662 b) = 0 → a = b := fun a b ha hb' q => hH.2.2.2.2.2.2 a b ha.1 ha.2 hb'.1 hb'.2 ((hF a ha.1 ha.2).trans (hF b hb'.1 hb'.2).symm) q
  have tr : ∀ a b c, 0 ≤ a ∧ a < τ.I 555 148 → 0 ≤ b ∧ b < τ.I 555 148 → 0 ≤ c ∧ c < τ.I 555 148 → 0 ≤ odM τ (τ.I 662 a) (τ.I 662 b) → 0 ≤ odM τ (τ.I 662 b) (τ.I 662 c) → 0 ≤ odM τ (τ.I 662 a) (τ.I 662 c) := fun a b c ha hb' hc q w => by
    have q1 := hb a ha
    have q2 := hb b hb'
    have q3 := hb c hc
    exact od_tr _ _ _ _ _ _ _ _ _ 1000 0 (by omega) (by omega) (by omega) (by omega) (by omega) q w
  refine ⟨fun a ha q => ?_, fun a b c ha hb' hc q w => ?_, fun a b ha hb' hn => ?_⟩
  · have n1 := ng a a ha ha
    unfold lbM at q
    omega
  · have n1 := ng a b ha hb'
    have n2 := ng b c hb' hc
    have n3 := ng a c ha hc
    have t1 := tr c b a hc hb' ha
    have t2 := z0 a c ha hc
    unfold lbM at q w ⊢
    by_cases e : a = c
    · subst e; omega
    · have t3 : odM τ (τ.I 662 a) (τ.I 662 c) ≠ 0 := fun z => e (t2 z)
      by_cases u : odM τ (τ.I 662 a) (τ.I 662 b) < 0 ∧ odM τ (τ.I 662 b) (τ.I 662 c) < 0
      · have t4 := t1 (by omega) (by omega)
        omega
      · omega
  · have t3 : odM τ (τ.I 662 a) (τ.I 662 b) ≠ 0 := fun z => hn (z0 a b ha hb' z)
    have n1 := ng a b ha hb'
    unfold lbM
    omega
def TR7 (σ τ : Sto) (v f n sp x : Int) : Prop := ∃ ς ω μ, TS0 σ ς ∧ NRW ς ω v ∧ LTB μ (VW ω f (ω.I 555 52)) (ω.I 555 52) ∧ KLi ω μ ∧ Ch wsTw μ τ ∧ ∀ k, 0 ≤ k → k < x → τ.I 665 k = wtM μ n sp k
/-- what is told of the terms -/
def TRM (σ τ : Sto) (v f n sp : Int) : Prop := ∃ ψ, TR7 σ ψ v f n sp (ψ.I 555 148) ∧ TKF ψ τ (ψ.I 555 148) ∧ FRA ψ τ (τ.I 555 154) ∧ KKf ψ τ
theorem TR7_L {σ τ : Sto} {v f n sp x : Int} (h : TR7 σ τ v f n sp x) (hf : 0 ≤ f) : (∃ S y, LTB τ S y) ∧ ∀ k, 0 ≤ k → k < τ.I 555 148 → τ.I 666 k = f := by
  obtain ⟨ς, ω, μ, _, _, l, _, c, _⟩ := h
  have l2 := LTB_w l (υ := τ) (fun c' i q => c.2 _ _ (by unfold wsTw wsQ; omega))
  refine ⟨⟨_, _, l2⟩, fun k k0 k1 => ?_⟩
  obtain ⟨o, q⟩ := l2.2.2.2.1 k k0 k1
  obtain ⟨_, w, z⟩ := q
  exact z.2.2.2.2.1.1 hf
theorem TR7_s {σ τ υ : Sto} {v f n sp x w : Int} (h : TR7 σ τ v f n sp x) (c : Ch wsTw τ υ) (e : υ.I 665 x = w) (e2 : ∀ k, k ≠ x → υ.I 665 k = τ.I 665 k) (hw : w = wtM τ n sp x) : TR7 σ υ v f n sp (x + 1) := by
  obtain ⟨ς, ω, μ, a, b, l, d, c0, g⟩ := h
  refine ⟨ς, ω, μ, a, b, l, d, Ch.tr c0 c, fun k k0 k1 => ?_⟩
  rcases (show k < x ∨ k = x by omega) with z | z
  · rw [e2 k (by omega)]; exact g k k0 z
  · rw [z, e, hw, wtM_e c0]
theorem WKB_d {σ τ : Sto} (h : WKB σ) (e : ∀ c i, c = 635 ∨ c = 573 ∨ c = 630 ∨ c = 629 ∨ c = 633 ∨ c = 622 ∨ c = 621 → τ.I c i = σ.I c i) : WKB τ := by
  obtain ⟨d1, d2, d3, d4, d5, d6, d7⟩ := h
  exact ⟨bd_m1_15_eq d1 (funext fun i => e _ _ (by omega)), bd_0_20_eq d2 (funext fun i => e _ _ (by omega)), bd_0_15_eq d3 (funext fun i => e _ _ (by omega)), bd_0_20_eq d4 (funext fun i => e _ _ (by omega)), bd_0_500_eq d5 (funext fun i => e _ _ (by omega)), bd_0_1000000000000000_eq d6 (funext fun i => e _ _ (by omega)), bd_0_1_eq d7 (funext fun i => e _ _ (by omega))⟩

theorem sp_X9_termsOf {E : XE} {d : Nat} {σ : Sto} {x1 : Int} {x2 : Int} {x3 : Int} (hd : 512 ≤ d) (hL : Lay σ)  (p0 : inR x1) (p1 : 0 ≤ σ.I 555 52 ∧ σ.I 555 52 ≤ 600) (p2 : 0 ≤ σ.I 555 61 ∧ σ.I 555 61 < 4) (p3 : 0 ≤ σ.I 608 (σ.I 555 61) ∧ σ.I 608 (σ.I 555 61) ≤ 400) (p4 : 0 ≤ σ.I 555 27 ∧ σ.I 555 27 ≤ 12) (p5 : BAS σ) (p6 : WKB σ) (p7 : 0 ≤ (if x1 = -1 then σ.I 555 53 else if 0 ≤ x1 ∧ x1 ≤ 3 then σ.I 597 x1 else -1) → WOH σ (if x1 = -1 then σ.I 555 53 else if 0 ≤ x1 ∧ x1 ≤ 3 then σ.I 597 x1 else -1)) (p8 : σ.I 555 61 ≠ 0 → 0 < σ.I 608 (σ.I 555 61) → qok (eQ σ 607 (400 * σ.I 555 61) (σ.I 608 (σ.I 555 61))) = 1) (p9 : inR x2) (p10 : 0 ≤ x3 ∧ x3 ≤ 1) (p11 : (1 ≤ σ.I 555 58 ∧ σ.I 555 58 ≤ 8) ∧ (1 ≤ σ.I 555 57 ∧ σ.I 555 57 ≤ 8)) (p12 : bd_0_1000000 σ 599 8) (p13 : TRW σ) (p14 : bd_0_23999 σ 662 24000) (p15 : inR (if x1 = -1 then σ.I 555 53 else if 0 ≤ x1 ∧ x1 ≤ 3 then σ.I 597 x1 else -1)) (p16 : ∀ v, 0 ≤ v → v < σ.I 555 30 → 0 ≤ σ.I 579 v ∧ σ.I 579 v < 12) (p17 : 0 ≤ σ.I 555 2 ∧ σ.I 555 2 ≤ 30000) : CC E mX9_termsOf d [aO 555, aI (x1), aI (x2), aI (x3)] σ (RVI (fun y τ => ((¬ (0 ≤ (if x1 = -1 then σ.I 555 53 else if 0 ≤ x1 ∧ x1 ≤ 3 then σ.I 597 x1 else -1) ∧ (0 ≤ x2 ∧ x2 < σ.I 555 27) ∧ (σ.I 577 x2 = 0 ∨ σ.I 577 x2 = 1)) ∧ y = -1 ∧ RD σ τ (fun c i => if c = 555 ∧ (i = 2 ∨ i = 154) then 0 else σ.I c i)) ∨ ((0 ≤ (if x1 = -1 then σ.I 555 53 else if 0 ≤ x1 ∧ x1 ≤ 3 then σ.I 597 x1 else -1) ∧ (0 ≤ x2 ∧ x2 < σ.I 555 27) ∧ (σ.I 577 x2 = 0 ∨ σ.I 577 x2 = 1)) ∧ ¬ alN (fun s => 0 ≤ nOf (σ.I 598) (σ.I 555 58) s) (σ.I 555 57) ∧ y = -4 ∧ RD σ τ (fun c i => if c = 555 ∧ (i = 2 ∨ i = 154) then 0 else σ.I c i)) ∨ ((0 ≤ (if x1 = -1 then σ.I 555 53 else if 0 ≤ x1 ∧ x1 ≤ 3 then σ.I 597 x1 else -1) ∧ (0 ≤ x2 ∧ x2 < σ.I 555 27) ∧ (σ.I 577 x2 = 0 ∨ σ.I 577 x2 = 1)) ∧ alN (fun s => 0 ≤ nOf (σ.I 598) (σ.I 555 58) s) (σ.I 555 57) ∧ y = τ.I 555 154 ∧ TRM σ τ (if x1 = -1 then σ.I 555 53 else if 0 ≤ x1 ∧ x1 ≤ 3 then σ.I 597 x1 else -1) x2 (σ.I 555 2) x3)) ∧ (WKB τ))) := by sorry
theorem sp_X9_suggest {E : XE} {d : Nat} {σ : Sto} {x1 : Int} {x2 : Int} (hd : 513 ≤ d) (hL : Lay σ)  (p0 : inR x1) (p1 : 0 ≤ σ.I 555 52 ∧ σ.I 555 52 ≤ 600) (p2 : 0 ≤ σ.I 555 61 ∧ σ.I 555 61 < 4) (p3 : 0 ≤ σ.I 608 (σ.I 555 61) ∧ σ.I 608 (σ.I 555 61) ≤ 400) (p4 : 0 ≤ σ.I 555 27 ∧ σ.I 555 27 ≤ 12) (p5 : BAS σ) (p6 : WKB σ) (p7 : 0 ≤ (if x1 = -1 then σ.I 555 53 else if 0 ≤ x1 ∧ x1 ≤ 3 then σ.I 597 x1 else -1) → WOH σ (if x1 = -1 then σ.I 555 53 else if 0 ≤ x1 ∧ x1 ≤ 3 then σ.I 597 x1 else -1)) (p8 : σ.I 555 61 ≠ 0 → 0 < σ.I 608 (σ.I 555 61) → qok (eQ σ 607 (400 * σ.I 555 61) (σ.I 608 (σ.I 555 61))) = 1) (p9 : inR x2) (p10 : (1 ≤ σ.I 555 58 ∧ σ.I 555 58 ≤ 8) ∧ (1 ≤ σ.I 555 57 ∧ σ.I 555 57 ≤ 8)) (p11 : bd_0_1000000 σ 599 8) (p12 : TRW σ) (p13 : bd_0_23999 σ 662 24000) (p14 : inR (if x1 = -1 then σ.I 555 53 else if 0 ≤ x1 ∧ x1 ≤ 3 then σ.I 597 x1 else -1)) (p15 : ∀ v, 0 ≤ v → v < σ.I 555 30 → 0 ≤ σ.I 579 v ∧ σ.I 579 v < 12) (p16 : 0 ≤ σ.I 555 2 ∧ σ.I 555 2 ≤ 30000) : CC E mX9_suggest d [aO 555, aI (x1), aI (x2)] σ (RVI (fun y τ => ((¬ (0 ≤ (if x1 = -1 then σ.I 555 53 else if 0 ≤ x1 ∧ x1 ≤ 3 then σ.I 597 x1 else -1) ∧ (0 ≤ x2 ∧ x2 < σ.I 555 27) ∧ (σ.I 577 x2 = 0 ∨ σ.I 577 x2 = 1)) ∧ y = -1 ∧ RD σ τ (fun c i => if c = 555 ∧ (i = 2 ∨ i = 154) then 0 else σ.I c i)) ∨ ((0 ≤ (if x1 = -1 then σ.I 555 53 else if 0 ≤ x1 ∧ x1 ≤ 3 then σ.I 597 x1 else -1) ∧ (0 ≤ x2 ∧ x2 < σ.I 555 27) ∧ (σ.I 577 x2 = 0 ∨ σ.I 577 x2 = 1)) ∧ ¬ alN (fun s => 0 ≤ nOf (σ.I 598) (σ.I 555 58) s) (σ.I 555 57) ∧ y = -4 ∧ RD σ τ (fun c i => if c = 555 ∧ (i = 2 ∨ i = 154) then 0 else σ.I c i)) ∨ ((0 ≤ (if x1 = -1 then σ.I 555 53 else if 0 ≤ x1 ∧ x1 ≤ 3 then σ.I 597 x1 else -1) ∧ (0 ≤ x2 ∧ x2 < σ.I 555 27) ∧ (σ.I 577 x2 = 0 ∨ σ.I 577 x2 = 1)) ∧ alN (fun s => 0 ≤ nOf (σ.I 598) (σ.I 555 58) s) (σ.I 555 57) ∧ y = τ.I 555 154 ∧ TRM σ τ (if x1 = -1 then σ.I 555 53 else if 0 ≤ x1 ∧ x1 ≤ 3 then σ.I 597 x1 else -1) x2 (σ.I 555 2) 0)) ∧ (WKB τ))) := by sorry
theorem sp_X9_spell {E : XE} {d : Nat} {σ : Sto} {x1 : Int} {x2 : Int} (hd : 513 ≤ d) (hL : Lay σ)  (p0 : inR x1) (p1 : 0 ≤ σ.I 555 52 ∧ σ.I 555 52 ≤ 600) (p2 : 0 ≤ σ.I 555 61 ∧ σ.I 555 61 < 4) (p3 : 0 ≤ σ.I 608 (σ.I 555 61) ∧ σ.I 608 (σ.I 555 61) ≤ 400) (p4 : 0 ≤ σ.I 555 27 ∧ σ.I 555 27 ≤ 12) (p5 : BAS σ) (p6 : WKB σ) (p7 : 0 ≤ (if x1 = -1 then σ.I 555 53 else if 0 ≤ x1 ∧ x1 ≤ 3 then σ.I 597 x1 else -1) → WOH σ (if x1 = -1 then σ.I 555 53 else if 0 ≤ x1 ∧ x1 ≤ 3 then σ.I 597 x1 else -1)) (p8 : σ.I 555 61 ≠ 0 → 0 < σ.I 608 (σ.I 555 61) → qok (eQ σ 607 (400 * σ.I 555 61) (σ.I 608 (σ.I 555 61))) = 1) (p9 : inR x2) (p10 : (1 ≤ σ.I 555 58 ∧ σ.I 555 58 ≤ 8) ∧ (1 ≤ σ.I 555 57 ∧ σ.I 555 57 ≤ 8)) (p11 : bd_0_1000000 σ 599 8) (p12 : TRW σ) (p13 : bd_0_23999 σ 662 24000) (p14 : inR (if x1 = -1 then σ.I 555 53 else if 0 ≤ x1 ∧ x1 ≤ 3 then σ.I 597 x1 else -1)) (p15 : ∀ v, 0 ≤ v → v < σ.I 555 30 → 0 ≤ σ.I 579 v ∧ σ.I 579 v < 12) (p16 : 0 ≤ σ.I 555 2 ∧ σ.I 555 2 ≤ 30000) : CC E mX9_spell d [aO 555, aI (x1), aI (x2)] σ (RVI (fun y τ => ((¬ (0 ≤ (if x1 = -1 then σ.I 555 53 else if 0 ≤ x1 ∧ x1 ≤ 3 then σ.I 597 x1 else -1) ∧ (0 ≤ x2 ∧ x2 < σ.I 555 27) ∧ (σ.I 577 x2 = 0 ∨ σ.I 577 x2 = 1)) ∧ y = -1 ∧ RD σ τ (fun c i => if c = 555 ∧ (i = 2 ∨ i = 154) then 0 else σ.I c i)) ∨ ((0 ≤ (if x1 = -1 then σ.I 555 53 else if 0 ≤ x1 ∧ x1 ≤ 3 then σ.I 597 x1 else -1) ∧ (0 ≤ x2 ∧ x2 < σ.I 555 27) ∧ (σ.I 577 x2 = 0 ∨ σ.I 577 x2 = 1)) ∧ ¬ alN (fun s => 0 ≤ nOf (σ.I 598) (σ.I 555 58) s) (σ.I 555 57) ∧ y = -4 ∧ RD σ τ (fun c i => if c = 555 ∧ (i = 2 ∨ i = 154) then 0 else σ.I c i)) ∨ ((0 ≤ (if x1 = -1 then σ.I 555 53 else if 0 ≤ x1 ∧ x1 ≤ 3 then σ.I 597 x1 else -1) ∧ (0 ≤ x2 ∧ x2 < σ.I 555 27) ∧ (σ.I 577 x2 = 0 ∨ σ.I 577 x2 = 1)) ∧ alN (fun s => 0 ≤ nOf (σ.I 598) (σ.I 555 58) s) (σ.I 555 57) ∧ y = τ.I 555 154 ∧ TRM σ τ (if x1 = -1 then σ.I 555 53 else if 0 ≤ x1 ∧ x1 ≤ 3 then σ.I 597 x1 else -1) x2 (σ.I 555 2) 1)) ∧ (WKB τ))) := by sorry
end
section
/-! contracts: printed by tools/mk.py out of s98zn_likeO.py -/
set_option maxRecDepth 100000
set_option maxHeartbeats 1200000
/-! likeness of one object -/
theorem smP_l3 {p : Int → Prop} {g g' : Int → Int} : ∀ n : Nat, (∀ k, 0 ≤ k → k < (n : Int) → p k → 0 ≤ g k ∧ g k ≤ g' k) → 0 ≤ smP p g (n : Int) ∧ smP p g (n : Int) ≤ smP p g' (n : Int) := by
  intro n
  induction n with
  | zero => intro _; rw [smP_0 _ _ _ (show ((0 : Nat) : Int) ≤ 0 by omega), smP_0 _ _ _ (show ((0 : Nat) : Int) ≤ 0 by omega)]; omega
  | succ n ih =>
    intro h
    have i2 := ih (fun k a b c => h k a (by omega) c)
    rcases Classical.em (p (n : Int)) with z | z
    · have w := h n (by omega) (by omega) z
      rw [smP_t p g (n : Int) ((n + 1 : Nat) : Int) (by omega) (by omega) z, smP_t p g' (n : Int) ((n + 1 : Nat) : Int) (by omega) (by omega) z]; omega
    · rw [smP_f p g (n : Int) ((n + 1 : Nat) : Int) (by omega) (by omega) z, smP_f p g' (n : Int) ((n + 1 : Nat) : Int) (by omega) (by omega) z]; omega
theorem smP_el {p : Int → Prop} {g : Int → Int} {k : Int} (k0 : 0 ≤ k) (hk : p k) : ∀ n : Nat, (∀ j, 0 ≤ j → j < (n : Int) → p j → 0 ≤ g j) → k < (n : Int) → g k ≤ smP p g (n : Int) := by
  intro n
  induction n with
  | zero => intro _ h; omega
  | succ n ih =>
    intro h hk1
    have nn := (smP_l3 (p := p) (g := g) (g' := g) n (fun j a b c => ⟨h j a (by omega) c, Int.le_refl _⟩)).1
    rcases Classical.em (p (n : Int)) with z | z
    · have w := h n (by omega) (by omega) z
      rw [smP_t p g (n : Int) ((n + 1 : Nat) : Int) (by omega) (by omega) z]
      rcases (show k = n ∨ k < n by omega) with y | y
      · rw [y]; omega
      · have := ih (fun j a b c => h j a (by omega) c) y; omega
    · rw [smP_f p g (n : Int) ((n + 1 : Nat) : Int) (by omega) (by omega) z]
      rcases (show k = n ∨ k < n by omega) with y | y
      · rw [y] at hk; contradiction
      · exact ih (fun j a b c => h j a (by omega) c) y
theorem ci_to {σ : Sto} {o f t a : Int} (hO : OB σ 595 596) (hV : VT σ (σ.I 555 30)) (h0 : 0 ≤ o) (h1 : o < 601) (h2 : σ.I 595 o + σ.I 596 o ≤ σ.I 555 30) : 0 ≤ ciM σ o f t a (σ.I 596 o) ∧ ciM σ o f t a (σ.I 596 o) ≤ mTO σ f o := by
  have ob := hO o h0 h1
  have q := smP_l3 (p := fun j => mV σ f (σ.I 595 o + j)) (g := fun j => cvM σ (σ.I 595 o + j) t a) (g' := fun j => tcM σ (σ.I 595 o + j)) (σ.I 596 o).toNat (fun k k0 k1 _ => by
    have v := hV (σ.I 595 o + k) (by omega) (by omega)
    have c := cp2_in (tqM σ (σ.I 595 o + k) t) (fun i => σ.I 590 (σ.I 582 (σ.I 595 o + k) + i)) a (tcM σ (σ.I 595 o + k))
    exact ⟨c.1, c.2 v.1⟩)
  rw [show (((σ.I 596 o).toNat : Nat) : Int) = σ.I 596 o by omega] at q
  exact q
theorem to_at {σ : Sto} {o f : Int} (hO : OB σ 595 596) (hV : VT σ (σ.I 555 30)) (hW : WOB σ) (h0 : 0 ≤ o) (h1 : o < 601) (hw : σ.I 601 o = 1) : mTO σ f o ≤ mAT σ f :=
  smP_el (p := fun o => σ.I 601 o = 1) (g := fun o => mTO σ f o) h0 hw 601 (fun j a b c => by
    have := mTO_in σ f j hO hV a b (hW j a b c)
    show 0 ≤ mTO σ f j
    omega) h1
noncomputable def fdL (σ : Sto) (i : Int) : Int := σ.I 666 (σ.I 671 i)
noncomputable def cnL (σ : Sto) (f : Int) : Int := cn (fun o => σ.I 601 o = 1 ∧ mHV σ f o) 601
noncomputable def ciL (σ : Sto) (o i : Int) : Int := ciM σ o (σ.I 666 (σ.I 671 i)) (σ.I 662 (σ.I 671 i)) 1 (σ.I 596 o)
noncomputable def wgL (σ : Sto) (o i : Int) : Int := wgh (σ.I 555 98) (lgR (2 * cnL σ (fdL σ i) + 2) (2 * σ.I 663 (σ.I 671 i) + 1)) (ciL σ o i) (mAT σ (fdL σ i)) (mTO σ (fdL σ i) o) (cnL σ (fdL σ i))
def lkH (σ : Sto) (o n : Int) : Prop := exN (fun i => 0 < ciL σ o i) n
noncomputable def lkS (σ : Sto) (o n : Int) : Int := smP (fun i => 0 < ciL σ o i) (fun i => wgL σ o i) n
/-- the heaviest terms are well listed -/
def FVE (σ : Sto) (n : Int) : Prop := ∀ i, 0 ≤ i → i < n → (0 ≤ σ.I 671 i ∧ σ.I 671 i < 24000) ∧ (0 ≤ fdL σ i ∧ fdL σ i < 12) ∧ (0 ≤ σ.I 662 (σ.I 671 i) ∧ σ.I 662 (σ.I 671 i) < 24000) ∧ 0 ≤ σ.I 663 (σ.I 671 i) ∧ σ.I 663 (σ.I 671 i) ≤ cnL σ (fdL σ i)

theorem mAT_b {σ : Sto} {f : Int} (hO : OB σ 595 596) (hV : VT σ (σ.I 555 30)) (hW : WOB σ) : mAT σ f ≤ 3700000 := by
  have key : ∀ n : Nat, (n : Int) ≤ 601 → smP (fun o => σ.I 601 o = 1) (fun o => mTO σ f o) (n : Int) ≤ 6000 * n := by
    intro n
    induction n with
    | zero => intro _; rw [smP_0 _ _ _ (show ((0 : Nat) : Int) ≤ 0 by omega)]; omega
    | succ n ih =>
      intro hn
      have i2 := ih (by omega)
      rcases Classical.em (σ.I 601 (n : Int) = 1) with z | z
      · have w := mTO_in σ f n hO hV (by omega) (by omega) (hW n (by omega) (by omega) z)
        rw [smP_t (fun o => σ.I 601 o = 1) (fun o => mTO σ f o) (n : Int) ((n + 1 : Nat) : Int) (by omega) (by omega) z]; omega
      · rw [smP_f (fun o => σ.I 601 o = 1) (fun o => mTO σ f o) (n : Int) ((n + 1 : Nat) : Int) (by omega) (by omega) z]; omega
  have w := key 601 (by omega)
  have e : mAT σ f = smP (fun o => σ.I 601 o = 1) (fun o => mTO σ f o) 601 := rfl
  rw [show ((601 : Nat) : Int) = 601 from rfl] at w
  rw [e]; omega

theorem sp_X9_likeOne {E : XE} {d : Nat} {σ : Sto} {x1 : Int} {x2 : Int} (hd : 22 ≤ d) (hL : Lay σ)  (p0 : 0 ≤ x1 ∧ x1 < 601) (p1 : 0 ≤ x2 ∧ x2 ≤ 5) (p2 : OB σ 595 596) (p3 : VT σ (σ.I 555 30)) (p4 : σ.I 555 30 ≤ 6000) (p5 : WOB σ) (p6 : bd_0_20 σ 587 24000) (p7 : σ.I 601 x1 = 1) (p8 : FVE σ x2) (p9 : 0 ≤ σ.I 555 115 ∧ σ.I 555 115 < 600) (p10 : bd_0_600 σ 637 600) : CC E mX9_likeOne d [aO 555, aI (x1), aI (x2)] σ (RV (fun τ => (lkH σ x1 x2 → RD σ τ (fun c i => if rg c i 637 (ip (fun j => bfM (σ.I 652) (σ.I 651) (σ.I 555 132) x1 (min 1000000000000000 (lkS σ x1 x2)) (σ.I 637 j) (σ.I 638 j) 0) (σ.I 555 115) + 1) ((σ.I 555 115) + 1) ∨ rg c i 638 (ip (fun j => bfM (σ.I 652) (σ.I 651) (σ.I 555 132) x1 (min 1000000000000000 (lkS σ x1 x2)) (σ.I 637 j) (σ.I 638 j) 0) (σ.I 555 115) + 1) ((σ.I 555 115) + 1) then σ.I c (i - 1) else if at2 c i 637 (ip (fun j => bfM (σ.I 652) (σ.I 651) (σ.I 555 132) x1 (min 1000000000000000 (lkS σ x1 x2)) (σ.I 637 j) (σ.I 638 j) 0) (σ.I 555 115)) then x1 else if at2 c i 638 (ip (fun j => bfM (σ.I 652) (σ.I 651) (σ.I 555 132) x1 (min 1000000000000000 (lkS σ x1 x2)) (σ.I 637 j) (σ.I 638 j) 0) (σ.I 555 115)) then (min 1000000000000000 (lkS σ x1 x2)) else if at2 c i 555 115 then σ.I 555 115 + 1 else σ.I c i)) ∧ (¬ lkH σ x1 x2 → τ = σ))) := by sorry
end
section
/-! contracts: printed by tools/mk.py out of s98zo_likeM.py -/
set_option maxRecDepth 100000
set_option maxHeartbeats 1200000
/-! likeness, in the model -/
theorem bfM_0 {K S : Int → Int} {sd o s p t : Int} : bfM K S sd o s p t 0 ↔ (t < s ∨ (s = t ∧ o < p)) := by
  unfold bfM
  constructor
  · intro h; omega
  · intro h; omega
def LKI (β τ : Sto) (sel : Int → Prop) (sc : Int → Int) (x : Int) : Prop := Ch wsHi β τ ∧ (0 ≤ τ.I 555 115 ∧ τ.I 555 115 ≤ x) ∧ TopK (fun o => (0 ≤ o ∧ o < x) ∧ sel o) (ltN (fun o => - sc o)) 600 (τ.I 555 115) (τ.I 637) ∧ (∀ i, 0 ≤ i → i < τ.I 555 115 → τ.I 638 i = sc (τ.I 637 i)) ∧ bd_0_600 τ 637 600
theorem LKI_0 {β : Sto} {sel : Int → Prop} {sc : Int → Int} (h : β.I 555 115 = 0) (hb : bd_0_600 β 637 600) : LKI β β sel sc 0 := ⟨Ch.rf, by omega, by rw [h]; exact TopK_0 (fun x z => by have := z.1; omega) (by omega), fun i a b => by omega, hb⟩
theorem LKI_no {β τ : Sto} {sel : Int → Prop} {sc : Int → Int} {x : Int} (h : LKI β τ sel sc x) (hs : ¬ sel x) : LKI β τ sel sc (x + 1) := by
  obtain ⟨a, b, c, d, g⟩ := h
  refine ⟨a, by omega, TopK_cg c (fun y => ?_) (fun _ _ _ _ => Iff.rfl) (fun _ _ _ => rfl), d, g⟩
  constructor
  · rintro ⟨z1, z2⟩
    refine ⟨⟨z1.1, ?_⟩, z2⟩
    rcases (show y < x ∨ y = x by omega) with w | w
    · exact w
    · rw [w] at z2; contradiction
  · rintro ⟨z1, z2⟩; exact ⟨⟨z1.1, by omega⟩, z2⟩
theorem LKI_add {β τ υ : Sto} {sel : Int → Prop} {sc : Int → Int} {x : Int} (h : LKI β τ sel sc x) (h0 : 0 ≤ x) (h1 : x < 600) (hs : sel x)
    (e2 : υ.I = fun c i => if rg c i 637 (ip (fun j => bfM (τ.I 652) (τ.I 651) (τ.I 555 132) x (sc x) (τ.I 637 j) (τ.I 638 j) 0) (τ.I 555 115) + 1) ((τ.I 555 115) + 1) ∨ rg c i 638 (ip (fun j => bfM (τ.I 652) (τ.I 651) (τ.I 555 132) x (sc x) (τ.I 637 j) (τ.I 638 j) 0) (τ.I 555 115) + 1) ((τ.I 555 115) + 1) then τ.I c (i - 1)
      else if at2 c i 637 (ip (fun j => bfM (τ.I 652) (τ.I 651) (τ.I 555 132) x (sc x) (τ.I 637 j) (τ.I 638 j) 0) (τ.I 555 115)) then x else if at2 c i 638 (ip (fun j => bfM (τ.I 652) (τ.I 651) (τ.I 555 132) x (sc x) (τ.I 637 j) (τ.I 638 j) 0) (τ.I 555 115)) then sc x else if at2 c i 555 115 then τ.I 555 115 + 1 else τ.I c i)
    (r1 : υ.R = τ.R ∧ υ.sh = τ.sh ∧ υ.n = τ.n) : LKI β υ sel sc (x + 1) := by
  obtain ⟨ha, hc, hT, hd, hg⟩ := h
  have cc : ∀ c i, ¬ wsHi c i → τ.I c i = β.I c i := ha.2
  obtain ⟨p, hp⟩ : ∃ p, p = ip (fun j => bfM (τ.I 652) (τ.I 651) (τ.I 555 132) x (sc x) (τ.I 637 j) (τ.I 638 j) 0) (τ.I 555 115) := ⟨_, rfl⟩
  have ipb := ip_b (fun j => bfM (τ.I 652) (τ.I 651) (τ.I 555 132) x (sc x) (τ.I 637 j) (τ.I 638 j) 0) (τ.I 555 115) (by omega)
  rw [← hp] at ipb e2
  have hq : ∀ j, 0 ≤ j → j < τ.I 555 115 → (bfM (τ.I 652) (τ.I 651) (τ.I 555 132) x (sc x) (τ.I 637 j) (τ.I 638 j) 0 ↔ ltN (fun o => - sc o) x (τ.I 637 j)) := fun j j0 j1 => by
    have s := hT.2.1 j j0 j1
    have k := hd j j0 j1
    have s1 := s.1
    rw [bfM_0, k]
    show _ ↔ (- sc x < - sc (τ.I 637 j) ∨ (- sc x = - sc (τ.I 637 j) ∧ x < τ.I 637 j))
    omega
  have hn1 : υ.I 555 115 = τ.I 555 115 + 1 := by
    rw [e2]; show (if rg _ _ _ _ _ ∨ rg _ _ _ _ _ then _ else if at2 _ _ _ _ then _ else if at2 _ _ _ _ then _ else if at2 _ _ _ _ then _ else _) = _
    rw [if_neg (fun z => z.elim (fun y => absurd y.1 (by decide)) (fun y => absurd y.1 (by decide))), if_neg (fun z => absurd z.1 (by decide)), if_neg (fun z => absurd z.1 (by decide)), if_pos ⟨rfl, rfl⟩]
  have hh : ∀ i, 0 ≤ i → i < τ.I 555 115 + 1 → υ.I 637 i = if i < p then τ.I 637 i else if i = p then x else τ.I 637 (i - 1) := fun i i0 i1 => by
    rw [e2]; show (if rg _ _ _ _ _ ∨ rg _ _ _ _ _ then _ else if at2 _ _ _ _ then _ else if at2 _ _ _ _ then _ else if at2 _ _ _ _ then _ else _) = _
    rcases (show i < p ∨ i = p ∨ p < i by omega) with z | z | z
    · rw [if_pos z, if_neg (fun y => y.elim (fun w => by have := w.2.1; omega) (fun w => absurd w.1 (by decide))), if_neg (fun y => by have := y.2; omega), if_neg (fun y => absurd y.1 (by decide)), if_neg (fun y => absurd y.1 (by decide))]
    · rw [if_neg (show ¬ i < p by omega), if_pos z]
      refine (if_neg (fun y => y.elim (fun w => by have := w.2.1; omega) (fun w => absurd w.1 (by decide)))).trans ?_
      exact if_pos ⟨rfl, z⟩
    · rw [if_neg (show ¬ i < p by omega), if_neg (show ¬ i = p by omega)]
      exact (if_pos (Or.inl ⟨rfl, by omega, by omega⟩))
  have hz : ∀ i, 0 ≤ i → i < τ.I 555 115 + 1 → υ.I 638 i = if i < p then τ.I 638 i else if i = p then sc x else τ.I 638 (i - 1) := fun i i0 i1 => by
    rw [e2]; show (if rg _ _ _ _ _ ∨ rg _ _ _ _ _ then _ else if at2 _ _ _ _ then _ else if at2 _ _ _ _ then _ else if at2 _ _ _ _ then _ else _) = _
    rcases (show i < p ∨ i = p ∨ p < i by omega) with z | z | z
    · rw [if_pos z, if_neg (fun y => y.elim (fun w => absurd w.1 (by decide)) (fun w => by have := w.2.1; omega)), if_neg (fun y => absurd y.1 (by decide)), if_neg (fun y => by have := y.2; omega), if_neg (fun y => absurd y.1 (by decide))]
    · rw [if_neg (show ¬ i < p by omega), if_pos z]
      refine (if_neg (fun y => y.elim (fun w => absurd w.1 (by decide)) (fun w => by have := w.2.1; omega))).trans ?_
      refine (if_neg (fun y => absurd y.1 (by decide))).trans ?_
      exact (if_pos ⟨rfl, z⟩)
    · rw [if_neg (show ¬ i < p by omega), if_neg (show ¬ i = p by omega)]
      exact (if_pos (Or.inr ⟨rfl, by omega, by omega⟩))
  have ho : ∀ c i, c ≠ 637 → c ≠ 638 → ¬ (c = 555 ∧ i = 115) → υ.I c i = τ.I c i := fun c i a1 a2 a3 => by
    rw [e2]; show (if rg _ _ _ _ _ ∨ rg _ _ _ _ _ then _ else if at2 _ _ _ _ then _ else if at2 _ _ _ _ then _ else if at2 _ _ _ _ then _ else _) = _
    rw [if_neg (fun z => z.elim (fun y => a1 y.1) (fun y => a2 y.1)), if_neg (fun z => a1 z.1), if_neg (fun z => a2 z.1), if_neg (fun z => a3 z)]
  refine ⟨?_, by omega, ?_, fun i i0 i1 => ?_, fun i i0 i1 => ?_⟩
  · refine ⟨⟨r1.1.trans ha.1.1, r1.2.1.trans ha.1.2.1, r1.2.2.trans ha.1.2.2⟩, fun c i q => ?_⟩
    rw [ho c i (fun z => q (by unfold wsHi; omega)) (fun z => q (by unfold wsHi; omega)) (fun z => q (by unfold wsHi; omega))]
    exact cc c i q
  · rw [hn1]
    have t := TopK_ins (n' := τ.I 555 115 + 1) (f' := υ.I 637) (p := p) hT (fun z => by have := z.1; omega) ltN_sto ipb.1 (fun i a c => (hq i (by omega) c).mp (ipb.2.1 i a c)) (fun a c => ipb.2.2 a ((hq (p - 1) (by omega) (by omega)).mpr c)) (by omega) (by omega) (fun i a c => hh i a (by omega))
    refine TopK_cg t (fun y => ?_) (fun _ _ _ _ => Iff.rfl) (fun _ _ _ => rfl)
    constructor
    · rintro ⟨z1, z2⟩
      rcases (show y < x ∨ y = x by omega) with w | w
      · exact Or.inl ⟨⟨z1.1, w⟩, z2⟩
      · exact Or.inr w
    · rintro (⟨z1, z2⟩ | z)
      · exact ⟨⟨z1.1, by omega⟩, z2⟩
      · rw [z]; exact ⟨⟨h0, by omega⟩, hs⟩
  · rw [hn1] at i1
    rw [hz i i0 (by omega), hh i i0 (by omega)]
    rcases (show i < p ∨ i = p ∨ p < i by omega) with z | z | z
    · rw [if_pos z, if_pos z]; exact hd i i0 (by omega)
    · rw [if_neg (by omega), if_pos z, if_neg (by omega), if_pos z]
    · rw [if_neg (by omega), if_neg (by omega), if_neg (by omega), if_neg (by omega)]; exact hd (i - 1) (by omega) (by omega)
  · rcases Int.lt_or_le i (τ.I 555 115 + 1) with w | w
    · rw [hh i i0 w]
      split
      · exact hg i i0 i1
      · split
        · omega
        · exact hg (i - 1) (by omega) (by omega)
    · rw [e2]; show 0 ≤ (if rg _ _ _ _ _ ∨ rg _ _ _ _ _ then _ else if at2 _ _ _ _ then _ else if at2 _ _ _ _ then _ else if at2 _ _ _ _ then _ else _) ∧ (if rg _ _ _ _ _ ∨ rg _ _ _ _ _ then _ else if at2 _ _ _ _ then _ else if at2 _ _ _ _ then _ else if at2 _ _ _ _ then _ else _) ≤ 600
      rw [if_neg (fun y => y.elim (fun z => by have := z.2.2; omega) (fun z => absurd z.1 (by decide))), if_neg (fun y => by have := y.2; omega), if_neg (fun y => absurd y.1 (by decide)), if_neg (fun y => absurd y.1 (by decide))]
      exact hg i i0 i1

/-- the weight of a listed term for an object -/
noncomputable def wt5 (μ : Sto) (o k : Int) : Int := ciM μ o (μ.I 666 k) (μ.I 662 k) 0 (μ.I 596 o) * lgR (2 * cnL μ (μ.I 666 k) + 2) (2 * μ.I 663 k + 1)
def se5 (μ : Sto) (o k : Int) : Prop := ciM μ o (μ.I 666 k) (μ.I 662 k) 0 (μ.I 596 o) ≠ 0
noncomputable def hv5 (μ : Sto) (o a b : Int) : Prop := (wt5 μ o a ≠ wt5 μ o b ∧ wt5 μ o b < wt5 μ o a) ∨ (wt5 μ o a = wt5 μ o b ∧ ((μ.I 666 a ≠ μ.I 666 b ∧ μ.I 666 a < μ.I 666 b) ∨ (μ.I 666 a = μ.I 666 b ∧ odM μ (μ.I 662 a) (μ.I 662 b) < 0)))
theorem hv5_sto {τ : Sto} {S : Int → Int → Int → Prop} {x o : Int} (h : LTB τ S x) : STO (fun k => 0 ≤ k ∧ k < τ.I 555 148) (hv5 τ o) := by
  obtain ⟨hT, hH, _⟩ := h
  have hb : ∀ a, 0 ≤ a ∧ a < τ.I 555 148 → (0 ≤ τ.I 662 a ∧ τ.I 662 a < 24000) ∧ 0 ≤ τ.I 587 (τ.I 662 a) ∧ τ.I 587 (τ.I 662 a) ≤ 20 := fun a q => by
    have z := hH.2.2.2.2.1 a q.1 (by have := hH.1; omega)
    have w := hT.1 _ z.1 (by omega)
    omega
  have ng : ∀ a b, 0 ≤ a ∧ a < τ.I 555 148 → 0 ≤ b ∧ b < τ.I 555 148 → odM τ (τ.I 662 b) (τ.I 662 a) = - odM τ (τ.I 662 a) (τ.I 662 b) := fun a b ha hb' => by
    have q1 := hb a ha
    have q2 := hb b hb'
    exact od_neg _ _ _ _ _ _ 1000 0 (by omega) (by omega) (by omega) (by omega)
  have z0 : ∀ a b, 0 ≤ a ∧ a < τ.I 555 148 → 0 ≤ b ∧ b < τ.I 555 148 → τ.I 666 a = τ.I 666 b → odM τ (τ.I 662 a) (τ.I 662 b) = 0 → a = b := fun a b ha hb' e q => hH.2.2.2.2.2.2 a b ha.1 ha.2 hb'.1 hb'.2 e q
  have tr : ∀ a b c, 0 ≤ a ∧ a < τ.I 555 148 → 0 ≤ b ∧ b < τ.I 555 148 → 0 ≤ c ∧ c < τ.I 555 148 → 0 ≤ odM τ (τ.I 662 a) (τ.I 662 b) → 0 ≤ odM τ (τ.I 662 b) (τ.I 662 c) → 0 ≤ odM τ (τ.I 662 a) (τ.I 662 c) := fun a b c ha hb' hc q w => by
    have q1 := hb a ha
    have q2 := hb b hb'
    have q3 := hb c hc
    exact od_tr _ _ _ _ _ _ _ _ _ 1000 0 (by omega) (by omega) (by omega) (by omega) (by omega) q w
  refine ⟨fun a ha q => ?_, fun a b c ha hb' hc q w => ?_, fun a b ha hb' hn => ?_⟩
  · have n1 := ng a a ha ha
    unfold hv5 at q
    omega
  · have n1 := ng a b ha hb'
    have n2 := ng b c hb' hc
    have n3 := ng a c ha hc
    have t1 := tr c b a hc hb' ha
    unfold hv5 at q w ⊢
    by_cases e : a = c
    · subst e; omega
    · have t3 : τ.I 666 a = τ.I 666 c → odM τ (τ.I 662 a) (τ.I 662 c) ≠ 0 := fun y z => e (z0 a c ha hc y z)
      by_cases u : odM τ (τ.I 662 a) (τ.I 662 b) < 0 ∧ odM τ (τ.I 662 b) (τ.I 662 c) < 0
      · have t4 := t1 (by omega) (by omega)
        omega
      · omega
  · have t3 : τ.I 666 a = τ.I 666 b → odM τ (τ.I 662 a) (τ.I 662 b) ≠ 0 := fun y z => hn (z0 a b ha hb' y z)
    have n1 := ng a b ha hb'
    unfold hv5
    omega
def wsFi (c : Nat) (i : Int) : Prop := c = 670 ∨ c = 671
def sl5 (μ : Sto) (o x : Int) : Int → Prop := fun k => (0 ≤ k ∧ k < x) ∧ se5 μ o k
/-- the five heaviest of the first x -/
def F65 (μ τ : Sto) (o x n : Int) : Prop := Ch wsFi μ τ ∧ (∀ k, 0 ≤ k → k < x → se5 μ o k → τ.I 670 k = wt5 μ o k) ∧ TopK (sl5 μ o x) (hv5 μ o) 5 n (τ.I 671)
def F14 (μ τ : Sto) (o x n p : Int) : Prop := Ch wsFi μ τ ∧ (∀ k, 0 ≤ k → k ≤ x → se5 μ o k → τ.I 670 k = wt5 μ o k) ∧ se5 μ o x ∧ ∃ φ : Int → Int, TopK (sl5 μ o x) (hv5 μ o) 5 n φ ∧ (∀ i, 0 ≤ i → i < p → τ.I 671 i = φ i) ∧ (∀ i, p < i → i ≤ n → τ.I 671 i = φ (i - 1)) ∧ ∀ i, p ≤ i → i < n → hv5 μ o x (φ i)
section FIV
variable {μ τ υ : Sto} {o x n p N : Int}
theorem F65_n (h : F65 μ τ o x n) (hn : ¬ se5 μ o x) : F65 μ τ o (x + 1) n := by
  obtain ⟨a, b, c⟩ := h
  refine ⟨a, fun k k0 k1 hk => ?_, TopK_cg c (fun y => ?_) (fun _ _ _ _ => Iff.rfl) (fun _ _ _ => rfl)⟩
  · rcases (show k < x ∨ k = x by omega) with w | w
    · exact b k k0 w hk
    · rw [w] at hk; contradiction
  · constructor
    · rintro ⟨z1, z2⟩
      rcases (show y < x ∨ y = x by omega) with w | w
      · exact ⟨⟨z1.1, w⟩, z2⟩
      · rw [w] at z2; contradiction
    · rintro ⟨z1, z2⟩; exact ⟨⟨z1.1, by omega⟩, z2⟩
theorem F14_0 (h : F65 μ τ o x n) (hs : se5 μ o x) (e : υ = τ.wI 670 x (wt5 μ o x)) : F14 μ υ o x n n := by
  obtain ⟨a, b, c⟩ := h
  have e1 : υ.I 671 = τ.I 671 := by rw [e]; funext i; exact I_ne _ _ _ _ (by decide)
  refine ⟨by rw [e]; exact Ch.wI a (by unfold wsFi; omega), fun k k0 k1 hk => ?_, hs, τ.I 671, c, fun i _ _ => by rw [e1], fun i p q => by omega, fun i p q => by omega⟩
  rcases (show k < x ∨ k = x by omega) with w | w
  · rw [e, I_nj _ _ _ _ (by omega)]; exact b k k0 w hk
  · rw [w, e, I_same]
theorem F14_s (h : F14 μ τ o x n p) (hp : 0 < p) (hn : p ≤ n) (hl : hv5 μ o x (τ.I 671 (p - 1))) (e : υ = τ.wI 671 p (τ.I 671 (p - 1))) : F14 μ υ o x n (p - 1) := by
  obtain ⟨w, g, s, φ, a, b, c, d⟩ := h
  have bp := b (p - 1) (by omega) (by omega)
  refine ⟨by rw [e]; exact Ch.wI w (by unfold wsFi; omega), fun k k0 k1 hk => by rw [e, I_ne _ _ _ _ (by decide)]; exact g k k0 k1 hk, s, φ, a, fun i i0 i1 => ?_, fun i i0 i1 => ?_, fun i i0 i1 => ?_⟩
  · rw [e, I_nj _ _ _ _ (by omega)]; exact b i i0 (by omega)
  · rcases (show i = p ∨ p < i by omega) with z | z
    · rw [z, e, I_same, bp]
    · rw [e, I_nj _ _ _ _ (by omega)]; exact c i z (by omega)
  · rcases (show i = p - 1 ∨ p ≤ i by omega) with z | z
    · rw [z, ← bp]; exact hl
    · exact d i z (by omega)
theorem F14_b (h : F14 μ τ o x n p) (hp : p ≤ n) {i : Int} (h0 : 0 ≤ i) (h1 : i < p) : (0 ≤ τ.I 671 i ∧ τ.I 671 i < x) ∧ se5 μ o (τ.I 671 i) := by
  obtain ⟨_, _, _, φ, a, b, c, d⟩ := h
  rw [b i h0 h1]
  exact a.2.1 i h0 (by omega)
theorem F14_e (h : F14 μ τ o x n p) (hp : 0 ≤ p) (hn : p ≤ n) (hx : 0 ≤ x ∧ x < N) (ho : STO (fun k => 0 ≤ k ∧ k < N) (hv5 μ o)) (hl : 0 < p → ¬ hv5 μ o x (τ.I 671 (p - 1))) (e : υ = τ.wI 671 p x) : F65 μ υ o (x + 1) (min 5 (n + 1)) := by
  obtain ⟨w, g, s, φ, a, b, c, d⟩ := h
  refine ⟨by rw [e]; exact Ch.wI w (by unfold wsFi; omega), fun k k0 k1 hk => by rw [e, I_ne _ _ _ _ (by decide)]; exact g k k0 (by omega) hk, ?_⟩
  have t := TopK_ins (x := x) (n' := min 5 (n + 1)) (f' := υ.I 671) (p := p) a (fun z => by have := z.1; omega) (ho.mono (fun y hy => by
    rcases hy with w | w
    · have := w.1; omega
    · omega)) ⟨hp, hn⟩ (fun i a c => d i a c) (fun q => by rw [← b (p - 1) (by omega) (by omega)]; exact hl q) (by omega) rfl (fun i i0 i1 => by
      rw [e]
      rcases (show i < p ∨ i = p ∨ p < i by omega) with z | z | z
      · rw [I_nj _ _ _ _ (by omega), if_pos z]; exact b i i0 z
      · rw [z, I_same, if_neg (by omega), if_pos rfl]
      · rw [I_nj _ _ _ _ (by omega), if_neg (by omega), if_neg (by omega)]; exact c i z (by omega))
  refine TopK_cg t (fun y => ?_) (fun _ _ _ _ => Iff.rfl) (fun _ _ _ => rfl)
  constructor
  · rintro ⟨z1, z2⟩
    rcases (show y < x ∨ y = x by omega) with w | w
    · exact Or.inl ⟨⟨z1.1, w⟩, z2⟩
    · exact Or.inr w
  · rintro (⟨z1, z2⟩ | z)
    · exact ⟨⟨z1.1, by omega⟩, z2⟩
    · rw [z]; exact ⟨⟨hx.1, by omega⟩, s⟩
/-- the machine's order is the order -/
theorem F14_hv (h : F14 μ τ o x n p) (hx : 0 ≤ x) {b : Int} (b0 : 0 ≤ b) (b1 : b < x) (hb : se5 μ o b) : hvM τ x b ↔ hv5 μ o x b := by
  obtain ⟨w, g, s, _⟩ := h
  have e : ∀ c, c = 662 ∨ c = 666 ∨ c = 586 ∨ c = 587 → τ.I c = μ.I c := fun c q => funext fun i => w.2 _ _ (by unfold wsFi; omega)
  have g1 := g x hx (Int.le_refl _) s
  have g2 := g b b0 (by omega) hb
  unfold hvM hv5 odM
  rw [show τ.I 670 x = wt5 μ o x from g1, show τ.I 670 b = wt5 μ o b from g2, e 662 (by omega), e 666 (by omega), e 586 (by omega), e 587 (by omega)]
end FIV
end
