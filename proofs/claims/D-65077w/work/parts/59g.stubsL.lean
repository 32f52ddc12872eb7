section
/-! contracts: printed by tools/mk.py out of s98zw_wgtX.py -/
set_option maxRecDepth 100000
set_option maxHeartbeats 1200000
/-! the terms that weigh most: the program -/
def shV (β : Sto) (v : Int) : Prop := ¬ bt32 (β.I 102 1) (β.I 26 v)
noncomputable def ofX (β : Sto) (o t n : Int) : Int := smP (fun j => shV β (β.I 42 o + j)) (fun j => ctX β t (β.I 42 o + j)) n
noncomputable def wtX (β : Sto) (K V o t : Int) : Int := ofX β o t (β.I 43 o) * lgR (2 * β.I 104 (β.I 20 t) + 2) (2 * owX β 102 t K V + 1)
def lt5 (β : Sto) (K V o a b : Int) : Prop := wtX β K V o b < wtX β K V o a ∨ (wtX β K V o a = wtX β K V o b ∧ tfX β a b)
theorem lt5_sto {β : Sto} {K V o : Int} (hU : TUB β) (hz : bd_0_20 β 21 36500) (hc : β.I 18 7 ≤ 36500) : STO (fun t => 0 ≤ t ∧ t < β.I 18 7) (lt5 β K V o) := by
  have hb : ∀ a, (0 ≤ a ∧ a < β.I 18 7) → 0 ≤ β.I 21 a ∧ β.I 21 a ≤ 20 := fun a q => hz a q.1 (by omega)
  have ng : ∀ a b, (0 ≤ a ∧ a < β.I 18 7) → (0 ≤ b ∧ b < β.I 18 7) → odX β b a = - odX β a b := fun a b ha hb' => by
    have q1 := hb a ha
    have q2 := hb b hb'
    exact od_neg _ _ _ _ _ _ 1000 0 (by omega) (by omega) (by omega) (by omega)
  have z1 : ∀ a b, (0 ≤ a ∧ a < β.I 18 7) → (0 ≤ b ∧ b < β.I 18 7) → β.I 20 a = β.I 20 b → odX β a b = 0 → ¬ a < b := fun a b ha hb' hf q w => by
    have q1 := hb a ha
    have q2 := hb b hb'
    obtain ⟨x, y⟩ := od_z _ _ _ _ _ _ 1000 0 (by omega) (by omega) (by omega) (by omega) (by omega) (by omega) q
    refine hU.1 a b ha.1 w hb'.2 ⟨hf, x, fun k k0 k1 => ?_⟩
    have m := y k k0 (by omega)
    have m1 := hU.2 (20 * a + k) (by omega) (by omega)
    have m2 := hU.2 (20 * b + k) (by omega) (by omega)
    omega
  have z0 : ∀ a b, (0 ≤ a ∧ a < β.I 18 7) → (0 ≤ b ∧ b < β.I 18 7) → β.I 20 a = β.I 20 b → odX β a b = 0 → a = b := fun a b ha hb' hf q => by
    have q1 := z1 a b ha hb' hf q
    have q2 := z1 b a hb' ha hf.symm (by have := ng a b ha hb'; omega)
    omega
  have tr : ∀ a b c, (0 ≤ a ∧ a < β.I 18 7) → (0 ≤ b ∧ b < β.I 18 7) → (0 ≤ c ∧ c < β.I 18 7) → 0 ≤ odX β a b → 0 ≤ odX β b c → 0 ≤ odX β a c := fun a b c ha hb' hc' q w => by
    have q1 := hb a ha
    have q2 := hb b hb'
    have q3 := hb c hc'
    exact od_tr _ _ _ _ _ _ _ _ _ 1000 0 (by omega) (by omega) (by omega) (by omega) (by omega) q w
  refine ⟨fun a ha q => ?_, fun a b c ha hb' hc' q w => ?_, fun a b ha hb' hn => ?_⟩
  · have n1 := ng a a ha ha
    unfold lt5 tfX at q
    omega
  · have n1 := ng a b ha hb'
    have n2 := ng b c hb' hc'
    have n3 := ng a c ha hc'
    have t1 := tr c b a hc' hb' ha
    unfold lt5 tfX at q w ⊢
    by_cases e : a = c
    · subst e; omega
    · have t3 : β.I 20 a = β.I 20 c → odX β a c ≠ 0 := fun h z => e (z0 a c ha hc' h z)
      by_cases u : odX β a b < 0 ∧ odX β b c < 0
      · have t4 := t1 (by omega) (by omega)
        by_cases v : β.I 20 a = β.I 20 c
        · have t5 := t3 v
          omega
        · omega
      · omega
  · have n1 := ng a b ha hb'
    unfold lt5 tfX
    by_cases v : β.I 20 a = β.I 20 b
    · have t3 : odX β a b ≠ 0 := fun z => hn (z0 a b ha hb' v z)
      omega
    · omega
def wsWt (c : Nat) (i : Int) : Prop := c = 206 ∨ c = 207 ∨ c = 208 ∨ (c = 0 ∧ i = 92)
def OFZ (τ : Sto) : Prop := ∀ t, 0 ≤ t → t < 36500 → τ.I 206 t = 0
theorem ofX_b {β : Sto} {o t : Int} {N : Int} (hz : ∀ j, 0 ≤ j → j < N → 0 ≤ β.I 32 (β.I 42 o + j) ∧ β.I 32 (β.I 42 o + j) ≤ 250) : ∀ n : Nat, (n : Int) ≤ N → 0 ≤ ofX β o t n ∧ ofX β o t n ≤ 250 * n := by
  intro n
  induction n with
  | zero => intro _; unfold ofX; rw [smP_0 _ _ _ (show ((0 : Nat) : Int) ≤ 0 by omega)]; omega
  | succ n ih =>
    intro hn
    have i2 := ih (by omega)
    have c := cn_in (fun i => β.I 36 (β.I 31 (β.I 42 o + n) + i) = t) (β.I 32 (β.I 42 o + n))
    have z := hz n (by omega) (by omega)
    have e : ctX β t (β.I 42 o + n) = cn (fun i => β.I 36 (β.I 31 (β.I 42 o + n) + i) = t) (β.I 32 (β.I 42 o + n)) := rfl
    unfold ofX at i2 ⊢
    rcases Classical.em (shV β (β.I 42 o + n)) with w | w
    · rw [smP_t _ _ (n : Int) ((n + 1 : Nat) : Int) (by omega) (by omega) w, e]; omega
    · rw [smP_f _ _ (n : Int) ((n + 1 : Nat) : Int) (by omega) (by omega) w]; omega
def W1 (β τ : Sto) (o j m : Int) : Prop := Ch wsWt β τ ∧ ∀ t, 0 ≤ t → t < 36500 → τ.I 206 t = ofX β o t j + cn (fun i => β.I 36 (β.I 31 (β.I 42 o + j) + i) = t) m
theorem W1_0 {β : Sto} {o : Int} (h : OFZ β) : W1 β β o 0 0 := ⟨Ch.rf, fun t a b => by unfold ofX; rw [smP_0 _ _ _ (Int.le_refl _), cn_0 _ _ (Int.le_refl _)]; exact h t a b⟩
theorem W1_z {β τ : Sto} {o j : Int} (h : W1 β τ o j 0) (m : Int) (hm : m ≤ 0) : W1 β τ o j m := ⟨h.1, fun t a b => by rw [cn_0 _ _ hm]; have := h.2 t a b; rw [cn_0 _ _ (Int.le_refl _)] at this; exact this⟩
theorem W1_v {β τ : Sto} {o j m : Int} (h : W1 β τ o j m) (h0 : 0 ≤ j) (hs : shV β (β.I 42 o + j)) (hm : m = β.I 32 (β.I 42 o + j)) : W1 β τ o (j + 1) 0 := by
  refine ⟨h.1, fun t a b => ?_⟩
  rw [cn_0 _ _ (Int.le_refl _), h.2 t a b, hm]
  unfold ofX
  rw [smP_t _ _ j (j + 1) h0 rfl hs, Int.add_zero]; rfl
theorem W1_w {β τ : Sto} {o j m : Int} (h : W1 β τ o j m) (h0 : 0 ≤ j) (hs : ¬ shV β (β.I 42 o + j)) (hm : m ≤ 0) : W1 β τ o (j + 1) 0 := by
  refine ⟨h.1, fun t a b => ?_⟩
  rw [cn_0 _ _ (Int.le_refl _), h.2 t a b, cn_0 _ _ hm]
  unfold ofX
  rw [smP_f _ _ j (j + 1) h0 rfl hs]
theorem W1_e {β τ : Sto} {o j m : Int} (h : W1 β τ o j m) (h0 : 0 ≤ j) (hm0 : 0 ≤ m) (hm : m = β.I 32 (β.I 42 o + j)) (hs : 0 < m → shV β (β.I 42 o + j)) : W1 β τ o (j + 1) 0 := by
  rcases Classical.em (shV β (β.I 42 o + j)) with w | w
  · exact W1_v h h0 w hm
  · exact W1_w h h0 w (by rcases Int.lt_or_le 0 m with z | z; (exact absurd (hs z) w); (exact z))
theorem W1_t {β τ υ : Sto} {o j m t : Int} (h : W1 β τ o j m) (hm : 0 ≤ m) (ht : t = β.I 36 (β.I 31 (β.I 42 o + j) + m)) (e : υ = τ.wI 206 t (τ.I 206 t + 1)) : W1 β υ o j (m + 1) := by
  refine ⟨Ch.tr h.1 ⟨⟨by rw [e]; rfl, by rw [e]; rfl, by rw [e]; rfl⟩, fun c i q => by rw [e, I_ne _ _ _ _ (fun z => q (Or.inl z))]⟩, fun u a b => ?_⟩
  rw [cn_s _ m (m + 1) hm rfl, e]
  by_cases z : u = t
  · rw [z, I_same, h.2 t (by omega) (by omega), zb_t (show β.I 36 (β.I 31 (β.I 42 o + j) + m) = t from ht.symm)]; omega
  · rw [I_nj _ _ _ _ z, h.2 u a b, zb_f (show ¬ β.I 36 (β.I 31 (β.I 42 o + j) + m) = u from fun w => z (by rw [ht, w]))]; omega
def prX (β : Sto) (o v k t : Int) : Prop := exN (fun j => exN (fun i => β.I 36 (β.I 31 (β.I 42 o + j) + i) = t) (β.I 32 (β.I 42 o + j))) v ∨ exN (fun i => β.I 36 (β.I 31 (β.I 42 o + v) + i) = t) k
theorem prX_0 (β : Sto) (o t : Int) : ¬ prX β o 0 0 t := fun h => h.elim (exN_0 _ _ (Int.le_refl _)) (exN_0 _ _ (Int.le_refl _))
theorem prX_v {β : Sto} {o j m t : Int} (h0 : 0 ≤ j) (hm : m = β.I 32 (β.I 42 o + j)) : prX β o (j + 1) 0 t ↔ prX β o j m t := by
  unfold prX
  rw [exN_s _ j (j + 1) h0 rfl, hm]
  exact ⟨fun h => h.elim id (fun z => absurd z (exN_0 _ _ (Int.le_refl _))), fun h => Or.inl h⟩
theorem prX_t {β : Sto} {o j m t : Int} (hm : 0 ≤ m) : prX β o j (m + 1) t ↔ (prX β o j m t ∨ t = β.I 36 (β.I 31 (β.I 42 o + j) + m)) := by
  unfold prX
  rw [exN_s _ m (m + 1) hm rfl]
  exact ⟨fun h => h.elim (fun z => Or.inl (Or.inl z)) (fun z => z.elim (fun w => Or.inl (Or.inr w)) (fun w => Or.inr w.symm)), fun h => h.elim (fun z => z.elim Or.inl (fun w => Or.inr (Or.inl w))) (fun w => Or.inr (Or.inr w.symm))⟩
theorem cn_ex {p : Int → Prop} : ∀ n : Nat, 0 < cn p n → exN p n := by
  intro n
  induction n with
  | zero => intro h; rw [cn_0 _ _ (show ((0 : Nat) : Int) ≤ 0 by omega)] at h; omega
  | succ n ih =>
    intro h
    rw [cn_s p n ((n + 1 : Nat) : Int) (by omega) (by omega)] at h
    rcases zb_cs (p n) with w | w
    · exact ⟨n, by omega, by omega, w.1⟩
    · obtain ⟨k, a, b, c⟩ := ih (by omega)
      exact ⟨k, a, by omega, c⟩
theorem of_pr {β : Sto} {o t : Int} : ∀ n : Nat, 0 < ofX β o t n → prX β o n 0 t := by
  intro n
  induction n with
  | zero => intro h; unfold ofX at h; rw [smP_0 _ _ _ (show ((0 : Nat) : Int) ≤ 0 by omega)] at h; omega
  | succ n ih =>
    intro h
    have e : prX β o ((n + 1 : Nat) : Int) 0 t ↔ prX β o n (β.I 32 (β.I 42 o + n)) t := by
      rw [show ((n + 1 : Nat) : Int) = (n : Int) + 1 by omega]; exact prX_v (by omega) rfl
    rw [e]
    rcases Int.lt_or_le 0 (ofX β o t n) with z | z
    · rcases ih z with w | w
      · exact Or.inl w
      · exact absurd w (exN_0 _ _ (Int.le_refl _))
    · refine Or.inr ?_
      unfold ofX at h z
      rcases Classical.em (shV β (β.I 42 o + n)) with w | w
      · rw [smP_t _ _ (n : Int) ((n + 1 : Nat) : Int) (by omega) (by omega) w] at h
        have e2 : ctX β t (β.I 42 o + n) = cn (fun i => β.I 36 (β.I 31 (β.I 42 o + n) + i) = t) (β.I 32 (β.I 42 o + n)) := rfl
        have h2 : 0 < cn (fun i => β.I 36 (β.I 31 (β.I 42 o + n) + i) = t) (β.I 32 (β.I 42 o + n)) := by rw [← e2]; omega
        have c := cn_in (fun i => β.I 36 (β.I 31 (β.I 42 o + n) + i) = t) (β.I 32 (β.I 42 o + n))
        have q := cn_ex (p := fun i => β.I 36 (β.I 31 (β.I 42 o + n) + i) = t) (β.I 32 (β.I 42 o + n)).toNat (by rw [show (((β.I 32 (β.I 42 o + n)).toNat : Nat) : Int) = β.I 32 (β.I 42 o + n) by omega]; exact h2)
        rw [show (((β.I 32 (β.I 42 o + n)).toNat : Nat) : Int) = β.I 32 (β.I 42 o + n) by omega] at q
        exact q
      · rw [smP_f _ _ (n : Int) ((n + 1 : Nat) : Int) (by omega) (by omega) w] at h; omega
def W2 (β τ : Sto) (K V o : Int) (P : Int → Prop) : Prop := Ch wsWt β τ ∧ (∀ t, 0 ≤ t → t < 36500 → (P t → τ.I 206 t = 0) ∧ (¬ P t → τ.I 206 t = ofX β o t (β.I 43 o))) ∧ TopK (fun t => P t ∧ 0 < ofX β o t (β.I 43 o)) (lt5 β K V o) 5 (τ.I 0 92) (τ.I 207) ∧ (∀ i, 0 ≤ i → i < τ.I 0 92 → τ.I 208 i = wtX β K V o (τ.I 207 i)) ∧ bd_0_36499 τ 207 6
section W2S
variable {β τ υ : Sto} {K V o : Int} {P P' : Int → Prop}
theorem W2_cg (h : W2 β τ K V o P) (e : ∀ t, P' t ↔ P t) : W2 β τ K V o P' := by
  rw [show P' = P from funext fun t => propext (e t)]; exact h
theorem W2_0 (h : W1 β τ o (β.I 43 o) 0) (hb : bd_0_36499 τ 207 6) (e : υ = τ.wI 0 92 0) : W2 β υ K V o (prX β o 0 0) := by
  refine ⟨Ch.tr h.1 ⟨⟨by rw [e]; rfl, by rw [e]; rfl, by rw [e]; rfl⟩, fun c i q => by rw [e, I_ot _ _ _ _ _ _ (fun z => q (by unfold wsWt; omega))]⟩, fun t a b => ⟨fun q => absurd q (prX_0 _ _ _), fun _ => ?_⟩, ?_, fun i a b => ?_, ?_⟩
  · rw [e, I_ne _ _ _ _ (by decide), h.2 t a b, cn_0 _ _ (Int.le_refl _), Int.add_zero]
  · rw [e, I_same]; exact TopK_0 (fun x z => prX_0 _ _ _ z.1) (by omega)
  · rw [e, I_same] at b; omega
  · exact bd_0_36499_eq hb (funext fun i => by rw [e, I_ne _ _ _ _ (by decide)])
theorem W2_n (h : W2 β τ K V o P) {t : Int} (t0 : 0 ≤ t) (t1 : t < 36500) (hz : τ.I 206 t = 0) : W2 β τ K V o (fun u => P u ∨ u = t) := by
  rcases Classical.em (P t) with w | w
  · exact W2_cg h (fun u => ⟨fun q => q.elim id (fun z => by rw [z]; exact w), Or.inl⟩)
  · have hf : ofX β o t (β.I 43 o) = 0 := by rw [← (h.2.1 t t0 t1).2 w]; exact hz
    refine ⟨h.1, fun u a b => ⟨fun q => q.elim (fun z => (h.2.1 u a b).1 z) (fun z => by rw [z]; exact hz), fun q => (h.2.1 u a b).2 (fun z => q (Or.inl z))⟩, TopK_cg h.2.2.1 (fun u => ⟨fun q => ⟨q.1.elim id (fun z => by have q2 := q.2; rw [z] at q2; omega), q.2⟩, fun q => ⟨Or.inl q.1, q.2⟩⟩) (fun _ _ _ _ => Iff.rfl) (fun _ _ _ => rfl), h.2.2.2.1, h.2.2.2.2⟩
theorem W2_y (h : W2 β τ K V o P) {t y : Int} {τ1 : Sto} (t0 : 0 ≤ t) (t1 : t < β.I 18 7) (hc : β.I 18 7 ≤ 36500) (hU : TUB β) (hzz : bd_0_20 β 21 36500) (hP : ∀ u, P u → 0 ≤ u ∧ u < β.I 18 7) (hof : ∀ u, 0 ≤ ofX β o u (β.I 43 o)) (hz : τ.I 206 t ≠ 0) (e1 : τ1 = τ.wI 206 t 0) (hy : y = wtX β K V o t)
    (e2 : υ.I = fun c i => if rg c i 207 (ip (fun j => τ1.I 208 j < y ∨ (y = τ1.I 208 j ∧ tfX τ1 t (τ1.I 207 j))) (τ1.I 0 92) + 1) ((τ1.I 0 92) + 1) ∨ rg c i 208 (ip (fun j => τ1.I 208 j < y ∨ (y = τ1.I 208 j ∧ tfX τ1 t (τ1.I 207 j))) (τ1.I 0 92) + 1) ((τ1.I 0 92) + 1) then τ1.I c (i - 1)
      else if at2 c i 207 (ip (fun j => τ1.I 208 j < y ∨ (y = τ1.I 208 j ∧ tfX τ1 t (τ1.I 207 j))) (τ1.I 0 92)) then t else if at2 c i 208 (ip (fun j => τ1.I 208 j < y ∨ (y = τ1.I 208 j ∧ tfX τ1 t (τ1.I 207 j))) (τ1.I 0 92)) then y else if at2 c i 0 92 then min (τ1.I 0 92 + 1) 5 else τ1.I c i)
    (r1 : υ.R = τ1.R ∧ υ.sh = τ1.sh ∧ υ.n = τ1.n) : W2 β υ K V o (fun u => P u ∨ u = t) := by
  obtain ⟨ha, hO, hT, hd, hg⟩ := h
  have cc : ∀ c i, ¬ wsWt c i → τ.I c i = β.I c i := ha.2
  have hT1 := hT.1
  have nP : ¬ P t := fun q => hz ((hO t t0 (by omega)).1 q)
  have hpos : 0 < ofX β o t (β.I 43 o) := by
    have q := (hO t t0 (by omega)).2 nP
    have q2 := hof t
    rw [q] at hz; omega
  have f1 : ∀ c i, c ≠ 206 → τ1.I c i = τ.I c i := fun c i q => by rw [e1, I_ne _ _ _ _ q]
  have etf : tfX τ1 = tfX β := by
    funext a b; unfold tfX odX
    rw [show τ1.I 20 = β.I 20 from funext fun i => (f1 _ _ (by decide)).trans (cc _ _ (by unfold wsWt; omega)), show τ1.I 19 = β.I 19 from funext fun i => (f1 _ _ (by decide)).trans (cc _ _ (by unfold wsWt; omega)), show τ1.I 21 = β.I 21 from funext fun i => (f1 _ _ (by decide)).trans (cc _ _ (by unfold wsWt; omega))]
  have e207 : τ1.I 207 = τ.I 207 := funext fun i => f1 _ _ (by decide)
  have e208 : τ1.I 208 = τ.I 208 := funext fun i => f1 _ _ (by decide)
  rw [etf, e207, e208, f1 0 92 (by decide)] at e2
  obtain ⟨p, hp⟩ : ∃ p, p = ip (fun j => τ.I 208 j < y ∨ (y = τ.I 208 j ∧ tfX β t (τ.I 207 j))) (τ.I 0 92) := ⟨_, rfl⟩
  have ipb := ip_b (fun j => τ.I 208 j < y ∨ (y = τ.I 208 j ∧ tfX β t (τ.I 207 j))) (τ.I 0 92) (by omega)
  rw [← hp] at ipb e2
  have hq : ∀ j, 0 ≤ j → j < τ.I 0 92 → ((τ.I 208 j < y ∨ (y = τ.I 208 j ∧ tfX β t (τ.I 207 j))) ↔ lt5 β K V o t (τ.I 207 j)) := fun j j0 j1 => by
    unfold lt5
    rw [hd j j0 j1, hy]
  have hn1 : υ.I 0 92 = min (τ.I 0 92 + 1) 5 := by rw [e2]; grind
  have gen : ∀ (c : Nat) (w : Int), (c = 207 ∧ w = t) ∨ (c = 208 ∧ w = y) → ∀ i, 0 ≤ i → i < τ.I 0 92 + 1 → υ.I c i = if i < p then τ.I c i else if i = p then w else τ.I c (i - 1) := fun c w hw i i0 i1 => by
    rw [e2]
    show (if rg _ _ _ _ _ ∨ rg _ _ _ _ _ then _ else if at2 _ _ _ _ then _ else if at2 _ _ _ _ then _ else if at2 _ _ _ _ then _ else _) = _
    rw [f1 c i (by omega), f1 c (i - 1) (by omega)]
    rcases hw with ⟨rfl, rfl⟩ | ⟨rfl, rfl⟩ <;> rcases (show i < p ∨ i = p ∨ p < i by omega) with z | z | z <;> unfold rg at2 <;> grind
  have hh := gen 207 t (by omega)
  have ho : ∀ c i, ¬ (c = 207 ∨ c = 208) → ¬ (c = 0 ∧ i = 92) → υ.I c i = τ1.I c i := fun c i a1 a3 => by
    rw [e2]; show (if rg _ _ _ _ _ ∨ rg _ _ _ _ _ then _ else if at2 _ _ _ _ then _ else if at2 _ _ _ _ then _ else if at2 _ _ _ _ then _ else _) = _
    rw [if_neg (fun z => z.elim (fun y => by have := y.1; omega) (fun y => by have := y.1; omega)), if_neg (fun z => by have := z.1; omega), if_neg (fun z => by have := z.1; omega), if_neg (fun z => a3 z)]
  refine ⟨?_, fun u a b => ?_, ?_, fun i i0 i1 => ?_, fun i i0 i1 => ?_⟩
  · refine ⟨⟨r1.1.trans (by rw [e1]; exact ha.1.1), r1.2.1.trans (by rw [e1]; exact ha.1.2.1), r1.2.2.trans (by rw [e1]; exact ha.1.2.2)⟩, fun c i q => ?_⟩
    rw [ho c i (fun z => q (by unfold wsWt; omega)) (fun z => q (by unfold wsWt; omega)), f1 c i (fun z => q (by unfold wsWt; omega))]
    exact cc c i q
  · rw [ho 206 u (by omega) (by omega), e1]
    by_cases z : u = t
    · rw [z, I_same]; exact ⟨fun _ => rfl, fun q => absurd (Or.inr rfl) q⟩
    · rw [I_nj _ _ _ _ z]
      exact ⟨fun q => (hO u a b).1 (q.elim id (fun w => absurd w z)), fun q => (hO u a b).2 (fun w => q (Or.inl w))⟩
  · rw [hn1]
    have t := TopK_ins (n' := min (τ.I 0 92 + 1) 5) (f' := υ.I 207) (p := p) (x := t) hT (fun z => nP z.1) ((lt5_sto hU hzz hc).mono (fun y hy => by
      rcases hy with w | w
      · exact hP y w.1
      · rw [w]; exact ⟨t0, t1⟩)) ipb.1 (fun i a c => (hq i (by omega) c).mp (ipb.2.1 i a c)) (fun a c => ipb.2.2 a ((hq (p - 1) (by omega) (by omega)).mpr c)) (by omega) (by omega) (fun i a c => hh i a (by omega))
    refine TopK_cg t (fun y => ?_) (fun _ _ _ _ => Iff.rfl) (fun _ _ _ => rfl)
    constructor
    · rintro ⟨z1, z2⟩
      rcases z1 with w | w
      · exact Or.inl ⟨w, z2⟩
      · exact Or.inr w
    · rintro (⟨z1, z2⟩ | z)
      · exact ⟨Or.inl z1, z2⟩
      · rw [z]; exact ⟨Or.inr rfl, hpos⟩
  · rw [hn1] at i1
    rw [hh i i0 (by omega), gen 208 y (by omega) i i0 (by omega)]
    rcases (show i < p ∨ i = p ∨ p < i by omega) with z | z | z
    · rw [if_pos z, if_pos z]; exact hd i i0 (by omega)
    · rw [if_neg (by omega), if_pos z, if_neg (by omega), if_pos z]; exact hy
    · rw [if_neg (by omega), if_neg (by omega), if_neg (by omega), if_neg (by omega)]; exact hd (i - 1) (by omega) (by omega)
  · rcases Int.lt_or_le i (τ.I 0 92 + 1) with w | w
    · rw [hh i i0 w]
      split
      · exact hg i i0 i1
      · split
        · omega
        · exact hg (i - 1) (by omega) (by omega)
    · have u : υ.I 207 i = τ.I 207 i := by
        rw [e2]; show (if rg _ _ _ _ _ ∨ rg _ _ _ _ _ then _ else if at2 _ _ _ _ then _ else if at2 _ _ _ _ then _ else if at2 _ _ _ _ then _ else _) = _
        rw [if_neg (fun z => z.elim (fun y => by have := y.2.2; omega) (fun w => absurd w.1 (by decide))), if_neg (fun z => by have := z.2; omega), if_neg (fun z => absurd z.1 (by decide)), if_neg (fun z => absurd z.1 (by decide)), f1 _ _ (by decide)]
      rw [u]; exact hg i i0 i1
end W2S
/-- what weighTerms leaves: the five terms that weigh most -/
def FVX (β τ : Sto) (K V o : Int) : Prop := Ch wsWt β τ ∧ OFZ τ ∧ TopK (fun t => 0 < ofX β o t (β.I 43 o)) (lt5 β K V o) 5 (τ.I 0 92) (τ.I 207) ∧ (∀ i, 0 ≤ i → i < τ.I 0 92 → τ.I 208 i = wtX β K V o (τ.I 207 i)) ∧ bd_0_36499 τ 207 6
theorem FVX_mk {β τ : Sto} {K V o : Int} (h : W2 β τ K V o (prX β o (β.I 43 o) 0)) (h0 : 0 ≤ β.I 43 o) (hof : ∀ u, 0 ≤ ofX β o u (β.I 43 o)) : FVX β τ K V o := by
  have key : ∀ t, 0 < ofX β o t (β.I 43 o) → prX β o (β.I 43 o) 0 t := fun t q => by
    have z := of_pr (β := β) (o := o) (t := t) (β.I 43 o).toNat
    rw [show (((β.I 43 o).toNat : Nat) : Int) = β.I 43 o by omega] at z
    exact z q
  refine ⟨h.1, fun t a b => ?_, TopK_cg h.2.2.1 (fun t => ⟨fun q => ⟨key t q, q⟩, fun q => q.2⟩) (fun _ _ _ _ => Iff.rfl) (fun _ _ _ => rfl), h.2.2.2.1, h.2.2.2.2⟩
  rcases Classical.em (prX β o (β.I 43 o) 0 t) with w | w
  · exact (h.2.1 t a b).1 w
  · have q := (h.2.1 t a b).2 w
    have q2 := hof t
    rcases Int.lt_or_le 0 (ofX β o t (β.I 43 o)) with z | z
    · exact absurd (key t z) w
    · omega
/-- the values of an object have known terms -/
def TKO (σ : Sto) (o : Int) : Prop := ∀ j, 0 ≤ j → j < σ.I 43 o → (0 ≤ σ.I 26 (σ.I 42 o + j) ∧ σ.I 26 (σ.I 42 o + j) < 12) ∧ 0 ≤ σ.I 31 (σ.I 42 o + j) ∧ (0 ≤ σ.I 32 (σ.I 42 o + j) ∧ σ.I 32 (σ.I 42 o + j) ≤ 250) ∧ σ.I 31 (σ.I 42 o + j) + σ.I 32 (σ.I 42 o + j) ≤ 24000 ∧ ∀ i, 0 ≤ i → i < σ.I 32 (σ.I 42 o + j) → (0 ≤ σ.I 36 (σ.I 31 (σ.I 42 o + j) + i) ∧ σ.I 36 (σ.I 31 (σ.I 42 o + j) + i) < σ.I 18 7) ∧ σ.I 20 (σ.I 36 (σ.I 31 (σ.I 42 o + j) + i)) = σ.I 26 (σ.I 42 o + j)
theorem prX_in {σ : Sto} {o j m : Int} (h : TKO σ o) (h1 : j ≤ σ.I 43 o) (hm : j < σ.I 43 o → m ≤ σ.I 32 (σ.I 42 o + j)) (hm2 : j = σ.I 43 o → m ≤ 0) (hj : 0 ≤ j) {t : Int} (q : prX σ o j m t) : 0 ≤ t ∧ t < σ.I 18 7 := by
  rcases q with ⟨k, a, b, i, c, d, e⟩ | ⟨i, c, d, e⟩
  · have e2 : σ.I 36 (σ.I 31 (σ.I 42 o + k) + i) = t := e
    have z := (h k a (by omega)).2.2.2.2 i c d |>.1
    omega
  · have e2 : σ.I 36 (σ.I 31 (σ.I 42 o + j) + i) = t := e
    rcases (show j < σ.I 43 o ∨ j = σ.I 43 o by omega) with w | w
    · have z := (h j hj w).2.2.2.2 i c (by have := hm w; omega) |>.1
      omega
    · have := hm2 w; omega

theorem sp_X0_weighTerms {E : XE} {d : Nat} {σ : Sto} {K : Int} {V : Int} {x1 : Int} (hd : 6 ≤ d) (hL : Lay σ)  (p0 : 0 ≤ x1 ∧ x1 < 601) (p1 : OB σ 42 43) (p2 : TKO σ x1) (p3 : OFZ σ) (p4 : 0 ≤ σ.I 18 7 ∧ σ.I 18 7 < 36500) (p5 : PT σ K) (p6 : PW σ V) (p7 : OBV σ K V) (p8 : ∀ t, 0 ≤ t → t < σ.I 18 7 → (0 ≤ σ.I 20 t ∧ σ.I 20 t < 12) ∧ 0 ≤ owX σ 102 t K V ∧ owX σ 102 t K V ≤ σ.I 104 (σ.I 20 t) ∧ σ.I 104 (σ.I 20 t) ≤ 601) (p9 : TUB σ) (p10 : bd_0_20 σ 21 36500) (p11 : bd_0_36499 σ 207 6) (p12 : bd_0_250 σ 32 6000) : CC E mX0_weighTerms d [aO 0, aI (x1)] σ (RV (fun τ => (FVX σ τ K V x1))) := by sorry
end
section
/-! contracts: printed by tools/mk.py out of s98zx_likeX.py -/
set_option maxRecDepth 100000
set_option maxHeartbeats 1200000
/-! likeness, in the program -/
def RZ0 (σ ς : Sto) : Prop := (ς.R = σ.R ∧ ς.sh = σ.sh ∧ ς.n = σ.n) ∧ ς.I = fun c i => if fgX c i then 0 else σ.I c i
def AX1 (β κ : Sto) : Prop := (κ.R = β.R ∧ κ.sh = β.sh ∧ κ.n = β.n) ∧ κ.I = fun c i => if c = 211 then β.I c i + cn (fun s => nOf (β.I 210) (β.I 0 96) s = i) (β.I 0 95) else β.I c i
def LXB (σ μ : Sto) (K V v : Int) : Prop := ∃ ς β κ, RZ0 σ ς ∧ WNX ς β K V v ∧ AX1 β κ ∧ CNT (κ.wI 87 2 (κ.I 0 63)) μ 102 ((κ.wI 87 2 (κ.I 0 63)).I 102 7) ∧ KCn 102 (κ.wI 87 2 (κ.I 0 63)) μ
noncomputable def coL (δ : Sto) (k b : Int) : Int := coX δ (δ.I 207 b) k (δ.I 43 k)
noncomputable def wgX5 (δ : Sto) (K V k b : Int) : Int := wgh (δ.I 87 2) (lgR (2 * δ.I (87 + 17) (δ.I 20 (δ.I 207 b)) + 2) (2 * owX δ 102 (δ.I 207 b) K V + 1)) (coL δ k b) (δ.I (87 + 18) (δ.I 20 (δ.I 207 b))) (xTO δ (δ.I 20 (δ.I 207 b)) k) (δ.I (87 + 17) (δ.I 20 (δ.I 207 b)))
def leX (δ : Sto) (k n : Int) : Prop := exN (fun b => 0 < coL δ k b) n
noncomputable def lsX5 (δ : Sto) (K V k n : Int) : Int := smP (fun b => 0 < coL δ k b) (fun b => wgX5 δ K V k b) n
def selL (δ : Sto) (o k : Int) : Prop := δ.I 103 k = 1 ∧ k ≠ o ∧ leX δ k (δ.I 0 92)
def wsHx (c : Nat) (i : Int) : Prop := c = 189 ∨ c = 190 ∨ (c = 0 ∧ i = 70)
def LX7 (σ τ : Sto) (K V v o x : Int) : Prop := ∃ μ δ, LXB σ μ K V v ∧ FVX μ δ K V o ∧ Ch wsHx δ τ ∧ HLL (selL δ o) (fun k => lsX5 δ K V k (δ.I 0 92)) τ x
/-- what likeness leaves -/
def LKX (σ τ : Sto) (K V v o : Int) : Prop := ∃ ψ, LX7 σ ψ K V v o (σ.I 0 39) ∧ (∃ p, PRM (ψ.I 0 70) p ∧ RWH ψ τ (-1) 0 (ψ.I 0 70) p ∧ ∀ a b, 0 ≤ a → a < b → b < ψ.I 0 70 → ¬ LX2 ψ (-1) 0 1 (p b) (p a)) ∧ KSo ψ τ
theorem owX_s {β τ : Sto} (e : ∀ c, (16 ≤ c ∧ c < 80) ∨ c = 103 → τ.I c = β.I c) : owX τ 102 = owX β 102 := by
  have h1 : wkQ τ = wkQ β := by funext t v; unfold wkQ; rw [e 16 (by omega), e 26 (by omega), e 33 (by omega)]
  have h2 : tkQ τ = tkQ β := by funext t v; unfold tkQ; rw [e 36 (by omega)]
  have h3 : obT τ = obT β := by funext k; unfold obT; rw [e 27 (by omega), e 38 (by omega)]
  have h4 : sn τ 102 = sn β 102 := by funext k; unfold sn; rw [e (102 + 1) (by omega)]
  funext t K V
  unfold owX
  rw [h1, h2, h3, h4, e 16 (by omega), e 20 (by omega), e 27 (by omega)]
theorem tkX_s {β τ : Sto} (e : ∀ c, (16 ≤ c ∧ c < 80) ∨ c = 103 → τ.I c = β.I c) (e6 : τ.I 102 6 = β.I 102 6) : tkX τ 102 = tkX β 102 ∧ hvX τ 102 = hvX β 102 ∧ xTO τ = xTO β := by
  have h1 : swX τ 102 = swX β 102 := by funext k; unfold swX; rw [e6, e (102 + 1) (by omega)]
  have h2 : xTO τ = xTO β := by funext f k; unfold xTO; rw [e 26 (by omega), e 42 (by omega), e 32 (by omega), e 43 (by omega)]
  have h3 : hxV τ = hxV β := by funext f k; unfold hxV qvX; rw [e 26 (by omega), e 42 (by omega), e 43 (by omega)]
  refine ⟨?_, ?_, h2⟩
  · funext f n; unfold tkX; rw [h1, h2]
  · funext f n; unfold hvX; rw [h1, h3]
theorem lx_e {δ τ : Sto} (h : Ch wsHx δ τ) : coL τ = coL δ ∧ wgX5 τ = wgX5 δ ∧ τ.I 0 92 = δ.I 0 92 ∧ τ.I 103 = δ.I 103 := by
  have e : ∀ c, c ≠ 189 → c ≠ 190 → c ≠ 0 → τ.I c = δ.I c := fun c a b d => funext fun i => h.2 _ _ (by unfold wsHx; omega)
  have h1 : coL τ = coL δ := by
    funext k b; unfold coL coX ctX
    rw [e 207 (by decide) (by decide) (by decide), e 43 (by decide) (by decide) (by decide), e 42 (by decide) (by decide) (by decide), e 36 (by decide) (by decide) (by decide), e 31 (by decide) (by decide) (by decide), e 32 (by decide) (by decide) (by decide)]
  have h2 : owX τ 102 = owX δ 102 := owX_s (fun c q => e c (by omega) (by omega) (by omega))
  have h3 : xTO τ = xTO δ := (tkX_s (fun c q => e c (by omega) (by omega) (by omega)) (h.2 _ _ (by unfold wsHx; omega))).2.2
  refine ⟨h1, ?_, h.2 _ _ (by unfold wsHx; omega), e _ (by decide) (by decide) (by decide)⟩
  funext K V k b; unfold wgX5
  rw [h1, h2, h3, e 87 (by decide) (by decide) (by decide), e 20 (by decide) (by decide) (by decide), e 207 (by decide) (by decide) (by decide), e (87 + 17) (by decide) (by decide) (by decide), e (87 + 18) (by decide) (by decide) (by decide)]
theorem lx_e2 {δ τ : Sto} (h : Ch wsHx δ τ) : leX τ = leX δ ∧ lsX5 τ = lsX5 δ ∧ selL τ = selL δ := by
  obtain ⟨a, b, c, d⟩ := lx_e h
  have h1 : leX τ = leX δ := by funext k n; unfold leX; rw [a]
  refine ⟨h1, ?_, ?_⟩
  · funext K V k n; unfold lsX5; rw [a, b]
  · funext o k; unfold selL; rw [h1, c, d]
section LX7S
variable {σ τ υ : Sto} {K V v o x : Int}
theorem LX7_0 {μ δ : Sto} (a : LXB σ μ K V v) (b : FVX μ δ K V o) (h : δ.I 0 70 = 0) : LX7 σ δ K V v o 0 := ⟨μ, δ, a, b, Ch.rf, by rw [h]; exact (cn_0 _ _ (Int.le_refl _)).symm, fun k a b => by omega⟩
theorem LX7_n (h : LX7 σ τ K V v o x) (h0 : 0 ≤ x) (hn : ¬ selL τ o x) : LX7 σ τ K V v o (x + 1) := by
  obtain ⟨μ, δ, a, b, c, d⟩ := h
  exact ⟨μ, δ, a, b, c, HLL_n d h0 (fun z => hn (by rw [(lx_e2 c).2.2]; exact z))⟩
theorem LX7_y (h : LX7 σ τ K V v o x) (h0 : 0 ≤ x) (hs : selL τ o x) {s : Int} (hy : s = lsX5 τ K V x (τ.I 0 92)) (e : υ.I = fun c i => if at2 c i 189 (τ.I 0 70) then x else if at2 c i 190 (τ.I 0 70) then s else if at2 c i 0 70 then τ.I 0 70 + 1 else τ.I c i) (r1 : υ.R = τ.R ∧ υ.sh = τ.sh ∧ υ.n = τ.n) : LX7 σ υ K V v o (x + 1) ∧ Ch wsHx τ υ := by
  obtain ⟨μ, δ, a, b, c, d⟩ := h
  have e2 := lx_e2 c
  have k : Ch wsHx τ υ := ⟨r1, fun c i q => by rw [e]; show (if at2 c i _ _ then _ else if at2 c i _ _ then _ else if at2 c i _ _ then _ else _) = _; rw [if_neg (fun z => q (by unfold wsHx; have := z.1; omega)), if_neg (fun z => q (by unfold wsHx; have := z.1; omega)), if_neg (fun z => q (by unfold wsHx; have := z.1; have := z.2; omega))]⟩
  rw [hy, e2.2.1, (lx_e c).2.2.1] at e
  rw [e2.2.2] at hs
  exact ⟨⟨μ, δ, a, b, Ch.tr c k, HLL_y d h0 hs e⟩, k⟩
theorem LX7_b (h : LX7 σ τ K V v o x) (h0 : 0 ≤ x) : (0 ≤ τ.I 0 70 ∧ τ.I 0 70 ≤ x) ∧ ∀ i, 0 ≤ i → i < τ.I 0 70 → 0 ≤ τ.I 189 i ∧ τ.I 189 i < x := by
  obtain ⟨μ, δ, _, _, _, d⟩ := h
  exact HLL_b d h0
end LX7S
theorem ct_le {σ : Sto} {o t : Int} (h : TKO σ o) : ∀ n : Nat, (n : Int) ≤ σ.I 43 o → 0 ≤ coX σ t o n ∧ coX σ t o n ≤ smP (fun j => σ.I 26 (σ.I 42 o + j) = σ.I 20 t) (fun j => σ.I 32 (σ.I 42 o + j)) n := by
  intro n
  induction n with
  | zero => intro _; rw [coX_0 (show ((0 : Nat) : Int) ≤ 0 by omega), smP_0 _ _ _ (show ((0 : Nat) : Int) ≤ 0 by omega)]; omega
  | succ n ih =>
    intro hn
    have i2 := ih (by omega)
    obtain ⟨_, _, z3, _, z5⟩ := h n (by omega) (by omega)
    have c := cn_in (fun i => σ.I 36 (σ.I 31 (σ.I 42 o + n) + i) = t) (σ.I 32 (σ.I 42 o + n))
    have e : ctX σ t (σ.I 42 o + n) = cn (fun i => σ.I 36 (σ.I 31 (σ.I 42 o + n) + i) = t) (σ.I 32 (σ.I 42 o + n)) := rfl
    rw [coX_s (show (0 : Int) ≤ n by omega) (show ((n + 1 : Nat) : Int) = n + 1 by omega), e]
    rcases Classical.em (σ.I 26 (σ.I 42 o + n) = σ.I 20 t) with w | w
    · rw [smP_t _ _ (n : Int) ((n + 1 : Nat) : Int) (by omega) (by omega) w]; omega
    · rw [smP_f _ _ (n : Int) ((n + 1 : Nat) : Int) (by omega) (by omega) w]
      have z : cn (fun i => σ.I 36 (σ.I 31 (σ.I 42 o + n) + i) = t) (σ.I 32 (σ.I 42 o + n)) = 0 := by
        have q := cn_ext (p := fun i => σ.I 36 (σ.I 31 (σ.I 42 o + n) + i) = t) (n := 0) (m := σ.I 32 (σ.I 42 o + n)) (by omega) (by omega) (fun k a b r => by
          have r2 : σ.I 36 (σ.I 31 (σ.I 42 o + n) + k) = t := r
          have q := (z5 k a b).2
          rw [r2] at q
          exact w q.symm)
        rw [q]; exact cn_0 _ _ (Int.le_refl _)
      omega
/-- what the walk over the likely hits rests on -/
def LKQ (τ : Sto) (K V : Int) : Prop := BSX τ K V ∧ (OX τ (τ.I 0 39) ∧ τ.I 0 20 ≤ 6000) ∧ TKV τ ∧ (∀ b, 0 ≤ b → b < τ.I 0 39 → TKO τ b) ∧ (∀ t, 0 ≤ t → t < τ.I 18 7 → (0 ≤ τ.I 20 t ∧ τ.I 20 t < 12) ∧ 0 ≤ owX τ 102 t K V ∧ owX τ 102 t K V ≤ τ.I 104 (τ.I 20 t) ∧ τ.I 104 (τ.I 20 t) ≤ 601) ∧ (∀ f, 0 ≤ f → f < τ.I 0 9 → τ.I 105 f = tkX τ 102 f (τ.I 0 39)) ∧ (∀ k, 0 ≤ k → k < τ.I 0 39 → τ.I 103 k = 0 ∨ τ.I 103 k = 1) ∧ ((0 ≤ τ.I 0 92 ∧ τ.I 0 92 ≤ 5) ∧ ∀ i, 0 ≤ i → i < τ.I 0 92 → 0 ≤ τ.I 207 i ∧ τ.I 207 i < τ.I 18 7) ∧ τ.I 102 6 = 0
theorem TKO_e {σ τ : Sto} {o : Int} (h : TKO σ o) (e : ∀ c, 16 ≤ c ∧ c < 80 → τ.I c = σ.I c) : TKO τ o := by
  unfold TKO; rw [e 43 (by omega), e 42 (by omega), e 26 (by omega), e 31 (by omega), e 32 (by omega), e 36 (by omega), e 18 (by omega), e 20 (by omega)]; exact h
theorem LKQ_e {τ υ : Sto} {K V : Int} (h : LKQ τ K V) (c : Ch wsHx τ υ) : LKQ υ K V := by
  have k := c.2
  have e : ∀ c, c ≠ 189 → c ≠ 190 → c ≠ 0 → υ.I c = τ.I c := fun c a b d => funext fun i => k _ _ (by unfold wsHx; omega)
  have eA : ∀ c, 16 ≤ c ∧ c < 80 → υ.I c = τ.I c := fun c q => e c (by omega) (by omega) (by omega)
  have eF : ∀ i, i ≠ 70 → υ.I 0 i = τ.I 0 i := fun i q => k 0 i (by unfold wsHx; omega)
  have eF5 : ∀ i, i = 4 ∨ i = 9 ∨ i = 20 ∨ i = 31 ∨ i = 39 → υ.I 0 i = τ.I 0 i := fun i q => eF i (by omega)
  obtain ⟨a, ⟨b1, b2⟩, d, f, g, m, n, p, q⟩ := h
  have ow : owX υ 102 = owX τ 102 := owX_s (fun c q => e c (by omega) (by omega) (by omega))
  have tk := tkX_s (β := τ) (τ := υ) (fun c q => e c (by omega) (by omega) (by omega)) (k _ _ (by unfold wsHx; omega))
  refine ⟨BSX_e a eA eF5 c.1.1 c.1.2.1 c.1.2.2 (fun c q => e c (by omega) (by omega) (by omega)) (HOWA_e a.2.2.2.2.2.2.2.2.2.2.2.2 eA eF5), ⟨?_, by rw [eF _ (by decide)]; exact b2⟩, ?_, fun b x y => TKO_e (f b x (by rw [eF _ (by decide)] at y; exact y)) eA, ?_, ?_, ?_, ?_, ?_⟩
  · unfold OX; rw [eF _ (by decide), eF _ (by decide), eA 42 (by omega), eA 43 (by omega)]; exact b1
  · unfold TKV; rw [eF _ (by decide), eA 31 (by omega), eA 32 (by omega)]; exact d
  · rw [eA 18 (by omega), eA 20 (by omega), ow, e 104 (by decide) (by decide) (by decide)]; exact g
  · rw [eF 9 (by decide), eF 39 (by decide), tk.1, e 105 (by decide) (by decide) (by decide)]; exact m
  · rw [eF 39 (by decide), e 103 (by decide) (by decide) (by decide)]; exact n
  · rw [eF 92 (by decide), e 207 (by decide) (by decide) (by decide), eA 18 (by omega)]; exact p
  · rw [e 102 (by decide) (by decide) (by decide)]; exact q
/-- bounds of one summand -/
theorem LKQ_1 {τ : Sto} {K V k b : Int} (h : LKQ τ K V) (k0 : 0 ≤ k) (k1 : k < τ.I 0 39) (hs : τ.I 103 k = 1) (b0 : 0 ≤ b) (b1 : b < τ.I 0 92) : (0 ≤ τ.I 207 b ∧ τ.I 207 b < τ.I 18 7) ∧ (0 ≤ τ.I 20 (τ.I 207 b) ∧ τ.I 20 (τ.I 207 b) < 12) ∧ (0 ≤ coL τ k b ∧ coL τ k b ≤ xTO τ (τ.I 20 (τ.I 207 b)) k) ∧ (0 ≤ xTO τ (τ.I 20 (τ.I 207 b)) k ∧ xTO τ (τ.I 20 (τ.I 207 b)) k ≤ 6000) ∧ xTO τ (τ.I 20 (τ.I 207 b)) k ≤ τ.I 105 (τ.I 20 (τ.I 207 b)) ∧ τ.I 105 (τ.I 20 (τ.I 207 b)) ≤ 3700000 := by
  obtain ⟨a, ⟨c1, c2⟩, d, f, g, m, n, p, q⟩ := h
  have t := p.2 b b0 b1
  have gt := g _ t.1 t.2
  have tf := a.1.2.2.2.2.2.1 _ t.1 t.2
  have nx := a.2.1
  have i2 := tkX_i2 (σ := τ) (o := 102) (f := τ.I 20 (τ.I 207 b)) (E := τ.I 0 39) nx.1 (by omega) a.1.2.1 a.1.2.2.1
  have x2 := i2.2 k k0 (by omega)
  have ob := a.1.2.1 k k0 (by omega)
  have ct := ct_le (t := τ.I 207 b) (f k k0 k1) (τ.I 43 k).toNat (by omega)
  rw [show (((τ.I 43 k).toNat : Nat) : Int) = τ.I 43 k by omega] at ct
  have el := smP_el (p := swX τ 102) (g := fun k => xTO τ (τ.I 20 (τ.I 207 b)) k) k0 ⟨by rw [q]; exact k0, hs⟩ (τ.I 0 39).toNat (fun j x y _ => (i2.2 j x (by omega)).1) (by omega)
  rw [show (((τ.I 0 39).toNat : Nat) : Int) = τ.I 0 39 by omega] at el
  have em := m _ tf.1 tf.2
  have el2 : xTO τ (τ.I 20 (τ.I 207 b)) k ≤ tkX τ 102 (τ.I 20 (τ.I 207 b)) (τ.I 0 39) := el
  exact ⟨t, gt.1, ct, x2, by omega, by omega⟩

theorem sp_X0_like {E : XE} {d : Nat} {σ : Sto} {K : Int} {V : Int} {x1 : Int} {x2 : Int} (hd : 529 ≤ d) (hL : Lay σ)  (p0 : inR x1) (p1 : 0 ≤ σ.I 0 46 ∧ σ.I 0 46 < 4) (p2 : BSX σ K V) (p3 : 0 < σ.I 0 46 → σ.I (ubX σ) 1 ≠ 0 → QLX σ (ubX σ)) (p4 : PBD σ 155) (p5 : inR x2) (p6 : OFZ σ) (p7 : (1 ≤ σ.I 0 96 ∧ σ.I 0 96 ≤ 8) ∧ (1 ≤ σ.I 0 95 ∧ σ.I 0 95 ≤ 8)) (p8 : bd_0_1000000 σ 211 8) (p9 : inR (if x1 = -1 then σ.I 0 40 else if 0 ≤ x1 ∧ x1 ≤ 3 then σ.I 48 x1 else -1)) (p10 : OX σ (σ.I 0 39)) (p11 : TUB σ) (p12 : bd_0_36499 σ 207 6) (p13 : TKV σ) (p14 : ∀ b, 0 ≤ b → b < σ.I 0 39 → TKO σ b) : CC E mX0_like d [aO 0, aI (x1), aI (x2)] σ (RVI (fun y τ => ((¬ (0 ≤ (if x1 = -1 then σ.I 0 40 else if 0 ≤ x1 ∧ x1 ≤ 3 then σ.I 48 x1 else -1) ∧ (0 ≤ x2 ∧ x2 < (σ.I 0 39)) ∧ inV (σ.I 47) (σ.I 45) (σ.I 46) (if x1 = -1 then σ.I 0 40 else if 0 ≤ x1 ∧ x1 ≤ 3 then σ.I 48 x1 else -1) x2) ∧ y = -1 ∧ RD σ τ (fun c i => if fgX c i then 0 else σ.I c i)) ∨ ((0 ≤ (if x1 = -1 then σ.I 0 40 else if 0 ≤ x1 ∧ x1 ≤ 3 then σ.I 48 x1 else -1) ∧ (0 ≤ x2 ∧ x2 < (σ.I 0 39)) ∧ inV (σ.I 47) (σ.I 45) (σ.I 46) (if x1 = -1 then σ.I 0 40 else if 0 ≤ x1 ∧ x1 ≤ 3 then σ.I 48 x1 else -1) x2) ∧ y = -1 ∧ τ.I 103 x2 = 0 ∧ ∃ ς, RZ0 σ ς ∧ WNX ς τ K V (if x1 = -1 then σ.I 0 40 else if 0 ≤ x1 ∧ x1 ≤ 3 then σ.I 48 x1 else -1)) ∨ ((0 ≤ (if x1 = -1 then σ.I 0 40 else if 0 ≤ x1 ∧ x1 ≤ 3 then σ.I 48 x1 else -1) ∧ (0 ≤ x2 ∧ x2 < (σ.I 0 39)) ∧ inV (σ.I 47) (σ.I 45) (σ.I 46) (if x1 = -1 then σ.I 0 40 else if 0 ≤ x1 ∧ x1 ≤ 3 then σ.I 48 x1 else -1) x2) ∧ y = -4 ∧ ¬ alN (fun s => 0 ≤ nOf (σ.I 210) (σ.I 0 96) s) (σ.I 0 95) ∧ τ.I 103 x2 ≠ 0 ∧ ∃ ς, RZ0 σ ς ∧ WNX ς τ K V (if x1 = -1 then σ.I 0 40 else if 0 ≤ x1 ∧ x1 ≤ 3 then σ.I 48 x1 else -1)) ∨ ((0 ≤ (if x1 = -1 then σ.I 0 40 else if 0 ≤ x1 ∧ x1 ≤ 3 then σ.I 48 x1 else -1) ∧ (0 ≤ x2 ∧ x2 < (σ.I 0 39)) ∧ inV (σ.I 47) (σ.I 45) (σ.I 46) (if x1 = -1 then σ.I 0 40 else if 0 ≤ x1 ∧ x1 ≤ 3 then σ.I 48 x1 else -1) x2) ∧ alN (fun s => 0 ≤ nOf (σ.I 210) (σ.I 0 96) s) (σ.I 0 95) ∧ y = τ.I 0 70 ∧ LKX σ τ K V (if x1 = -1 then σ.I 0 40 else if 0 ≤ x1 ∧ x1 ≤ 3 then σ.I 48 x1 else -1) x2)) ∧ (PBD τ 155) ∧ (OFZ τ))) := by sorry
end
section
/-! contracts: printed by tools/mk.py out of s98zy_percX.py -/
set_option maxRecDepth 100000
set_option maxHeartbeats 1200000
/-! the kept questions, asked of the draft: the program -/
theorem dc_ns {Q S : Int → Prop} {ob : Int → Int} : ∀ n : Nat, (∀ k, 0 ≤ k → k < (n : Int) → Q k → ¬ S (ob k)) → dcN Q S ob n = (0, -1) := by
  intro n
  induction n with
  | zero => intro _; rfl
  | succ n ih =>
    intro h
    have i2 := ih (fun k a b c => h k a (by omega) c)
    show (if zb (Q n ∧ S (ob n) ∧ ob n ≠ (dcN Q S ob n).2) = 1 then _ else _) = _
    rw [if_neg (fun z => by have w := zb_1.mp z; exact h n (by omega) (by omega) w.1 w.2.1)]
    exact i2
theorem owX_al {σ : Sto} {o : Nat} {K V t : Int} (hV : OBV σ K V) (hn : ∀ k, 0 ≤ k → k < 600 → (∃ v, 0 ≤ v ∧ v < V ∧ σ.I 27 v = k) → ¬ sn σ o k) : owX σ o t K V = 0 := by
  obtain ⟨a, b, c, d⟩ := hV
  unfold owX
  split
  · unfold dc; rw [dc_ns V.toNat (fun v v0 v1 _ => hn _ (d v v0 (by omega)).1 (d v v0 (by omega)).2 ⟨v, v0, by omega, rfl⟩)]
  · unfold dc; rw [dc_ns K.toNat (fun k k0 k1 _ => by
      have q := c k k0 (by omega)
      have q2 := d _ q.1 q.2
      exact hn _ q2.1 q2.2 ⟨_, q.1, q.2, rfl⟩)]
theorem smP_ne {p : Int → Prop} {g : Int → Int} : ∀ n : Nat, smP p g n ≠ 0 → ∃ k, 0 ≤ k ∧ k < (n : Int) ∧ p k ∧ g k ≠ 0 := by
  intro n
  induction n with
  | zero => intro h; exact absurd (smP_0 _ _ _ (show ((0 : Nat) : Int) ≤ 0 by omega)) h
  | succ n ih =>
    intro h
    rcases Classical.em (p n ∧ g n ≠ 0) with z | z
    · exact ⟨n, by omega, by omega, z.1, z.2⟩
    · have e : smP p g ((n + 1 : Nat) : Int) = smP p g n := by
        rcases Classical.em (p n) with w | w
        · rw [smP_t p g n ((n + 1 : Nat) : Int) (by omega) (by omega) w]
          have : g n = 0 := Classical.byContradiction (fun y => z ⟨w, y⟩)
          omega
        · exact smP_f p g n ((n + 1 : Nat) : Int) (by omega) (by omega) w
      rw [e] at h
      obtain ⟨k, a, b, c⟩ := ih h
      exact ⟨k, a, by omega, c⟩
/-- the world of the draft alone -/
def ALN1 (σ : Sto) (o : Nat) : Prop := (σ.I (o + 15) 6 = σ.I 0 39 ∧ σ.I (o + 15) 7 = σ.I 0 39 + 1 ∧ σ.I (o + 15) 8 = 1 ∧ σ.I (o + 15) 1 = 0) ∧ (∀ k, 0 ≤ k → k < σ.I 0 39 → σ.I (o + 16) k = 0) ∧ σ.I (o + 16) (σ.I 0 39) = 1 ∧ σ.I 42 (σ.I 0 39) = σ.I 0 31 ∧ σ.I 43 (σ.I 0 39) = σ.I 0 20 - σ.I 0 31 ∧ σ.I 44 (σ.I 0 39) = -1
theorem tk_al {σ : Sto} {o : Nat} {V : Int} (hA : ALN1 σ o) (hn : 0 ≤ σ.I 0 39 ∧ σ.I 0 39 ≤ 600) (hO : OB σ 42 43) (hb : bd_0_250 σ 32 6000) : ∀ f l sl k, snW σ o k → foX σ o f l sl V k ≠ 0 → 1 ≤ tkX σ (o + 15) f (σ.I (o + 15) 7) := by
  intro f l sl k _ hz
  obtain ⟨⟨a6, a7, a8, _⟩, _, an, a42, a43, _⟩ := hA
  unfold foX at hz
  rw [if_neg (by omega)] at hz
  by_cases hk : k = σ.I 0 39
  · rw [if_pos hk] at hz
    have ob := hO (σ.I 0 39) hn.1 (by omega)
    rw [a42, a43] at ob
    have q := smP_ne (σ.I 0 20 - σ.I 0 31).toNat (by rw [show (((σ.I 0 20 - σ.I 0 31).toNat : Nat) : Int) = σ.I 0 20 - σ.I 0 31 by omega]; exact hz)
    obtain ⟨j, j0, j1, jf, jm⟩ := q
    have j1 : j < σ.I 0 20 - σ.I 0 31 := by omega
    have h32 : 1 ≤ σ.I 32 (σ.I 0 31 + j) := by
      rcases Int.lt_or_le (σ.I 32 (σ.I 0 31 + j)) 1 with w | w
      · exact absurd (mtV_0 (fun x z => by obtain ⟨i, i0, i1, _⟩ := z; omega)) jm
      · exact w
    have t := hvX_t (σ := σ) (o := o + 15) (f := f) (n := σ.I 0 39) hn.1 (by omega) (show σ.I (o + 15 + 1) (σ.I 0 39) = 1 from an)
    rw [a7, t.2]
    have i2 := tkX_i2 (σ := σ) (o := o + 15) (f := f) (E := σ.I 0 39) hn.1 (by omega) hO hb
    have el := smP_el (p := fun j => σ.I 26 (σ.I 42 (σ.I 0 39) + j) = f) (g := fun j => σ.I 32 (σ.I 42 (σ.I 0 39) + j)) j0 (by show σ.I 26 (σ.I 42 (σ.I 0 39) + j) = f; rw [a42]; exact jf) (σ.I 43 (σ.I 0 39)).toNat (fun m m0 m1 _ => (hb _ (by rw [a42]; omega) (by rw [a42]; omega)).1) (by omega)
    rw [show (((σ.I 43 (σ.I 0 39)).toNat : Nat) : Int) = σ.I 43 (σ.I 0 39) by omega] at el
    have e : xTO σ f (σ.I 0 39) = smP (fun j => σ.I 26 (σ.I 42 (σ.I 0 39) + j) = f) (fun j => σ.I 32 (σ.I 42 (σ.I 0 39) + j)) (σ.I 43 (σ.I 0 39)) := rfl
    have el2 : σ.I 32 (σ.I 42 (σ.I 0 39) + j) ≤ xTO σ f (σ.I 0 39) := by rw [e]; exact el
    rw [a42] at el2
    have := i2.1.1
    omega
  · rw [if_neg hk] at hz; exact absurd rfl hz
theorem PRI_SCA {σ τ : Sto} {o : Nat} {K V : Int} (h : PRI σ τ o (lsX σ o) K V (σ.I (o + 1) 2) (rwN σ o (σ.I (o + 1) 2))) (hq : KPq o σ τ) (ho : 86 ≤ o ∧ o ≤ 160) (hQ : QLX σ o) (hA : ALN1 σ o) (hn : 0 ≤ σ.I 0 39 ∧ σ.I 0 39 ≤ 600) (a2 : OB σ 42 43) (a3 : bd_0_250 σ 32 6000) (hV : 0 ≤ V) (b8 : VOC σ V) (hD : 0 ≤ σ.I 0 20 - σ.I 0 31) (b4 : ANX σ) (hf : σ.I 0 9 ≤ 12) (b11 : tre σ 44 (σ.I 0 39)) (hC : CHN σ (o + 15)) : SCR τ o := by
  have pb := PRI_b h
  have u15 := unp hq (c := o + 15) (by omega)
  have lq := PRI_LQ h hq ho rfl (by rw [hA.1.2.1]; omega) a2 a3 hV b8 hD (fun x x0 x1 x7 => by
    have n := hQ.2.2.2.1 x x0 x1 x7
    refine ⟨n.2.1, fun z => ?_⟩
    have q := n.2.2.2.1 z
    have t := tk_TKI (A := σ.I (o + 2)) (f := σ.I (o + 9) x) (to := σ.I (o + 10) x) (ARW_X (b4 _ q.1.1 q.1.2).1) q.2.1.1 q.2.1.2.1
    rw [← q.2.2.2] at t
    exact t.1.1) hf (tk_al hA hn a2 a3)
  have qw := QWX_p hq ho.1 hQ.1
  have e44 : τ.I 44 = σ.I 44 := unp hq (by omega)
  refine ⟨?_, ?_, qw.1.1, WX_mk qw lq⟩
  · have e : chQ τ (o + 15) = chQ σ (o + 15) := by
      funext p k; unfold chQ; rw [unp hq (c := o + 15 + 1) (by omega), e44]
    refine ⟨by rw [u15, hA.1.2.1]; omega, fun z => ?_, ?_, ?_, OBX_p hq ho.1 a2, bd_0_250_eq a3 (unp hq (by omega)), pb.2.1⟩
    · rw [u15, hA.1.2.1] at z
      rw [e44, show (600 : Int) = σ.I 0 39 by omega]; exact hA.2.2.2.2.2
    · unfold CHN
      rw [e, u15, unp hq (c := o + 15 + 4) (by omega), unp hq (c := o + 15 + 5) (by omega), unp hq (c := o + 15 + 1) (by omega), e44]
      exact hC
    · rw [u15, hA.1.2.1]
      intro k k0 k1
      rw [e44]
      rcases (show k < σ.I 0 39 ∨ k = σ.I 0 39 by omega) with z | z
      · exact b11 k k0 z
      · rw [z, hA.2.2.2.2.2]; omega
  · obtain ⟨β, _, _, _, _, _, hk, _⟩ := h
    intro x k x0 x1 k0 k1
    rw [unp hq (c := o + 1) (by omega)] at x1
    exact Or.inl (hk _ (by omega) (by omega))
def wsPX (n : Int) (c : Nat) (i : Int) : Prop := c = 2 ∨ (10 ≤ c ∧ c ≤ 15) ∨ c = 81 ∨ (121 ≤ c ∧ c ≤ 154) ∨ c = 209 ∨ (c = 0 ∧ i = 94) ∨ ((c = 42 ∨ c = 43 ∨ c = 44) ∧ i = n)
abbrev KPX (n : Int) (σ τ : Sto) : Prop := Ch (wsPX n) σ τ
/-- the k-th kept question asked of the draft: W before, R when it is prepared -/
def PCQ (σ W R : Sto) (K V k : Int) : Prop := CPR σ W 121 (274 + 14 * k.toNat) ∧ ALN1 W 121 ∧ W.I 121 2 = 0 ∧ KPX (σ.I 0 39) σ W ∧ PRI W R 121 (lsX W 121) K V (W.I (121 + 1) 2) (rwN W 121 (W.I (121 + 1) 2)) ∧ KPq 121 W R ∧ SCR R 121
def hiX (σ R : Sto) : Prop := 0 ≤ vXX R 121 (R.I (121 + 1) 4) (σ.I 0 39)
def PCX (σ τ : Sto) (K V x : Int) : Prop := ∃ W R : Int → Sto, (∀ k, 0 ≤ k → k < x → PCQ σ (W k) (R k) K V k) ∧ FLI (τ.I 209) (fun k => hiX σ (R k)) x (τ.I 0 94)
theorem PCX_s {σ τ υ W R : Sto} {K V x : Int} (h : PCX σ τ K V x) (h0 : 0 ≤ x) (hq : PCQ σ W R K V x) (hy : (hiX σ R ∧ υ.I 0 94 = τ.I 0 94 + 1 ∧ ∀ i, υ.I 209 i = if i = τ.I 0 94 then x else τ.I 209 i) ∨ (¬ hiX σ R ∧ υ.I 0 94 = τ.I 0 94 ∧ ∀ i, υ.I 209 i = τ.I 209 i)) : PCX σ υ K V (x + 1) := by
  obtain ⟨w, r, a, b⟩ := h
  have b1 := b.1
  refine ⟨fun k => if k = x then W else w k, fun k => if k = x then R else r k, fun k k0 k1 => ?_, ?_⟩
  · show PCQ σ (if k = x then W else w k) (if k = x then R else r k) K V k
    by_cases z : k = x
    · rw [if_pos z, if_pos z, z]; exact hq
    · rw [if_neg z, if_neg z]; exact a k k0 (by omega)
  · show FLI (υ.I 209) (fun k => hiX σ (if k = x then R else r k)) (x + 1) (υ.I 0 94)
    have cx : cn (fun k => hiX σ (if k = x then R else r k)) x = cn (fun k => hiX σ (r k)) x := cn_cg (fun k k0 k1 => by rw [if_neg (show ¬ k = x by omega)])
    have s := cn_s (fun k => hiX σ (if k = x then R else r k)) x (x + 1) h0 rfl
    have ck : ∀ k, 0 ≤ k → k < x → cn (fun k => hiX σ (if k = x then R else r k)) k = cn (fun k => hiX σ (r k)) k := fun k k0 k1 => cn_cg (fun j j0 j1 => by rw [if_neg (show ¬ j = x by omega)])
    rcases hy with ⟨y1, y2, y3⟩ | ⟨y1, y2, y3⟩
    · refine ⟨by rw [s, zb_t (by show hiX σ (if x = x then R else r x); rw [if_pos rfl]; exact y1), cx, y2]; omega, fun k k0 k1 hk => ?_⟩
      have hk : hiX σ (if k = x then R else r k) := hk
      rw [y3]
      rcases (show k < x ∨ k = x by omega) with z | z
      · rw [if_neg (show ¬ k = x by omega)] at hk
        rw [ck k k0 z]
        have s2 := cn_s (fun k => hiX σ (r k)) k (k + 1) k0 rfl
        rw [zb_t hk] at s2
        have m := cn_mo (p := fun k => hiX σ (r k)) (a := k + 1) (b := x) (by omega) (by omega)
        rw [if_neg (by omega)]; exact b.2 k k0 z hk
      · rw [z, cx, if_pos b1.symm]
    · refine ⟨by rw [s, zb_f (by show ¬ hiX σ (if x = x then R else r x); rw [if_pos rfl]; exact y1), cx, y2]; omega, fun k k0 k1 hk => ?_⟩
      have hk : hiX σ (if k = x then R else r k) := hk
      rw [y3]
      rcases (show k < x ∨ k = x by omega) with z | z
      · rw [if_neg (show ¬ k = x by omega)] at hk
        rw [ck k k0 z]; exact b.2 k k0 z hk
      · rw [if_pos z] at hk; contradiction
theorem ANX_e2 {σ τ : Sto} (h : ANX σ) (hA : AN σ) (er : τ.2 = σ.2) (e4 : τ.I 0 4 = σ.I 0 4) (ea : ∀ c, 675 ≤ c → τ.I c = σ.I c) : ANX τ := by
  intro k k0 k1
  rw [e4] at k1
  have q := AN_g hA k0 k1
  have ac : anC τ = anC σ := by funext k; unfold anC; rw [show τ.R = σ.R from congrArg (·.1) er]
  rw [ac]
  exact ANBs_e (fun c x y => ea c (by omega)) (h k k0 k1)
theorem PCX_b {σ τ : Sto} {K V x : Int} (h : PCX σ τ K V x) (h0 : 0 ≤ x) : 0 ≤ τ.I 0 94 ∧ τ.I 0 94 ≤ x := by
  obtain ⟨w, r, a, b⟩ := h
  have := cn_in (fun k => hiX σ (r k)) x
  have := b.1
  omega
theorem kept_c {σ τ : Sto} {b : Nat} {i : Int} (hL : Lay σ) (hR : τ.R = σ.R) (h0 : 0 ≤ i) (h1 : i < 20) (r : τ.R 79 i = some b) : b = 275 + 14 * i.toNat := by
  rw [hR, (kept_at hL h0 h1).1] at r
  exact (Option.some.inj r).symm

theorem sp_X0_percolate {E : XE} {d : Nat} {σ : Sto} {K : Int} {V : Int} (hd : 528 ≤ d) (hL : Lay σ)  (p0 : BSX σ K V) (p1 : 0 ≤ σ.I 0 51 ∧ σ.I 0 51 ≤ 20) (p2 : ∀ k, 0 ≤ k → k < σ.I 0 51 → QLX σ (274 + 14 * k.toNat)) (p3 : PBD σ 121) (p4 : VFB σ (σ.I 0 20)) : CC E mX0_percolate d [aO 0] σ (RVI (fun y τ => (y = τ.I 0 94) ∧ (PCX σ τ K V (σ.I 0 51)) ∧ (0 ≤ τ.I 0 94 ∧ τ.I 0 94 ≤ 20) ∧ (PBD τ 121) ∧ (KPX (σ.I 0 39) σ τ))) := by sorry
end
section
/-! contracts: printed by tools/mk.py out of s98zza_expX.py -/
set_option maxRecDepth 100000
set_option maxHeartbeats 1200000
/-! what is explained: lines, as the smallest relation that is closed under the rules -/
abbrev LNS : Type := Int × (Int → Int) × (Int → Int) × (Int → Int) × (Int → Int)
def psh (l : LNS) (d k s f : Int) : LNS := (l.1 + 1, upF l.2.1 l.1 d, upF l.2.2.1 l.1 k, upF l.2.2.2.1 l.1 s, upF l.2.2.2.2 l.1 f)
def fdE (G : Nat → Int → Int) (F : Int → Int → Int) (x o : Int) : Int := if G 0 x = 7 then F x o else 0
def ERU (G : Nat → Int → Int) (S F : Int → Int → Int) (P : Int → Int) (R : Nat → Int → Int → Int → LNS → LNS → Prop) : Prop :=
  (∀ x o d l, S x o < 0 → R 0 x o d l l) ∧
  (∀ x o d l, 0 ≤ S x o → G 0 x ≠ 5 → 3 < G 0 x → R 0 x o d l (psh l d (G 0 x) (S x o) (fdE G F x o))) ∧
  (∀ x o d l l', 0 ≤ S x o → G 0 x = 5 → R 0 (G 1 x) (P o) (d + 1) (psh l d (G 0 x) (S x o) (fdE G F x o)) l' → R 0 x o d l l') ∧
  (∀ x o d l l', 0 ≤ S x o → G 0 x ≤ 3 → R 1 (G 1 x) o (d + 1) (psh l d (G 0 x) (S x o) (fdE G F x o)) l' → R 0 x o d l l') ∧
  (∀ m o d l, m < 0 → R 1 m o d l l) ∧
  (∀ m o d l l', 0 ≤ m → G 3 m = 1 → R 1 (G 2 m) o d l l' → R 1 m o d l l') ∧
  (∀ m o d l k l', 0 ≤ m → G 3 m ≠ 1 → R 0 m o d l k → R 1 (G 2 m) o d k l' → R 1 m o d l l')
def EXR (G : Nat → Int → Int) (S F : Int → Int → Int) (P : Int → Int) (j : Nat) (x o d : Int) (l l' : LNS) : Prop := ∀ R : Nat → Int → Int → Int → LNS → LNS → Prop, ERU G S F P R → R j x o d l l'
section EXS
variable {G : Nat → Int → Int} {S F : Int → Int → Int} {P : Int → Int} {x o d m : Int} {l l' k : LNS}
theorem EX_1 (h : S x o < 0) : EXR G S F P 0 x o d l l := fun _ r => r.1 x o d l h
theorem EX_2 (h : 0 ≤ S x o) (h5 : G 0 x ≠ 5) (h3 : 3 < G 0 x) : EXR G S F P 0 x o d l (psh l d (G 0 x) (S x o) (fdE G F x o)) := fun _ r => r.2.1 x o d l h h5 h3
theorem EX_3 (h : 0 ≤ S x o) (h5 : G 0 x = 5) (g : EXR G S F P 0 (G 1 x) (P o) (d + 1) (psh l d (G 0 x) (S x o) (fdE G F x o)) l') : EXR G S F P 0 x o d l l' := fun R r => r.2.2.1 x o d l l' h h5 (g R r)
theorem EX_4 (h : 0 ≤ S x o) (h3 : G 0 x ≤ 3) (g : EXR G S F P 1 (G 1 x) o (d + 1) (psh l d (G 0 x) (S x o) (fdE G F x o)) l') : EXR G S F P 0 x o d l l' := fun R r => r.2.2.2.1 x o d l l' h h3 (g R r)
theorem EX_5 (h : m < 0) : EXR G S F P 1 m o d l l := fun _ r => r.2.2.2.2.1 m o d l h
theorem EX_6 (h : 0 ≤ m) (h1 : G 3 m = 1) (g : EXR G S F P 1 (G 2 m) o d l l') : EXR G S F P 1 m o d l l' := fun R r => r.2.2.2.2.2.1 m o d l l' h h1 (g R r)
theorem EX_7 (h : 0 ≤ m) (h1 : G 3 m ≠ 1) (g : EXR G S F P 0 m o d l k) (g2 : EXR G S F P 1 (G 2 m) o d k l') : EXR G S F P 1 m o d l l' := fun R r => r.2.2.2.2.2.2 m o d l k l' h h1 (g R r) (g2 R r)
end EXS
def lnX (τ : Sto) : LNS := (τ.I 0 59, τ.I 83, τ.I 84, τ.I 85, τ.I 86)
theorem ln_5 {σ8 σ15 σ22 σ26 σ34 σ37 : Sto} {d k s f : Int} (e15 : σ15 = σ8.wI 83 (σ8.I 0 59) d) (e22 : σ22 = σ15.wI 84 (σ15.I 0 59) k) (e26 : σ26 = σ22.wI 85 (σ22.I 0 59) s) (e34 : σ34 = σ26.wI 86 (σ26.I 0 59) f) (e37 : σ37 = σ34.wI 0 59 (σ34.I 0 59 + 1)) : lnX σ37 = psh (lnX σ8) d k s f ∧ (∀ c i, ¬ ((83 ≤ c ∧ c ≤ 86) ∨ (c = 0 ∧ i = 59)) → σ37.I c i = σ8.I c i) ∧ σ37.2 = σ8.2 := by
  have n15 : σ15.I 0 59 = σ8.I 0 59 := by rw [e15, I_ne _ _ _ _ (by decide)]
  have n22 : σ22.I 0 59 = σ8.I 0 59 := by rw [e22, I_ne _ _ _ _ (by decide)]; exact n15
  have n26 : σ26.I 0 59 = σ8.I 0 59 := by rw [e26, I_ne _ _ _ _ (by decide)]; exact n22
  have n34 : σ34.I 0 59 = σ8.I 0 59 := by rw [e34, I_ne _ _ _ _ (by decide)]; exact n26
  rw [n15] at e22
  rw [n22] at e26
  rw [n26] at e34
  rw [n34] at e37
  refine ⟨?_, fun c i q => ?_, by rw [e37, e34, e26, e22, e15]; rfl⟩
  · refine Prod.ext (by show σ37.I 0 59 = σ8.I 0 59 + 1; rw [e37, I_same]) (Prod.ext ?_ (Prod.ext ?_ (Prod.ext ?_ ?_)))
    · show σ37.I 83 = upF (σ8.I 83) (σ8.I 0 59) d
      funext i; rw [e37, I_ne _ _ _ _ (by decide), e34, I_ne _ _ _ _ (by decide), e26, I_ne _ _ _ _ (by decide), e22, I_ne _ _ _ _ (by decide), e15, I_wI]; unfold upF
      by_cases z : i = σ8.I 0 59
      · rw [if_pos ⟨rfl, z⟩, if_pos z]
      · rw [if_neg (fun w => z w.2), if_neg z]
    · show σ37.I 84 = upF (σ8.I 84) (σ8.I 0 59) k
      funext i; rw [e37, I_ne _ _ _ _ (by decide), e34, I_ne _ _ _ _ (by decide), e26, I_ne _ _ _ _ (by decide), e22, I_wI, e15, I_ne _ _ _ _ (by decide)]; unfold upF
      by_cases z : i = σ8.I 0 59
      · rw [if_pos ⟨rfl, z⟩, if_pos z]
      · rw [if_neg (fun w => z w.2), if_neg z]
    · show σ37.I 85 = upF (σ8.I 85) (σ8.I 0 59) s
      funext i; rw [e37, I_ne _ _ _ _ (by decide), e34, I_ne _ _ _ _ (by decide), e26, I_wI, e22, I_ne _ _ _ _ (by decide), e15, I_ne _ _ _ _ (by decide)]; unfold upF
      by_cases z : i = σ8.I 0 59
      · rw [if_pos ⟨rfl, z⟩, if_pos z]
      · rw [if_neg (fun w => z w.2), if_neg z]
    · show σ37.I 86 = upF (σ8.I 86) (σ8.I 0 59) f
      funext i; rw [e37, I_ne _ _ _ _ (by decide), e34, I_wI, e26, I_ne _ _ _ _ (by decide), e22, I_ne _ _ _ _ (by decide), e15, I_ne _ _ _ _ (by decide)]; unfold upF
      by_cases z : i = σ8.I 0 59
      · rw [if_pos ⟨rfl, z⟩, if_pos z]
      · rw [if_neg (fun w => z w.2), if_neg z]
  · rw [e37, I_ot _ _ _ _ _ _ (fun z => q (Or.inr z)), e34, I_ne _ _ _ _ (fun z => q (by omega)), e26, I_ne _ _ _ _ (fun z => q (by omega)), e22, I_ne _ _ _ _ (fun z => q (by omega)), e15, I_ne _ _ _ _ (fun z => q (by omega))]
def wsEx (o c : Nat) (i : Int) : Prop := c = o + 29 ∨ (83 ≤ c ∧ c ≤ 86) ∨ (c = 0 ∧ i = 59)
abbrev KEx (o : Nat) (σ τ : Sto) : Prop := Ch (wsEx o) σ τ
theorem KEx_a {o : Nat} {σ τ : Sto} (h : KEx o σ τ) (ho : 87 ≤ o) : SAG σ τ o := fun c i q => h.2 c i (by unfold wsEx; omega)
/-- sizes of what hangs below a node, and below it and those beside it -/
def SZq (G : Nat → Int → Int) (sz zm : Int → Int) (x : Int) : Prop := 1 ≤ sz x ∧ (G 0 x = 5 → sz (G 1 x) + 1 ≤ sz x) ∧ (G 0 x ≤ 3 → zm (G 1 x) + 1 ≤ sz x) ∧ sz x + zm (G 2 x) ≤ zm x
def fnX (σ : Sto) (o : Nat) (x k : Int) : Int := σ.I (o + 23) (601 * σ.I (o + 21) x + k)
theorem fnX_a {σ τ : Sto} {o : Nat} (h : SAG σ τ o) : fnX τ o = fnX σ o := by
  funext x k; unfold fnX; rw [sag h (c := o + 23) (by omega), sag h (c := o + 21) (by omega)]
def EXX (σ : Sto) (o : Nat) (V : Int → Int → Int) (j : Nat) (x k d : Int) (l l' : LNS) : Prop := EXR (GX σ o) (scW (tabS (GX σ o)) V) (fnX σ o) (σ.I 44) j x k d l l'
theorem EXX_a {σ τ : Sto} {o : Nat} {V : Int → Int → Int} (h : SAG σ τ o) : EXX τ o V = EXX σ o V := by
  funext j x k d l l'
  unfold EXX
  rw [GX_a h, fnX_a h, sag h (c := 44) (by omega)]

abbrev RC_X5_explain (E : XE) (V : Int → Int → Int) (sz : Int → Int) (zm : Int → Int) (f : Nat) : Prop := ∀ {d : Nat} {σ : Sto} {o0 : Nat} {x1 : Int} {x2 : Int} {x3 : Int}, 3 * f + 9 + f ≤ d → Lay σ → At5 σ o0 → (o0 = 87 ∨ o0 = 121 ∨ o0 = 155) → (CHW σ o0) → (SNX σ o0 V) → (0 ≤ x1 ∧ WX σ o0 V f x1) → ((0 ≤ x2 ∧ x2 < 601) ∧ snW σ o0 x2) → (WFX (GX σ o0) (SZq (GX σ o0) sz zm) f x1) → (∀ m, 0 ≤ zm m) → (0 ≤ σ.I 0 59 ∧ σ.I 0 59 + sz x1 ≤ 200) → (0 ≤ x3 ∧ x3 + f ≤ 1000) → (f ≤ 300) → CC E mX5_explain d [aO o0, aI (x1), aI (x2), aI (x3)] σ (RV (fun τ => (EXX σ o0 V 0 x1 x2 x3 (lnX σ) (lnX τ)) ∧ (SNX τ o0 V) ∧ (KEx o0 σ τ) ∧ (σ.I 0 59 ≤ τ.I 0 59 ∧ τ.I 0 59 ≤ σ.I 0 59 + sz x1)))
theorem sp_X5_explain {E : XE} {d : Nat} {σ : Sto} {V : Int → Int → Int} {sz : Int → Int} {zm : Int → Int} {f : Nat} {o0 : Nat} {x1 : Int} {x2 : Int} {x3 : Int} (hd : 3 * f + 9 + f ≤ d) (hL : Lay σ) (ho0 : At5 σ o0) (p0 : o0 = 87 ∨ o0 = 121 ∨ o0 = 155) (p1 : CHW σ o0) (p2 : SNX σ o0 V) (p3 : 0 ≤ x1 ∧ WX σ o0 V f x1) (p4 : (0 ≤ x2 ∧ x2 < 601) ∧ snW σ o0 x2) (p5 : WFX (GX σ o0) (SZq (GX σ o0) sz zm) f x1) (p6 : ∀ m, 0 ≤ zm m) (p7 : 0 ≤ σ.I 0 59 ∧ σ.I 0 59 + sz x1 ≤ 200) (p8 : 0 ≤ x3 ∧ x3 + f ≤ 1000) (p9 : RC_X5_explain E V sz zm (Nat.pred f)) (p10 : f ≤ 300) : CC E mX5_explain d [aO o0, aI (x1), aI (x2), aI (x3)] σ (RV (fun τ => (EXX σ o0 V 0 x1 x2 x3 (lnX σ) (lnX τ)) ∧ (SNX τ o0 V) ∧ (KEx o0 σ τ) ∧ (σ.I 0 59 ≤ τ.I 0 59 ∧ τ.I 0 59 ≤ σ.I 0 59 + sz x1))) := by sorry
theorem rc_X5_explain {E : XE} {V : Int → Int → Int} {sz zm : Int → Int} : ∀ f : Nat, RC_X5_explain E V sz zm f := by
  intro f
  induction f with
  | zero => intro d σ o0 x1 x2 x3 hd hL ho0 p0 p1 p2 p3 p4 p5 p6 p7 p8 p10; exact (p3.2).elim
  | succ f ih => intro d σ o0 x1 x2 x3 hd hL ho0 p0 p1 p2 p3 p4 p5 p6 p7 p8 p10; exact sp_X5_explain hd hL ho0 p0 p1 p2 p3 p4 p5 p6 p7 p8 ih p10

theorem sx_X5_explain {E : XE} {V : Int → Int → Int} {sz zm : Int → Int} {f : Nat} {d : Nat} {σ : Sto} {o0 : Nat} {x1 x2 x3 : Int} (hd : 3 * f + 9 + f ≤ d) (hL : Lay σ) (ho0 : At5 σ o0) (p0 : o0 = 87 ∨ o0 = 121 ∨ o0 = 155) (p1 : CHW σ o0) (p2 : SNX σ o0 V) (p3 : 0 ≤ x1 ∧ WX σ o0 V f x1) (p4 : (0 ≤ x2 ∧ x2 < 601) ∧ snW σ o0 x2) (p5 : WFX (GX σ o0) (SZq (GX σ o0) sz zm) f x1) (p6 : ∀ m, 0 ≤ zm m) (p7 : 0 ≤ σ.I 0 59 ∧ σ.I 0 59 + sz x1 ≤ 200) (p8 : 0 ≤ x3 ∧ x3 + f ≤ 1000) (p10 : f ≤ 300) : CC E mX5_explain d [aO o0, aI (x1), aI (x2), aI (x3)] σ (RV (fun τ => (EXX σ o0 V 0 x1 x2 x3 (lnX σ) (lnX τ)) ∧ (SNX τ o0 V) ∧ (KEx o0 σ τ) ∧ (σ.I 0 59 ≤ τ.I 0 59 ∧ τ.I 0 59 ≤ σ.I 0 59 + sz x1))) := rc_X5_explain f hd hL ho0 p0 p1 p2 p3 p4 p5 p6 p7 p8 p10
end
section
/-! contracts: printed by tools/mk.py out of s98zzb_expO.py -/
set_option maxRecDepth 100000
set_option maxHeartbeats 1200000
/-! explain: the program's own, and the model's -/
def XQE (σ : Sto) (sz zm : Int → Int) (k : Int) : Prop := SCR σ 87 ∧ ((0 ≤ k ∧ k < 601) ∧ snW σ 87 k) ∧ WFX (GX σ 87) (SZq (GX σ 87) sz zm) 130 (σ.I (87 + 1) 4) ∧ sz (σ.I (87 + 1) 4) ≤ 200
/-- the model's table of nodes -/
def GM (σ : Sto) : Nat → Int → Int := fun c i => if c = 0 then σ.I 609 i else if c = 1 then σ.I 610 i else if c = 2 then σ.I 611 i else if c = 3 then σ.I 612 i else 0
def ERM (G : Nat → Int → Int) (S F : Int → Int → Int) (P : Int → Int) (R : Nat → Int → Int → Int → LNS → LNS → Prop) : Prop :=
  (∀ x o d l, S x o < 0 → R 0 x o d l l) ∧
  (∀ x o d l, 0 ≤ S x o → G 0 x = 4 → R 0 x o d l (psh l d (G 0 x) (S x o) (F x o))) ∧
  (∀ x o d l l', 0 ≤ S x o → G 0 x ≠ 4 → R 1 (G 1 x) (if G 0 x = 5 then P o else o) (d + 1) (psh l d (G 0 x) (S x o) (F x o)) l' → R 0 x o d l l') ∧
  (∀ m o d l, m < 0 → R 1 m o d l l) ∧
  (∀ m o d l l', 0 ≤ m → G 3 m = 1 → R 1 (G 2 m) o d l l' → R 1 m o d l l') ∧
  (∀ m o d l k l', 0 ≤ m → G 3 m ≠ 1 → R 0 m o d l k → R 1 (G 2 m) o d k l' → R 1 m o d l l')
def EXM (G : Nat → Int → Int) (S F : Int → Int → Int) (P : Int → Int) (j : Nat) (x o d : Int) (l l' : LNS) : Prop := ∀ R : Nat → Int → Int → Int → LNS → LNS → Prop, ERM G S F P R → R j x o d l l'
section EMS
variable {G : Nat → Int → Int} {S F : Int → Int → Int} {P : Int → Int} {x o d m : Int} {l l' k : LNS}
theorem EM_1 (h : S x o < 0) : EXM G S F P 0 x o d l l := fun _ r => r.1 x o d l h
theorem EM_2 (h : 0 ≤ S x o) (h4 : G 0 x = 4) : EXM G S F P 0 x o d l (psh l d (G 0 x) (S x o) (F x o)) := fun _ r => r.2.1 x o d l h h4
theorem EM_3 (h : 0 ≤ S x o) (h4 : G 0 x ≠ 4) (g : EXM G S F P 1 (G 1 x) (if G 0 x = 5 then P o else o) (d + 1) (psh l d (G 0 x) (S x o) (F x o)) l') : EXM G S F P 0 x o d l l' := fun R r => r.2.2.1 x o d l l' h h4 (g R r)
theorem EM_5 (h : m < 0) : EXM G S F P 1 m o d l l := fun _ r => r.2.2.2.1 m o d l h
theorem EM_6 (h : 0 ≤ m) (h1 : G 3 m = 1) (g : EXM G S F P 1 (G 2 m) o d l l') : EXM G S F P 1 m o d l l' := fun R r => r.2.2.2.2.1 m o d l l' h h1 (g R r)
theorem EM_7 (h : 0 ≤ m) (h1 : G 3 m ≠ 1) (g : EXM G S F P 0 m o d l k) (g2 : EXM G S F P 1 (G 2 m) o d k l') : EXM G S F P 1 m o d l l' := fun R r => r.2.2.2.2.2 m o d l k l' h h1 (g R r) (g2 R r)
end EMS
def lnM (τ : Sto) : LNS := (τ.I 555 133, fun i => τ.I 653 (4 * i), fun i => τ.I 653 (4 * i + 1), fun i => τ.I 653 (4 * i + 2), fun i => τ.I 653 (4 * i + 3))
def scE (σ : Sto) (n o : Int) : Int := if σ.I 641 (601 * n + o) = 0 then -1 else prd (σ.I 613 n) (σ.I 642 (601 * n + o))
def fnE (σ : Sto) (n o : Int) : Int := σ.I 643 (601 * n + o)
def EXK (σ : Sto) (j : Nat) (x k d : Int) (l l' : LNS) : Prop := EXM (GM σ) (scE σ) (fnE σ) (σ.I 591) j x k d l l'
def wsEk (c : Nat) (i : Int) : Prop := c = 653 ∨ (c = 555 ∧ i = 133)
abbrev KEk (σ τ : Sto) : Prop := Ch wsEk σ τ
theorem GM_k {σ τ : Sto} (h : KEk σ τ) : GM τ = GM σ := by
  have e : ∀ c, c ≠ 653 → c ≠ 555 → τ.I c = σ.I c := fun c a b => funext fun i => h.2 _ _ (by unfold wsEk; omega)
  unfold GM; rw [e 609 (by decide) (by decide), e 610 (by decide) (by decide), e 611 (by decide) (by decide), e 612 (by decide) (by decide)]
theorem EXK_k {σ τ : Sto} (h : KEk σ τ) : EXK τ = EXK σ := by
  have e : ∀ c, c ≠ 653 → c ≠ 555 → τ.I c = σ.I c := fun c a b => funext fun i => h.2 _ _ (by unfold wsEk; omega)
  have e1 : scE τ = scE σ := by funext n o; unfold scE; rw [e 641 (by decide) (by decide), e 642 (by decide) (by decide), e 613 (by decide) (by decide)]
  have e2 : fnE τ = fnE σ := by funext n o; unfold fnE; rw [e 643 (by decide) (by decide)]
  funext j x k d l l'
  unfold EXK
  rw [GM_k h, e1, e2, e 591 (by decide) (by decide)]
theorem ln_M {σ τ : Sto} {d k s f n : Int} (hn : n = σ.I 555 133) (e : τ.I = fun c i => if at2 c i 653 (4 * σ.I 555 133) then d else if at2 c i 653 (4 * σ.I 555 133 + 1) then k else if at2 c i 653 (4 * σ.I 555 133 + 2) then s else if at2 c i 653 (4 * σ.I 555 133 + 3) then f else if at2 c i 555 133 then σ.I 555 133 + 1 else σ.I c i) : lnM τ = psh (lnM σ) d k s f ∧ ∀ c i, ¬ wsEk c i → τ.I c i = σ.I c i := by
  have h6 : ∀ i, τ.I 653 i = if i = 4 * σ.I 555 133 then d else if i = 4 * σ.I 555 133 + 1 then k else if i = 4 * σ.I 555 133 + 2 then s else if i = 4 * σ.I 555 133 + 3 then f else σ.I 653 i := fun i => by
    rw [e]; show (if at2 653 i _ _ then _ else if at2 653 i _ _ then _ else if at2 653 i _ _ then _ else if at2 653 i _ _ then _ else if at2 653 i _ _ then _ else _) = _
    rw [if_neg (show ¬ at2 653 i 555 133 from fun z => absurd z.1 (by decide))]
    unfold at2
    by_cases a : i = 4 * σ.I 555 133
    · rw [if_pos ⟨rfl, a⟩, if_pos a]
    · rw [if_neg (fun w => a w.2), if_neg a]
      by_cases b : i = 4 * σ.I 555 133 + 1
      · rw [if_pos ⟨rfl, b⟩, if_pos b]
      · rw [if_neg (fun w => b w.2), if_neg b]
        by_cases c : i = 4 * σ.I 555 133 + 2
        · rw [if_pos ⟨rfl, c⟩, if_pos c]
        · rw [if_neg (fun w => c w.2), if_neg c]
          by_cases g : i = 4 * σ.I 555 133 + 3
          · rw [if_pos ⟨rfl, g⟩, if_pos g]
          · rw [if_neg (fun w => g w.2), if_neg g]
  refine ⟨?_, fun c i q => ?_⟩
  · refine Prod.ext ?_ (Prod.ext ?_ (Prod.ext ?_ (Prod.ext ?_ ?_)))
    · show τ.I 555 133 = σ.I 555 133 + 1
      rw [e]; show (if at2 _ _ _ _ then _ else if at2 _ _ _ _ then _ else if at2 _ _ _ _ then _ else if at2 _ _ _ _ then _ else if at2 _ _ _ _ then _ else _) = _
      rw [if_neg (fun z => absurd z.1 (by decide)), if_neg (fun z => absurd z.1 (by decide)), if_neg (fun z => absurd z.1 (by decide)), if_neg (fun z => absurd z.1 (by decide)), if_pos ⟨rfl, rfl⟩]
    · show (fun i => τ.I 653 (4 * i)) = upF (fun i => σ.I 653 (4 * i)) (σ.I 555 133) d
      funext i; unfold upF; rw [h6]
      by_cases z : i = σ.I 555 133
      · rw [if_pos (by omega), if_pos z]
      · rw [if_neg (by omega), if_neg (by omega), if_neg (by omega), if_neg (by omega), if_neg z]
    · show (fun i => τ.I 653 (4 * i + 1)) = upF (fun i => σ.I 653 (4 * i + 1)) (σ.I 555 133) k
      funext i; unfold upF; rw [h6]
      by_cases z : i = σ.I 555 133
      · rw [if_neg (by omega), if_pos (by omega), if_pos z]
      · rw [if_neg (by omega), if_neg (by omega), if_neg (by omega), if_neg (by omega), if_neg z]
    · show (fun i => τ.I 653 (4 * i + 2)) = upF (fun i => σ.I 653 (4 * i + 2)) (σ.I 555 133) s
      funext i; unfold upF; rw [h6]
      by_cases z : i = σ.I 555 133
      · rw [if_neg (by omega), if_neg (by omega), if_pos (by omega), if_pos z]
      · rw [if_neg (by omega), if_neg (by omega), if_neg (by omega), if_neg (by omega), if_neg z]
    · show (fun i => τ.I 653 (4 * i + 3)) = upF (fun i => σ.I 653 (4 * i + 3)) (σ.I 555 133) f
      funext i; unfold upF; rw [h6]
      by_cases z : i = σ.I 555 133
      · rw [if_neg (by omega), if_neg (by omega), if_neg (by omega), if_pos (by omega), if_pos z]
      · rw [if_neg (by omega), if_neg (by omega), if_neg (by omega), if_neg (by omega), if_neg z]
  · rw [e]; show (if at2 _ _ _ _ then _ else if at2 _ _ _ _ then _ else if at2 _ _ _ _ then _ else if at2 _ _ _ _ then _ else if at2 _ _ _ _ then _ else _) = _
    rw [if_neg (fun z => q (Or.inl z.1)), if_neg (fun z => q (Or.inl z.1)), if_neg (fun z => q (Or.inl z.1)), if_neg (fun z => q (Or.inl z.1)), if_neg (fun z => q (Or.inr z))]
/-- what is asked of the model's nodes to be explained -/
def RQM (σ : Sto) (sz zm : Int → Int) (x : Int) : Prop := (0 ≤ x ∧ x < σ.I 555 80 ∧ σ.I 555 80 ≤ 130) ∧ (1 ≤ σ.I 613 x ∧ σ.I 613 x ≤ 10000000000000) ∧ 1 ≤ sz x ∧ (GM σ 0 x ≠ 4 → zm (GM σ 1 x) + 1 ≤ sz x) ∧ sz x + zm (GM σ 2 x) ≤ zm x
def HMP (σ : Sto) : Prop := ∀ n o, 0 ≤ n → n < σ.I 555 80 → 0 ≤ o → o < 601 → σ.I 641 (601 * n + o) ≠ 0 → (σ.I 609 n = 5 → 0 ≤ σ.I 591 o ∧ σ.I 591 o < 601) ∧ 0 ≤ σ.I 642 (601 * n + o) ∧ σ.I 642 (601 * n + o) ≤ 1000000000000000
theorem RQM_k {σ τ : Sto} {sz zm : Int → Int} (h : KEk σ τ) : RQM τ sz zm = RQM σ sz zm := by
  funext x; unfold RQM; rw [GM_k h, show τ.I 555 80 = σ.I 555 80 from h.2 _ _ (by unfold wsEk; omega), show τ.I 613 = σ.I 613 from funext fun i => h.2 _ _ (by unfold wsEk; omega)]
theorem HMP_k {σ τ : Sto} (h : KEk σ τ) (g : HMP σ) : HMP τ := by
  have e : ∀ c, c ≠ 653 → c ≠ 555 → τ.I c = σ.I c := fun c a b => funext fun i => h.2 _ _ (by unfold wsEk; omega)
  unfold HMP; rw [show τ.I 555 80 = σ.I 555 80 from h.2 _ _ (by unfold wsEk; omega), e 641 (by decide) (by decide), e 642 (by decide) (by decide), e 609 (by decide) (by decide), e 591 (by decide) (by decide)]; exact g

theorem sp_X0_explain {E : XE} {d : Nat} {σ : Sto} {sz : Int → Int} {zm : Int → Int} {x1 : Int} (hd : 530 ≤ d) (hL : Lay σ)  (p0 : inR x1) (p1 : 0 ≤ σ.I 0 70 ∧ σ.I 0 70 ≤ 600) (p2 : (σ.I 0 71 ≠ 0 ∧ (0 ≤ x1 ∧ x1 < σ.I 0 70)) → XQE σ sz zm (σ.I 189 x1)) (p3 : ∀ m, 0 ≤ zm m) : CC E mX0_explain d [aO 0, aI (x1)] σ (RVI (fun y τ => ((¬ (σ.I 0 71 ≠ 0 ∧ (0 ≤ x1 ∧ x1 < σ.I 0 70)) ∧ y = -1 ∧ τ = σ) ∨ ((σ.I 0 71 ≠ 0 ∧ (0 ≤ x1 ∧ x1 < σ.I 0 70)) ∧ y = τ.I 0 59 ∧ EXX σ 87 (vXX σ 87) 0 (σ.I (87 + 1) 4) (σ.I 189 x1) 0 (0, σ.I 83, σ.I 84, σ.I 85, σ.I 86) (lnX τ) ∧ SCR τ 87 ∧ KEx 87 σ τ ∧ (0 ≤ τ.I 0 59 ∧ τ.I 0 59 ≤ 200))))) := by sorry
abbrev RC_X9_explainNode (E : XE) (sz : Int → Int) (zm : Int → Int) (f : Nat) : Prop := ∀ {d : Nat} {σ : Sto} {x1 : Int} {x2 : Int} {x3 : Int}, f + 4 ≤ d → Lay σ → (0 ≤ x1 ∧ WFX (GM σ) (RQM σ sz zm) f x1) → (0 ≤ x2 ∧ x2 < 601) → (HMP σ) → (∀ m, 0 ≤ zm m) → (0 ≤ σ.I 555 133 ∧ σ.I 555 133 + sz x1 ≤ 130) → (0 ≤ x3 ∧ x3 + f ≤ 1000) → CC E mX9_explainNode d [aO 555, aI (x1), aI (x2), aI (x3)] σ (RV (fun τ => (EXK σ 0 x1 x2 x3 (lnM σ) (lnM τ)) ∧ (KEk σ τ) ∧ (σ.I 555 133 ≤ τ.I 555 133 ∧ τ.I 555 133 ≤ σ.I 555 133 + sz x1)))
theorem sp_X9_explainNode {E : XE} {d : Nat} {σ : Sto} {sz : Int → Int} {zm : Int → Int} {f : Nat} {x1 : Int} {x2 : Int} {x3 : Int} (hd : f + 4 ≤ d) (hL : Lay σ)  (p0 : 0 ≤ x1 ∧ WFX (GM σ) (RQM σ sz zm) f x1) (p1 : 0 ≤ x2 ∧ x2 < 601) (p2 : HMP σ) (p3 : ∀ m, 0 ≤ zm m) (p4 : 0 ≤ σ.I 555 133 ∧ σ.I 555 133 + sz x1 ≤ 130) (p5 : 0 ≤ x3 ∧ x3 + f ≤ 1000) (p6 : RC_X9_explainNode E sz zm (Nat.pred f)) : CC E mX9_explainNode d [aO 555, aI (x1), aI (x2), aI (x3)] σ (RV (fun τ => (EXK σ 0 x1 x2 x3 (lnM σ) (lnM τ)) ∧ (KEk σ τ) ∧ (σ.I 555 133 ≤ τ.I 555 133 ∧ τ.I 555 133 ≤ σ.I 555 133 + sz x1))) := by sorry
theorem rc_X9_explainNode {E : XE} {sz zm : Int → Int} : ∀ f : Nat, RC_X9_explainNode E sz zm f := by
  intro f
  induction f with
  | zero => intro d σ x1 x2 x3 hd hL p0 p1 p2 p3 p4 p5; exact (p0.2).elim
  | succ f ih => intro d σ x1 x2 x3 hd hL p0 p1 p2 p3 p4 p5; exact sp_X9_explainNode hd hL p0 p1 p2 p3 p4 p5 ih

theorem sx_X9_explainNode {E : XE} {sz zm : Int → Int} {f : Nat} {d : Nat} {σ : Sto} {x1 x2 x3 : Int} (hd : f + 4 ≤ d) (hL : Lay σ) (p0 : 0 ≤ x1 ∧ WFX (GM σ) (RQM σ sz zm) f x1) (p1 : 0 ≤ x2 ∧ x2 < 601) (p2 : HMP σ) (p3 : ∀ m, 0 ≤ zm m) (p4 : 0 ≤ σ.I 555 133 ∧ σ.I 555 133 + sz x1 ≤ 130) (p5 : 0 ≤ x3 ∧ x3 + f ≤ 1000) : CC E mX9_explainNode d [aO 555, aI (x1), aI (x2), aI (x3)] σ (RV (fun τ => (EXK σ 0 x1 x2 x3 (lnM σ) (lnM τ)) ∧ (KEk σ τ) ∧ (σ.I 555 133 ≤ τ.I 555 133 ∧ τ.I 555 133 ≤ σ.I 555 133 + sz x1))) := rc_X9_explainNode f hd hL p0 p1 p2 p3 p4 p5
end
section
/-! contracts: printed by tools/mk.py out of s98zzc_mrkX.py -/
set_option maxRecDepth 100000
set_option maxHeartbeats 1200000
/-! marks of a leaf: the program -/
def vlM (σ : Sto) (o : Nat) (x v : Int) : Prop := σ.I 26 v = σ.I (o + 8) x ∧ (σ.I (o + 3) x = 7 → mtX σ o x v ≠ 0)
def plM (σ : Sto) (o : Nat) (x t n : Int) : Prop := exF (fun p => exF (fun k => σ.I (o + 28) k = t) (σ.I (o + 27) p) (σ.I (o + 27) (p + 1))) (σ.I (o + 24) x) n
def tkM (σ : Sto) (o : Nat) (x i : Int) : Prop := (σ.I (o + 3) x ≠ 7 ∧ fitX σ o x (σ.I 36 i)) ∨ (σ.I (o + 3) x = 7 ∧ plM σ o x (σ.I 36 i) (σ.I (o + 24) x + σ.I (o + 25) x))
def mkS (σ : Sto) (o : Nat) (x k n i : Int) : Prop := exN (fun j => vlM σ o x (σ.I 42 k + j) ∧ (σ.I 31 (σ.I 42 k + j) ≤ i ∧ i < σ.I 31 (σ.I 42 k + j) + σ.I 32 (σ.I 42 k + j)) ∧ tkM σ o x i) n
theorem mkS_0 {σ : Sto} {o : Nat} {x k i n : Int} (h : n ≤ 0) : ¬ mkS σ o x k n i := exN_0 _ _ h
theorem mkS_n {σ : Sto} {o : Nat} {x k i n : Int} (h0 : 0 ≤ n) (h : ¬ vlM σ o x (σ.I 42 k + n)) : mkS σ o x k (n + 1) i ↔ mkS σ o x k n i := by
  unfold mkS; rw [exN_s _ n (n + 1) h0 rfl]
  exact ⟨fun q => q.elim id (fun z => absurd z.1 h), Or.inl⟩
theorem mkS_y {σ : Sto} {o : Nat} {x k i n : Int} (h0 : 0 ≤ n) (h : vlM σ o x (σ.I 42 k + n)) : mkS σ o x k (n + 1) i ↔ (mkS σ o x k n i ∨ ((σ.I 31 (σ.I 42 k + n) ≤ i ∧ i < σ.I 31 (σ.I 42 k + n) + σ.I 32 (σ.I 42 k + n)) ∧ tkM σ o x i)) := by
  unfold mkS; rw [exN_s _ n (n + 1) h0 rfl]
  exact ⟨fun q => q.elim Or.inl (fun z => Or.inr z.2), fun q => q.elim Or.inl (fun z => Or.inr ⟨h, z⟩)⟩
def wsMk (o c : Nat) (i : Int) : Prop := c = 82 ∨ c = 81 ∨ (o + 30 ≤ c ∧ c ≤ o + 33) ∨ (c = o ∧ i = 16)
abbrev KMk (o : Nat) (σ τ : Sto) : Prop := Ch (wsMk o) σ τ
def wsMq (o c : Nat) (i : Int) : Prop := wsMk o c i ∨ (c = 0 ∧ i = 75)
abbrev KMq (o : Nat) (σ τ : Sto) : Prop := Ch (wsMq o) σ τ
theorem KMq_of {o : Nat} {σ τ : Sto} (h : KMk o σ τ) : KMq o σ τ := Ch.mono h (fun c i q => Or.inl q)
theorem mk_e {σ τ : Sto} {o : Nat} (h : KMq o σ τ) (ho : 87 ≤ o) (hA : AN σ) : (∀ x v, mtX τ o x v = mtX σ o x v) ∧ (∀ x v, vlM τ o x v ↔ vlM σ o x v) ∧ τ.R = σ.R := by
  have e : ∀ c, c ≠ 82 → c ≠ 81 → ¬ (o + 30 ≤ c ∧ c ≤ o + 33) → (c ≠ o ∧ c ≠ 0) → τ.I c = σ.I c := fun c a b d f => funext fun i => h.2 _ _ (by unfold wsMq wsMk; omega)
  have h1 : ∀ x v, mtX τ o x v = mtX σ o x v := fun x v => by
    unfold mtX
    rw [show sxQ τ o x v = sxQ σ o x v from by
      funext p y; unfold sxQ sxP lxQ
      rw [e 39 (by omega) (by omega) (by omega) (by omega), e 31 (by omega) (by omega) (by omega) (by omega), e 36 (by omega) (by omega) (by omega) (by omega), e 32 (by omega) (by omega) (by omega) (by omega), e (o + 28) (by omega) (by omega) (by omega) (by omega), e (o + 27) (by omega) (by omega) (by omega) (by omega), e (o + 24) (by omega) (by omega) (by omega) (by omega)],
      e (o + 26) (by omega) (by omega) (by omega) (by omega), e (o + 24) (by omega) (by omega) (by omega) (by omega), e (o + 25) (by omega) (by omega) (by omega) (by omega), e (o + 11) (by omega) (by omega) (by omega) (by omega)]
  refine ⟨h1, fun x v => ?_, h.1.1⟩
  unfold vlM
  rw [h1, e 26 (by omega) (by omega) (by omega) (by omega), e (o + 8) (by omega) (by omega) (by omega) (by omega), e (o + 3) (by omega) (by omega) (by omega) (by omega)]
theorem fit_e {σ τ : Sto} {o : Nat} (e : ∀ c, (16 ≤ c ∧ c ≤ 21) ∨ (o + 2 ≤ c ∧ c ≤ o + 11) ∨ 675 ≤ c → τ.I c = σ.I c) (er : τ.R = σ.R) {x t : Int} (hA : 0 ≤ σ.I 17 (σ.I (o + 8) x) ∧ σ.I 17 (σ.I (o + 8) x) < σ.I 0 4 ∨ σ.I 16 (σ.I (o + 8) x) ≠ 0) (hN : AN σ) : fitX τ o x t ↔ fitX σ o x t := by
  have ac : anC τ = anC σ := by funext k; unfold anC; rw [er]
  have hp : ptX τ o x = ptX σ o x := by
    funext k; unfold ptX
    rw [ac, e 16 (by omega), e 17 (by omega), e (o + 8) (by omega), e (o + 2) (by omega), e (o + 9) (by omega)]
    rcases hA with a | a
    · have := (hN _ a.1 a.2).2.2
      rw [e (anC σ (σ.I 17 (σ.I (o + 8) x))) (by omega)]
    · rw [if_neg (fun z => a z.1), if_neg (fun z => a z.1)]
  unfold fitX
  rw [hp, e (o + 3) (by omega), e (o + 10) (by omega), e (o + 9) (by omega), e 19 (by omega), e 21 (by omega), e (o + 11) (by omega)]
theorem or01b {a b : Int} (ha : a = 0 ∨ a = 1) (hb : b = 0 ∨ b = 1) : (0 ≤ b32or a b ∧ b32or a b ≤ 1) ∧ (b32or a b = 1 ↔ (a = 1 ∨ b = 1)) := by
  rcases ha with rfl | rfl <;> rcases hb with rfl | rfl <;> decide
/-- what marking a leaf rests on -/
def MLX (σ : Sto) (o : Nat) (x : Int) : Prop := (0 ≤ σ.I (o + 24) x ∧ σ.I (o + 24) x ≤ 984) ∧ (0 ≤ σ.I (o + 25) x ∧ σ.I (o + 25) x ≤ 16) ∧ (σ.I (o + 3) x = 7 → (0 ≤ σ.I (o + 11) x ∧ σ.I (o + 11) x ≤ 9) ∧ 1 ≤ σ.I (o + 25) x ∧ TMI σ o x) ∧ (σ.I (o + 3) x ≠ 7 → TNX σ o x ∧ (0 ≤ σ.I 17 (σ.I (o + 8) x) ∧ σ.I 17 (σ.I (o + 8) x) < σ.I 0 4 ∨ σ.I 16 (σ.I (o + 8) x) ≠ 0))
theorem MLX_e {σ τ : Sto} {o : Nat} {x : Int} (h : MLX σ o x) (e : ∀ c, c = 16 ∨ c = 17 ∨ c = o + 3 ∨ (o + 8 ≤ c ∧ c ≤ o + 11) ∨ (o + 24 ≤ c ∧ c ≤ o + 28) → τ.I c = σ.I c) (e0 : τ.I 0 9 = σ.I 0 9 ∧ τ.I 0 4 = σ.I 0 4) : MLX τ o x := by
  unfold MLX TMI TNX at *
  rw [e 16 (by omega), e 17 (by omega), e (o + 3) (by omega), e (o + 8) (by omega), e (o + 9) (by omega), e (o + 10) (by omega), e (o + 11) (by omega), e (o + 24) (by omega), e (o + 25) (by omega), e (o + 27) (by omega), e0.1, e0.2]; exact h
theorem plM_s {σ : Sto} {o : Nat} {x t n : Int} (h : σ.I (o + 24) x ≤ n) : plM σ o x t (n + 1) ↔ (plM σ o x t n ∨ exF (fun k => σ.I (o + 28) k = t) (σ.I (o + 27) n) (σ.I (o + 27) (n + 1))) := by
  unfold plM
  constructor
  · rintro ⟨p, a, b, c⟩
    rcases (show p < n ∨ p = n by omega) with z | z
    · exact Or.inl ⟨p, a, z, c⟩
    · exact Or.inr (by rw [z] at c; exact c)
  · rintro (⟨p, a, b, c⟩ | c)
    · exact ⟨p, a, by omega, c⟩
    · exact ⟨n, h, by omega, c⟩
theorem plM_m {σ : Sto} {o : Nat} {x t n m : Int} (h : n ≤ m) (g : plM σ o x t n) : plM σ o x t m := by
  obtain ⟨p, a, b, c⟩ := g; exact ⟨p, a, by omega, c⟩

theorem sp_X5_markLeaf {E : XE} {d : Nat} {σ : Sto} {o0 : Nat} {x1 : Int} {x2 : Int} (hd : 523 ≤ d) (hL : Lay σ) (ho0 : At5 σ o0) (p0 : o0 = 87 ∨ o0 = 121 ∨ o0 = 155) (p1 : 0 ≤ x1 ∧ x1 < 200) (p2 : 0 ≤ x2 ∧ x2 < 601) (p3 : OB σ 42 43) (p4 : TKO σ x2) (p5 : MLX σ o0 x1) (p6 : bd_0_500 σ (o0 + 26) 1000) (p7 : bd_m1_15 σ (o0 + 32) 512) (p8 : bd_0_499 σ 39 24000) (p9 : AN σ) (p10 : bd_0_20 σ 21 36500) (p11 : bd_0_1 σ 82 24000) (p12 : σ.I 18 7 ≤ 36500) : CC E mX5_markLeaf d [aO o0, aI (x1), aI (x2)] σ (RV (fun τ => (∀ i, 0 ≤ i → i < 24000 → (τ.I 82 i = 1 ↔ (σ.I 82 i = 1 ∨ mkS σ o0 x1 x2 (σ.I 43 x2) i))) ∧ (bd_0_1 τ 82 24000) ∧ (bd_m1_15 τ (o0 + 32) 512) ∧ (KMk o0 σ τ))) := by sorry
end
section
/-! contracts: printed by tools/mk.py out of s98zzd_mrkA.py -/
set_option maxRecDepth 100000
set_option maxHeartbeats 1200000
/-! marks: all leaves, the lists -/
def MRU (G : Nat → Int → Int) (L : Int → Prop) (R : Nat → Int → Prop) : Prop :=
  (∀ x, 6 < G 0 x → L x → R 0 x) ∧ (∀ x, G 0 x ≤ 3 → R 1 (G 1 x) → R 0 x) ∧ (∀ m, 0 ≤ m → G 3 m ≠ 1 → R 0 m → R 1 m) ∧ (∀ m, 0 ≤ m → R 1 (G 2 m) → R 1 m)
/-- a leaf that is as L says is reached -/
def MKR (G : Nat → Int → Int) (L : Int → Prop) (j : Nat) (x : Int) : Prop := ∀ R : Nat → Int → Prop, MRU G L R → R j x
section MKRS
variable {G : Nat → Int → Int} {L : Int → Prop} {x m : Int}
theorem MKR_inv : ∀ {j : Nat} {x : Int}, MKR G L j x → (j = 0 ∧ ((6 < G 0 x ∧ L x) ∨ (G 0 x ≤ 3 ∧ MKR G L 1 (G 1 x)))) ∨ (j = 1 ∧ 0 ≤ x ∧ ((G 3 x ≠ 1 ∧ MKR G L 0 x) ∨ MKR G L 1 (G 2 x))) := by
  intro j x h
  have q := h (fun j x => MKR G L j x ∧ ((j = 0 ∧ ((6 < G 0 x ∧ L x) ∨ (G 0 x ≤ 3 ∧ MKR G L 1 (G 1 x)))) ∨ (j = 1 ∧ 0 ≤ x ∧ ((G 3 x ≠ 1 ∧ MKR G L 0 x) ∨ MKR G L 1 (G 2 x))))) ⟨?_, ?_, ?_, ?_⟩
  · exact q.2
  · exact fun x a b => ⟨fun R r => r.1 x a b, Or.inl ⟨rfl, Or.inl ⟨a, b⟩⟩⟩
  · exact fun x a b => ⟨fun R r => r.2.1 x a (b.1 R r), Or.inl ⟨rfl, Or.inr ⟨a, b.1⟩⟩⟩
  · exact fun m a b c => ⟨fun R r => r.2.2.1 m a b (c.1 R r), Or.inr ⟨rfl, a, Or.inl ⟨b, c.1⟩⟩⟩
  · exact fun m a b => ⟨fun R r => r.2.2.2 m a (b.1 R r), Or.inr ⟨rfl, a, Or.inr b.1⟩⟩
theorem MKR_l (h : 6 < G 0 x) : MKR G L 0 x ↔ L x := by
  constructor
  · intro q
    rcases MKR_inv q with ⟨_, w | w⟩ | ⟨w, _⟩
    · exact w.2
    · have := w.1; omega
    · exact absurd w (by decide)
  · exact fun q R r => r.1 x h q
theorem MKR_n (h : G 0 x ≤ 3) : MKR G L 0 x ↔ MKR G L 1 (G 1 x) := by
  constructor
  · intro q
    rcases MKR_inv q with ⟨_, w | w⟩ | ⟨w, _⟩
    · have := w.1; omega
    · exact w.2
    · exact absurd w (by decide)
  · exact fun q R r => r.2.1 x h (q R r)
theorem MKR_x (h : 3 < G 0 x) (h6 : G 0 x ≤ 6) : ¬ MKR G L 0 x := by
  intro q
  rcases MKR_inv q with ⟨_, w | w⟩ | ⟨w, _⟩
  · have := w.1; omega
  · have := w.1; omega
  · exact absurd w (by decide)
theorem MKR_e (h : m < 0) : ¬ MKR G L 1 m := by
  intro q
  rcases MKR_inv q with ⟨w, _⟩ | ⟨_, w, _⟩
  · exact absurd w (by decide)
  · omega
theorem MKR_1 (h : 0 ≤ m) (h1 : G 3 m = 1) : MKR G L 1 m ↔ MKR G L 1 (G 2 m) := by
  constructor
  · intro q
    rcases MKR_inv q with ⟨w, _⟩ | ⟨_, _, w | w⟩
    · exact absurd w (by decide)
    · exact absurd h1 w.1
    · exact w
  · exact fun q R r => r.2.2.2 m h (q R r)
theorem MKR_2 (h : 0 ≤ m) (h1 : G 3 m ≠ 1) : MKR G L 1 m ↔ (MKR G L 0 m ∨ MKR G L 1 (G 2 m)) := by
  constructor
  · intro q
    rcases MKR_inv q with ⟨w, _⟩ | ⟨_, _, w | w⟩
    · exact absurd w (by decide)
    · exact Or.inl w.2
    · exact Or.inr w
  · exact fun q R r => q.elim (fun z => r.2.2.1 m h h1 (z R r)) (fun z => r.2.2.2 m h (z R r))
end MKRS
def lfK (σ : Sto) (o : Nat) (k f i x : Int) : Prop := σ.I (o + 8) x = f ∧ 0 < fnX σ o x k ∧ mkS σ o x k (σ.I 43 k) i
def MKX1 (σ : Sto) (o : Nat) (k f i : Int) (j : Nat) (x : Int) : Prop := MKR (GX σ o) (lfK σ o k f i) j x
def RMX (σ : Sto) (o : Nat) (k f x : Int) : Prop := (0 ≤ GX σ o 0 x ∧ GX σ o 0 x ≤ 12) ∧ (6 < GX σ o 0 x → σ.I (o + 8) x = f → 0 < fnX σ o x k → MLX σ o x)
/-- what all the marking rests on -/
def MAE (σ : Sto) (o : Nat) (k : Int) : Prop := OB σ 42 43 ∧ TKO σ k ∧ bd_0_500 σ (o + 26) 1000 ∧ bd_m1_15 σ (o + 32) 512 ∧ bd_0_499 σ 39 24000 ∧ AN σ ∧ bd_0_20 σ 21 36500 ∧ bd_0_1 σ 82 24000 ∧ σ.I 18 7 ≤ 36500 ∧ bd_0_59 σ (o + 21) 200
theorem mks_e {σ τ : Sto} {o : Nat} (h : KMq o σ τ) (ho : 87 ≤ o ∧ o ≤ 155) (hN : AN σ) {x k n i : Int} (hM : MLX σ o x) : mkS τ o x k n i ↔ mkS σ o x k n i := by
  have e : ∀ c, c ≠ 82 → c ≠ 81 → ¬ (o + 30 ≤ c ∧ c ≤ o + 33) → (c ≠ o ∧ c ≠ 0) → τ.I c = σ.I c := fun c a b d f => funext fun i => h.2 _ _ (by unfold wsMq wsMk; omega)
  have hv := (mk_e h ho.1 hN).2.1
  have hp : plM τ o x (τ.I 36 i) (τ.I (o + 24) x + τ.I (o + 25) x) ↔ plM σ o x (σ.I 36 i) (σ.I (o + 24) x + σ.I (o + 25) x) := by
    unfold plM; rw [e (o + 28) (by omega) (by omega) (by omega) (by omega), e (o + 27) (by omega) (by omega) (by omega) (by omega), e (o + 24) (by omega) (by omega) (by omega) (by omega), e (o + 25) (by omega) (by omega) (by omega) (by omega), e 36 (by omega) (by omega) (by omega) (by omega)]
  have ht : tkM τ o x i ↔ tkM σ o x i := by
    unfold tkM
    rw [hp, e (o + 3) (by omega) (by omega) (by omega) (by omega), e 36 (by omega) (by omega) (by omega) (by omega)]
    by_cases z : σ.I (o + 3) x = 7
    · exact ⟨fun q => q.elim (fun w => absurd z w.1) Or.inr, fun q => q.elim (fun w => absurd z w.1) Or.inr⟩
    · rw [fit_e (fun c q => e c (by omega) (by omega) (by omega) (by omega)) h.1.1 (hM.2.2.2 z).2 hN]
  unfold mkS
  rw [e 42 (by omega) (by omega) (by omega) (by omega), e 31 (by omega) (by omega) (by omega) (by omega), e 32 (by omega) (by omega) (by omega) (by omega)]
  constructor
  · rintro ⟨j, a, b, c, d, f⟩; exact ⟨j, a, b, (hv _ _).mp c, d, ht.mp f⟩
  · rintro ⟨j, a, b, c, d, f⟩; exact ⟨j, a, b, (hv _ _).mpr c, d, ht.mpr f⟩
theorem MAE_k {σ τ : Sto} {o : Nat} {k : Int} (h : MAE σ o k) (c : KMq o σ τ) (ho : 87 ≤ o) (h82 : bd_0_1 τ 82 24000) (h32 : bd_m1_15 τ (o + 32) 512) : MAE τ o k := by
  have e : ∀ c, c ≠ 82 → c ≠ 81 → ¬ (o + 30 ≤ c ∧ c ≤ o + 33) → (c ≠ o ∧ c ≠ 0) → τ.I c = σ.I c := fun c' a b d f => funext fun i => c.2 _ _ (by unfold wsMq wsMk; omega)
  obtain ⟨a1, a2, a3, a4, a5, a6, a7, a8, a9, a10⟩ := h
  refine ⟨?_, TKO_e a2 (fun c q => e c (by omega) (by omega) (by omega) (by omega)), bd_0_500_eq a3 (e _ (by omega) (by omega) (by omega) (by omega)), h32, bd_0_499_eq a5 (e _ (by omega) (by omega) (by omega) (by omega)), AN_k a6 c.1.1 c.1.2.1 c.1.2.2 (c.2 _ _ (by unfold wsMq wsMk; omega)), bd_0_20_eq a7 (e _ (by omega) (by omega) (by omega) (by omega)), h82, by rw [e 18 (by omega) (by omega) (by omega) (by omega)]; exact a9, bd_0_59_eq a10 (e _ (by omega) (by omega) (by omega) (by omega))⟩
  unfold OB; rw [e 42 (by omega) (by omega) (by omega) (by omega), e 43 (by omega) (by omega) (by omega) (by omega)]; exact a1
theorem GX_mk {σ τ : Sto} {o : Nat} (h : KMq o σ τ) (ho : 87 ≤ o) : GX τ o = GX σ o := by
  have e : ∀ c, c ≠ 82 → c ≠ 81 → ¬ (o + 30 ≤ c ∧ c ≤ o + 33) → (c ≠ o ∧ c ≠ 0) → τ.I c = σ.I c := fun c' a b d f => funext fun i => h.2 _ _ (by unfold wsMq wsMk; omega)
  unfold GX
  rw [e (o + 3) (by omega) (by omega) (by omega) (by omega), e (o + 4) (by omega) (by omega) (by omega) (by omega), e (o + 5) (by omega) (by omega) (by omega) (by omega), e (o + 6) (by omega) (by omega) (by omega) (by omega), e (o + 7) (by omega) (by omega) (by omega) (by omega), e (o + 11) (by omega) (by omega) (by omega) (by omega)]
theorem RMX_k {σ τ : Sto} {o : Nat} (h : KMq o σ τ) (ho : 87 ≤ o) {k f x : Int} (g : RMX σ o k f x) : RMX τ o k f x := by
  have e : ∀ c, c ≠ 82 → c ≠ 81 → ¬ (o + 30 ≤ c ∧ c ≤ o + 33) → (c ≠ o ∧ c ≠ 0) → τ.I c = σ.I c := fun c' a b d f => funext fun i => h.2 _ _ (by unfold wsMq wsMk; omega)
  unfold RMX at *
  rw [GX_mk h ho, e (o + 8) (by omega) (by omega) (by omega) (by omega), show fnX τ o = fnX σ o from by funext x k; unfold fnX; rw [e (o + 23) (by omega) (by omega) (by omega) (by omega), e (o + 21) (by omega) (by omega) (by omega) (by omega)]]
  exact ⟨g.1, fun a b c => MLX_e (g.2 a b c) (fun c q => e c (by omega) (by omega) (by omega) (by omega)) ⟨h.2 _ _ (by unfold wsMq wsMk; omega), h.2 _ _ (by unfold wsMq wsMk; omega)⟩⟩
theorem WFX_mk {G : Nat → Int → Int} {R R' : Int → Prop} (hR : ∀ x, R x → R' x) : ∀ {f : Nat} {x : Int}, WFX G R f x → WFX G R' f x := by
  intro f
  induction f with
  | zero => intro x h; exact h.elim
  | succ f ih =>
    intro x h
    rcases h with h | ⟨a, b, c, d⟩
    · exact Or.inl h
    · exact Or.inr ⟨a, hR x b, ih c, ih d⟩
/-- the same marks are told before and behind a leaf that was marked -/
theorem MKX_k {σ τ : Sto} {o : Nat} (h : KMq o σ τ) (ho : 87 ≤ o ∧ o ≤ 155) (hN : AN σ) {k f i : Int} : ∀ {n : Nat} {x : Int} (_ : WFX (GX σ o) (RMX σ o k f) n x), (0 ≤ x → (MKX1 τ o k f i 0 x ↔ MKX1 σ o k f i 0 x)) ∧ (MKX1 τ o k f i 1 x ↔ MKX1 σ o k f i 1 x) := by
  have eG := GX_mk h ho.1
  have e : ∀ c, c ≠ 82 → c ≠ 81 → ¬ (o + 30 ≤ c ∧ c ≤ o + 33) → (c ≠ o ∧ c ≠ 0) → τ.I c = σ.I c := fun c' a b d f => funext fun i => h.2 _ _ (by unfold wsMq wsMk; omega)
  have ef : fnX τ o = fnX σ o := by funext x k; unfold fnX; rw [e (o + 23) (by omega) (by omega) (by omega) (by omega), e (o + 21) (by omega) (by omega) (by omega) (by omega)]
  unfold MKX1
  rw [eG]
  intro n
  induction n with
  | zero => intro x hw; exact hw.elim
  | succ n ih =>
    intro x hw
    rcases hw with hx | ⟨hx, hr, h1, h2⟩
    · refine ⟨fun z => by omega, ⟨fun q => absurd q (MKR_e (by omega)), fun q => absurd q (MKR_e (by omega))⟩⟩
    · have i1 := ih h1
      have i2 := ih h2
      have a0 : MKR (GX σ o) (lfK τ o k f i) 0 x ↔ MKR (GX σ o) (lfK σ o k f i) 0 x := by
        rcases (show GX σ o 0 x ≤ 3 ∨ (3 < GX σ o 0 x ∧ GX σ o 0 x ≤ 6) ∨ 6 < GX σ o 0 x by omega) with z | z | z
        · rw [MKR_n z, MKR_n z]; exact i1.2
        · exact ⟨fun q => absurd q (MKR_x z.1 z.2), fun q => absurd q (MKR_x z.1 z.2)⟩
        · rw [MKR_l z, MKR_l z]
          unfold lfK
          rw [e (o + 8) (by omega) (by omega) (by omega) (by omega), ef, e 43 (by omega) (by omega) (by omega) (by omega)]
          constructor
          · rintro ⟨a, b, c⟩; exact ⟨a, b, (mks_e h ho hN (hr.2 z a b)).mp c⟩
          · rintro ⟨a, b, c⟩; exact ⟨a, b, (mks_e h ho hN (hr.2 z a b)).mpr c⟩
      refine ⟨fun _ => a0, ?_⟩
      by_cases z : GX σ o 3 x = 1
      · rw [MKR_1 hx.1 z, MKR_1 hx.1 z]; exact i2.2
      · rw [MKR_2 hx.1 z, MKR_2 hx.1 z, a0, i2.2]

abbrev RC_X5_markAll (E : XE) (f : Nat) : Prop := ∀ {d : Nat} {σ : Sto} {o0 : Nat} {x1 : Int} {x2 : Int} {x3 : Int}, 526 + f ≤ d → Lay σ → At5 σ o0 → (o0 = 87 ∨ o0 = 121 ∨ o0 = 155) → (0 ≤ x1 ∧ WFX (GX σ o0) (RMX σ o0 x2 x3) f x1) → (0 ≤ x2 ∧ x2 < 601) → (MAE σ o0 x2) → (inR x3) → (f ≤ 300) → CC E mX5_markAll d [aO o0, aI (x1), aI (x2), aI (x3)] σ (RV (fun τ => (∀ i, 0 ≤ i → i < 24000 → (τ.I 82 i = 1 ↔ (σ.I 82 i = 1 ∨ MKX1 σ o0 x2 x3 i 0 x1))) ∧ (bd_0_1 τ 82 24000) ∧ (bd_m1_15 τ (o0 + 32) 512) ∧ (KMk o0 σ τ)))
theorem sp_X5_markAll {E : XE} {d : Nat} {σ : Sto} {f : Nat} {o0 : Nat} {x1 : Int} {x2 : Int} {x3 : Int} (hd : 526 + f ≤ d) (hL : Lay σ) (ho0 : At5 σ o0) (p0 : o0 = 87 ∨ o0 = 121 ∨ o0 = 155) (p1 : 0 ≤ x1 ∧ WFX (GX σ o0) (RMX σ o0 x2 x3) f x1) (p2 : 0 ≤ x2 ∧ x2 < 601) (p3 : MAE σ o0 x2) (p4 : inR x3) (p5 : RC_X5_markAll E (Nat.pred f)) (p6 : f ≤ 300) : CC E mX5_markAll d [aO o0, aI (x1), aI (x2), aI (x3)] σ (RV (fun τ => (∀ i, 0 ≤ i → i < 24000 → (τ.I 82 i = 1 ↔ (σ.I 82 i = 1 ∨ MKX1 σ o0 x2 x3 i 0 x1))) ∧ (bd_0_1 τ 82 24000) ∧ (bd_m1_15 τ (o0 + 32) 512) ∧ (KMk o0 σ τ))) := by sorry
theorem rc_X5_markAll {E : XE} : ∀ f : Nat, RC_X5_markAll E f := by
  intro f
  induction f with
  | zero => intro d σ o0 x1 x2 x3 hd hL ho0 p0 p1 p2 p3 p4 p6; exact (p1.2).elim
  | succ f ih => intro d σ o0 x1 x2 x3 hd hL ho0 p0 p1 p2 p3 p4 p6; exact sp_X5_markAll hd hL ho0 p0 p1 p2 p3 p4 ih p6
theorem sx_X5_markAll {E : XE} {f : Nat} {d : Nat} {σ : Sto} {o0 : Nat} {x1 x2 x3 : Int} (hd : 526 + f ≤ d) (hL : Lay σ) (ho0 : At5 σ o0) (p0 : o0 = 87 ∨ o0 = 121 ∨ o0 = 155) (p1 : 0 ≤ x1 ∧ WFX (GX σ o0) (RMX σ o0 x2 x3) f x1) (p2 : 0 ≤ x2 ∧ x2 < 601) (p3 : MAE σ o0 x2) (p4 : inR x3) (p6 : f ≤ 300) : CC E mX5_markAll d [aO o0, aI (x1), aI (x2), aI (x3)] σ (RV (fun τ => (∀ i, 0 ≤ i → i < 24000 → (τ.I 82 i = 1 ↔ (σ.I 82 i = 1 ∨ MKX1 σ o0 x2 x3 i 0 x1))) ∧ (bd_0_1 τ 82 24000) ∧ (bd_m1_15 τ (o0 + 32) 512) ∧ (KMk o0 σ τ))) := rc_X5_markAll f hd hL ho0 p0 p1 p2 p3 p4 p6
end
section
/-! contracts: printed by tools/mk.py out of s98zze_mrkO.py -/
set_option maxRecDepth 100000
set_option maxHeartbeats 1200000
/-! the marks of a hit: lists -/
abbrev MKL : Type := Int × (Int → Int) × (Int → Int) × (Int → Int)
def pshM (s : MKL) (j a b : Int) : MKL := (s.1 + 1, upF s.2.1 s.1 j, upF s.2.2.1 s.1 a, upF s.2.2.2 s.1 b)
noncomputable def stM (q : Prop) (j a b : Int) (s : MKL) : MKL := if zb (q ∧ ¬ (0 < s.1 ∧ s.2.1 (s.1 - 1) = j ∧ s.2.2.1 (s.1 - 1) = a)) = 1 then pshM s j a b else s
noncomputable def mkTN (q : Int → Prop) (st en : Int → Int) (j a : Int) (s : MKL) : Nat → MKL
  | 0 => s
  | n + 1 => stM (q (a + n)) j (st (a + n)) (en (a + n)) (mkTN q st en j a s n)
noncomputable def mkT (q : Int → Prop) (st en : Int → Int) (j a : Int) (s : MKL) (n : Int) : MKL := mkTN q st en j a s n.toNat
noncomputable def mkVN (q : Int → Prop) (st en A C : Int → Int) (s : MKL) : Nat → MKL
  | 0 => s
  | n + 1 => mkT q st en n (A n) (mkVN q st en A C s n) (C n)
noncomputable def mkV (q : Int → Prop) (st en A C : Int → Int) (s : MKL) (n : Int) : MKL := mkVN q st en A C s n.toNat
theorem mkT_0 {q : Int → Prop} {st en : Int → Int} {j a n : Int} {s : MKL} (h : n ≤ 0) : mkT q st en j a s n = s := by unfold mkT; rw [show n.toNat = 0 by omega]; rfl
theorem mkT_s {q : Int → Prop} {st en : Int → Int} {j a n : Int} {s : MKL} (h : 0 ≤ n) : mkT q st en j a s (n + 1) = stM (q (a + n)) j (st (a + n)) (en (a + n)) (mkT q st en j a s n) := by
  unfold mkT; rw [show (n + 1).toNat = n.toNat + 1 by omega]; show stM _ _ _ _ _ = _; rw [show ((n.toNat : Nat) : Int) = n by omega]
theorem mkV_0 {q : Int → Prop} {st en A C : Int → Int} {n : Int} {s : MKL} (h : n ≤ 0) : mkV q st en A C s n = s := by unfold mkV; rw [show n.toNat = 0 by omega]; rfl
theorem mkV_s {q : Int → Prop} {st en A C : Int → Int} {n : Int} {s : MKL} (h : 0 ≤ n) : mkV q st en A C s (n + 1) = mkT q st en n (A n) (mkV q st en A C s n) (C n) := by
  unfold mkV; rw [show (n + 1).toNat = n.toNat + 1 by omega]; show mkT _ _ _ _ _ _ _ = _; rw [show ((n.toNat : Nat) : Int) = n by omega]
def msX (τ : Sto) : MKL := (τ.I 0 75, τ.I 193, τ.I 194, τ.I 195)
theorem stM_n {q : Prop} {j a b : Int} {s : MKL} (h : ¬ q) : stM q j a b s = s := by unfold stM; rw [zb_f (fun z => h z.1)]; exact if_neg (by decide)
theorem ms_s {τ υ : Sto} {q : Prop} {j a b : Int} (h : q) (e : υ.I = fun c i => if (¬ (0 < τ.I 0 75 ∧ τ.I 193 (τ.I 0 75 - 1) = j ∧ τ.I 194 (τ.I 0 75 - 1) = a)) then (if at2 c i 193 (τ.I 0 75) then j else if at2 c i 194 (τ.I 0 75) then a else if at2 c i 195 (τ.I 0 75) then b else if at2 c i 0 75 then τ.I 0 75 + 1 else τ.I c i) else τ.I c i) : msX υ = stM q j a b (msX τ) ∧ (∀ c i, ¬ (193 ≤ c ∧ c ≤ 195) → ¬ (c = 0 ∧ i = 75) → υ.I c i = τ.I c i) ∧ τ.I 0 75 ≤ υ.I 0 75 ∧ υ.I 0 75 ≤ τ.I 0 75 + 1 := by
  have hf : ∀ c i, ¬ (193 ≤ c ∧ c ≤ 195) → ¬ (c = 0 ∧ i = 75) → υ.I c i = τ.I c i := fun c i x y => by
    by_cases z : (0 < τ.I 0 75 ∧ τ.I 193 (τ.I 0 75 - 1) = j ∧ τ.I 194 (τ.I 0 75 - 1) = a)
    · have e2 : υ.I = τ.I := by rw [e]; funext c i; rw [if_neg (fun w => w z)]
      rw [e2]
    · have e2 : υ.I = fun c i => if at2 c i 193 (τ.I 0 75) then j else if at2 c i 194 (τ.I 0 75) then a else if at2 c i 195 (τ.I 0 75) then b else if at2 c i 0 75 then τ.I 0 75 + 1 else τ.I c i := by rw [e]; funext c i; rw [if_pos z]
      rw [e2]
      show (if at2 c i 193 _ then _ else if at2 c i 194 _ then _ else if at2 c i 195 _ then _ else if at2 c i 0 75 then _ else _) = _
      rw [if_neg (show ¬ at2 c i 193 (τ.I 0 75) from fun w => x (by have := w.1; omega)), if_neg (show ¬ at2 c i 194 (τ.I 0 75) from fun w => x (by have := w.1; omega)), if_neg (show ¬ at2 c i 195 (τ.I 0 75) from fun w => x (by have := w.1; omega)), if_neg (show ¬ at2 c i 0 75 from fun w => y w)]
  refine ⟨?_, hf, ?_⟩
  · unfold stM
    show _ = if zb (q ∧ ¬ (0 < τ.I 0 75 ∧ τ.I 193 (τ.I 0 75 - 1) = j ∧ τ.I 194 (τ.I 0 75 - 1) = a)) = 1 then _ else _
    by_cases z : (0 < τ.I 0 75 ∧ τ.I 193 (τ.I 0 75 - 1) = j ∧ τ.I 194 (τ.I 0 75 - 1) = a)
    · rw [if_neg (by rw [zb_f (fun w => w.2 z)]; decide)]
      have e2 : υ.I = τ.I := by rw [e]; funext c i; rw [if_neg (fun w => w z)]
      unfold msX; rw [e2]
    · rw [if_pos (zb_t ⟨h, z⟩)]
      have e2 : υ.I = fun c i => if at2 c i 193 (τ.I 0 75) then j else if at2 c i 194 (τ.I 0 75) then a else if at2 c i 195 (τ.I 0 75) then b else if at2 c i 0 75 then τ.I 0 75 + 1 else τ.I c i := by rw [e]; funext c i; rw [if_pos z]
      refine Prod.ext ?_ (Prod.ext ?_ (Prod.ext ?_ ?_))
      · show υ.I 0 75 = τ.I 0 75 + 1; rw [e2]; grind
      · show υ.I 193 = upF (τ.I 193) (τ.I 0 75) j; funext i; rw [e2]; unfold upF; grind
      · show υ.I 194 = upF (τ.I 194) (τ.I 0 75) a; funext i; rw [e2]; unfold upF; grind
      · show υ.I 195 = upF (τ.I 195) (τ.I 0 75) b; funext i; rw [e2]; unfold upF; grind
  · by_cases z : (0 < τ.I 0 75 ∧ τ.I 193 (τ.I 0 75 - 1) = j ∧ τ.I 194 (τ.I 0 75 - 1) = a)
    · have e2 : υ.I = τ.I := by rw [e]; funext c i; rw [if_neg (fun w => w z)]
      rw [e2]; omega
    · have e2 : υ.I 0 75 = τ.I 0 75 + 1 := by
        rw [e]; show (if _ then (if at2 _ _ _ _ then _ else if at2 _ _ _ _ then _ else if at2 _ _ _ _ then _ else if at2 _ _ _ _ then _ else _) else _) = _
        rw [if_pos z, if_neg (fun w => absurd w.1 (by decide)), if_neg (fun w => absurd w.1 (by decide)), if_neg (fun w => absurd w.1 (by decide)), if_pos ⟨rfl, rfl⟩]
      rw [e2]; omega
def tkA (σ : Sto) (k j : Int) : Int := σ.I 31 (σ.I 42 k + j)
def tkC (σ : Sto) (k j : Int) : Int := σ.I 32 (σ.I 42 k + j)
noncomputable def mkLs (σ : Sto) (k f n : Int) : MKL := mkV (fun i => MKX1 σ 87 k f i 0 (σ.I (87 + 1) 4)) (σ.I 40) (σ.I 41) (tkA σ k) (tkC σ k) (0, σ.I 193, σ.I 194, σ.I 195) n
noncomputable def mkLt (σ : Sto) (k f j n : Int) : MKL := mkT (fun i => MKX1 σ 87 k f i 0 (σ.I (87 + 1) 4)) (σ.I 40) (σ.I 41) j (tkA σ k j) (mkLs σ k f j) n
/-- tokens of an object are not marked -/
def CLM (σ τ : Sto) (k j m : Int) : Prop := (∀ a, 0 ≤ a → a < j → ∀ i, tkA σ k a ≤ i → i < tkA σ k a + tkC σ k a → τ.I 82 i = 0) ∧ ∀ i, tkA σ k j ≤ i → i < tkA σ k j + m → τ.I 82 i = 0
def wsMo (c : Nat) (i : Int) : Prop := wsMq 87 c i ∨ (193 ≤ c ∧ c ≤ 195)
abbrev KMo (σ τ : Sto) : Prop := Ch wsMo σ τ

theorem sp_X0_marks {E : XE} {d : Nat} {σ : Sto} {x1 : Int} {x2 : Int} (hd : 660 ≤ d) (hL : Lay σ)  (p0 : inR x1 ∧ inR x2) (p1 : 0 ≤ σ.I 0 70 ∧ σ.I 0 70 ≤ 600) (p2 : 0 ≤ σ.I 0 9 ∧ σ.I 0 9 ≤ 12) (p3 : (σ.I 0 71 ≠ 0 ∧ (0 ≤ x1 ∧ x1 < σ.I 0 70) ∧ ((0 ≤ x2 ∧ x2 < σ.I 0 9) ∧ σ.I 16 x2 = 0)) → (0 ≤ (σ.I 189 x1) ∧ (σ.I 189 x1) < 601) ∧ MAE σ 87 (σ.I 189 x1) ∧ (0 ≤ σ.I (87 + 1) 4 ∧ WFX (GX σ 87) (RMX σ 87 (σ.I 189 x1) x2) 130 (σ.I (87 + 1) 4)) ∧ bd_0_1000 σ 40 24000 ∧ bd_0_1000 σ 41 24000) : CC E mX0_marks d [aO 0, aI (x1), aI (x2)] σ (RVI (fun y τ => ((¬ (σ.I 0 71 ≠ 0 ∧ (0 ≤ x1 ∧ x1 < σ.I 0 70) ∧ ((0 ≤ x2 ∧ x2 < σ.I 0 9) ∧ σ.I 16 x2 = 0)) ∧ y = -1 ∧ τ = σ) ∨ ((σ.I 0 71 ≠ 0 ∧ (0 ≤ x1 ∧ x1 < σ.I 0 70) ∧ ((0 ≤ x2 ∧ x2 < σ.I 0 9) ∧ σ.I 16 x2 = 0)) ∧ y = τ.I 0 75 ∧ msX τ = mkLs σ (σ.I 189 x1) x2 (σ.I 43 (σ.I 189 x1)) ∧ KMo σ τ ∧ bd_0_1 τ 82 24000 ∧ bd_m1_15 τ (87 + 32) 512 ∧ (0 ≤ τ.I 0 75 ∧ τ.I 0 75 ≤ 6000))))) := by sorry
end
