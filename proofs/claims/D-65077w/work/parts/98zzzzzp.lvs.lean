/-! contracts: printed by tools/mk.py out of s98zzzzzp_lvs.py -/
set_option maxRecDepth 100000
set_option maxHeartbeats 2000000
/-! a question has no more leaves than it counts -/
def LVS (s : PS) : Prop := 0 ≤ s.nc ∧ cn (fun k => 7 ≤ s.T 0 k) s.nc ≤ s.on
section LVSS
variable {e : PE} {s : PS} {p k v : Int} {g : Nat → Int}
theorem LVS_to (h : LVS s) : LVS (s.to p) := h
theorem LVS_o1 (h : LVS s) : LVS s.o1 := ⟨h.1, by have := h.2; show cn (fun k => 7 ≤ s.T 0 k) s.nc ≤ s.on + 1; omega⟩
theorem LVS_up {c : Nat} (hc : c ≠ 0) (h : LVS s) : LVS (s.up c k v) := by
  refine ⟨h.1, ?_⟩
  have e : (s.up c k v).T 0 = s.T 0 := funext fun i => up_ne (fun z => hc z.symm)
  show cn (fun i => 7 ≤ (s.up c k v).T 0 i) s.nc ≤ s.on
  rw [e]
  exact h.2
theorem LVS_ad1 (h : LVS s) : cn (fun i => 7 ≤ (s.ad p g).T 0 i) (s.nc + 1) = cn (fun k => 7 ≤ s.T 0 k) s.nc + zb (7 ≤ g 0) := by
  rw [cn_s _ s.nc _ h.1 rfl]
  have e1 : (s.ad p g).T 0 s.nc = g 0 := if_pos rfl
  rw [e1, cn_cg (q := fun k => 7 ≤ s.T 0 k) (fun i i0 i1 => by
    have e : (s.ad p g).T 0 i = s.T 0 i := if_neg (by omega)
    rw [e])]
theorem LVS_ad (h : LVS s) (hg : g 0 < 7) : LVS (s.ad p g) := by
  refine ⟨by have := h.1; show 0 ≤ s.nc + 1; omega, ?_⟩
  show cn (fun i => 7 ≤ (s.ad p g).T 0 i) (s.nc + 1) ≤ s.on
  rw [LVS_ad1 h, zb_f (by omega)]
  have := h.2
  omega
theorem LVS_oa (h : LVS s) : LVS (s.o1.ad p g) := by
  refine ⟨by have := h.1; show 0 ≤ s.nc + 1; omega, ?_⟩
  show cn (fun i => 7 ≤ (s.ad p g).T 0 i) (s.nc + 1) ≤ s.on + 1
  rw [LVS_ad1 h]
  have := h.2
  have := zb_in (7 ≤ g 0)
  omega
theorem LVS_jn {kd f l : Int} (hk : kd < 7) (h : LVS s) : LVS (jn kd f l s).2 := by
  unfold jn
  split
  · exact h
  · exact LVS_ad h hk
def UPS (K : List PFr) : Prop := ∀ k, PFr.up k ∈ K → k < 7
theorem UPS_c {fr : PFr} {K : List PFr} (h : UPS K) (hf : ∀ k, fr = PFr.up k → k < 7) : UPS (fr :: K) := fun k z => by
  rcases List.mem_cons.mp z with z | z
  · exact hf k z.symm
  · exact h k z
theorem UPS_t {fr : PFr} {K : List PFr} (h : UPS (fr :: K)) : UPS K := fun k z => h k (List.mem_cons_of_mem _ z)
def LVG : PZ ⊕ PR → Prop
  | .inl z => LVS z.2.2 ∧ UPS z.2.1
  | .inr (.inl _) => True
  | .inr (.inr r) => LVS r.2
theorem LVG_one {a : Int} {K : List PFr} (h : LVS s) (u : UPS K) : LVG (oneS e a K s) := by
  unfold oneS
  split
  · trivial
  split
  · trivial
  split
  · exact ⟨LVS_o1 h, UPS_c u (fun k z => by cases z)⟩
  split
  · split
    · split
      · exact ⟨LVS_o1 h, UPS_c u (fun k z => by cases z)⟩
      · trivial
    · trivial
  split
  · exact ⟨LVS_o1 h, UPS_c u (fun k z => by cases z; decide)⟩
  split
  · exact ⟨LVS_o1 h, UPS_c u (fun k z => by cases z; decide)⟩
  split
  · exact ⟨LVS_oa h, u⟩
  cases lfR e (fhF e s.p) (fhP e s.p) with
  | inl c => trivial
  | inr l => exact ⟨LVS_oa h, u⟩
theorem LVG_stp (z : PZ) (h : LVS z.2.2) (u : UPS z.2.1) : LVG (stp e z) := by
  obtain ⟨c, K, s⟩ := z
  have h : LVS s := h
  have u : UPS K := u
  cases c using PCt.cs with
  | any a => exact ⟨h, UPS_c u (fun k z => by cases z)⟩
  | best a => exact ⟨h, UPS_c u (fun k z => by cases z)⟩
  | all a => exact ⟨h, UPS_c u (fun k z => by cases z)⟩
  | part a sg => exact ⟨h, UPS_c u (fun k z => by cases z)⟩
  | one a => exact LVG_one h u
  | la a f l =>
    show LVG (if hc e s.p = 124 then _ else _)
    split
    · exact ⟨h, UPS_c u (fun k z => by cases z)⟩
    · exact ⟨LVS_jn (by decide) h, u⟩
  | lb a f l =>
    show LVG (if hc e s.p = 47 then _ else _)
    split
    · exact ⟨h, UPS_c u (fun k z => by cases z)⟩
    · exact ⟨LVS_jn (by decide) h, u⟩
  | lc a f l w =>
    show LVG (if hc e s.p = 32 then _ else if w = 1 then _ else _)
    split
    · exact ⟨h, UPS_c u (fun k z => by cases z)⟩
    · split
      · exact ⟨LVS_jn (by decide) h, u⟩
      · trivial
  | ls a f l m =>
    show LVG (if hc e s.p = 32 then _ else if hc e s.p = 125 then _ else _)
    split
    · exact ⟨h, UPS_c u (fun k z => by cases z)⟩
    · split
      · exact ⟨LVS_ad (g := rowN 3 f m) h (by show (3 : Int) < 7; decide), u⟩
      · trivial
  | ret v =>
    cases K with
    | nil => exact h
    | cons k K =>
      have u' := UPS_t u
      cases k using PFr.cs with
      | pt sg =>
        show LVG (if hc e s.p = 94 then (if 49 ≤ hc e (s.p + 1) ∧ hc e (s.p + 1) ≤ 57 then _ else _) else _)
        split
        · split
          · exact ⟨LVS_up (by decide) (LVS_up (s := s.to (s.p + 2)) (by decide) h), u'⟩
          · trivial
        · exact ⟨LVS_up (by decide) h, u'⟩
      | pr =>
        show LVG (if hc e s.p = 41 then _ else _)
        split
        · exact ⟨h, u'⟩
        · trivial
      | a1 a => exact ⟨h, u'⟩
      | aL a f l => exact ⟨LVS_up (by decide) h, u'⟩
      | b1 a => exact ⟨h, u'⟩
      | bL a f l => exact ⟨LVS_up (by decide) h, u'⟩
      | c1 a => exact ⟨h, u'⟩
      | cL a f l w => exact ⟨LVS_up (by decide) h, u'⟩
      | up kd => exact ⟨LVS_ad (g := rowN kd v 0) h (u kd (List.mem_cons_self ..)), u'⟩
      | s1 a m => exact ⟨h, u'⟩
      | sL a f l m => exact ⟨LVS_up (by decide) h, u'⟩
/-- leaves of a question that was read -/
theorem qR_lv {v : Int} (h : qR e = .inr (v, s)) : cn (fun k => 7 ≤ s.T 0 k) s.nc ≤ s.on := by
  have key := rs_inv (d := (.inl 0 : PR)) (st := stp e) (I := fun z => LVS z.2.2 ∧ UPS z.2.1) (G := fun r => match r with | .inl _ => True | .inr r => LVS r.2) (fun z z' hz hq => by
    have := LVG_stp (e := e) z hz.1 hz.2
    rw [hq] at this
    exact this) (fun z r hz hq => by
    have := LVG_stp (e := e) z hz.1 hz.2
    rw [hq] at this
    cases r with
    | inl _ => trivial
    | inr r => exact this) trivial (.any 0, [], s00) ⟨⟨Int.le_refl _, by show cn _ (0 : Int) ≤ 0; rw [cn_0 _ _ (Int.le_refl _)]; exact Int.le_refl _⟩, fun k z => by cases z⟩
  have q3 : ∃ r, rn e (.any 0, [], s00) = .inr r ∧ r = (v, s) := by
    unfold qR at h
    cases hr : rn e (.any 0, [], s00) with
    | inl x => rw [hr] at h; cases h
    | inr r =>
      obtain ⟨a, b⟩ := r
      rw [hr] at h
      have q3 : (if b.p < e.n then (.inl (-10 - b.p) : PR) else .inr (a, b)) = .inr (v, s) := h
      by_cases c : b.p < e.n
      · rw [if_pos c] at q3; cases q3
      · rw [if_neg c] at q3
        exact ⟨(a, b), rfl, Sum.inr.inj q3⟩
  obtain ⟨r, q4, rfl⟩ := q3
  have q5 : rs (.inl 0) (stp e) (.any 0, [], s00) = .inr (v, s) := q4
  rw [q5] at key
  exact key.2
end LVSS
/-- as many, or fewer -/
theorem inj_cn {p : Int → Prop} {f : Int → Int} {m : Nat} : ∀ (n : Nat) (q : Int → Prop), (∀ x, 0 ≤ x → x < (n : Int) → p x → (0 ≤ f x ∧ f x < (m : Int)) ∧ q (f x)) → (∀ x y, 0 ≤ x → x < (n : Int) → 0 ≤ y → y < (n : Int) → p x → p y → f x = f y → x = y) → cn p n ≤ cn q m := by
  intro n
  induction n with
  | zero => intro q _ _; rw [cn_0 p _ (show ((0 : Nat) : Int) ≤ 0 by omega)]; have := cn_in q m; omega
  | succ n ih =>
    intro q h1 h2
    rw [cn_s p (n : Int) _ (by omega) (by omega)]
    by_cases c : p n
    · have w := h1 n (by omega) (by omega) c
      have a := ih (fun k => q k ∧ k ≠ f n) (fun x a b d => ⟨(h1 x a (by omega) d).1, (h1 x a (by omega) d).2, fun z => by have := h2 x n a (by omega) (by omega) (by omega) d c z; omega⟩) (fun x y a b d e => h2 x y a (by omega) d (by omega))
      have b := cn_one (p := fun k => q k ∧ k ≠ f n) (q := q) (h := f n) (fun k => ⟨fun z => by
        by_cases y : k = f n
        · exact Or.inr y
        · exact Or.inl ⟨z, y⟩, fun z => by
        rcases z with z | z
        · exact z.1
        · rw [z]; exact w.2⟩) (fun z => z.2 rfl) w.1.1 m
      rw [if_pos w.1.2] at b
      rw [zb_t c]
      omega
    · rw [zb_f c]
      have a := ih q (fun x a b => h1 x a (by omega)) (fun x y a b d e => h2 x y a (by omega) d (by omega))
      omega
theorem inj_sm {p : Int → Prop} {f g g' : Int → Int} {m : Nat} : ∀ (n : Nat) (q : Int → Prop), (∀ x, 0 ≤ x → x < (n : Int) → p x → ((0 ≤ f x ∧ f x < (m : Int)) ∧ q (f x)) ∧ g x ≤ g' (f x)) → (∀ x y, 0 ≤ x → x < (n : Int) → 0 ≤ y → y < (n : Int) → p x → p y → f x = f y → x = y) → (∀ k, 0 ≤ k → k < (m : Int) → q k → 0 ≤ g' k) → smP p g n ≤ smP q g' m := by
  intro n
  induction n with
  | zero =>
    intro q _ _ h3
    rw [smP_0 p _ _ (show ((0 : Nat) : Int) ≤ 0 by omega)]
    exact (smP_l3 m (fun k a b c => ⟨h3 k a b c, Int.le_refl _⟩)).1
  | succ n ih =>
    intro q h1 h2 h3
    by_cases c : p n
    · have w := h1 n (by omega) (by omega) c
      rw [smP_t p g (n : Int) _ (by omega) (by omega) c]
      have a := ih (fun k => q k ∧ k ≠ f n) (fun x a b d => ⟨⟨(h1 x a (by omega) d).1.1, (h1 x a (by omega) d).1.2, fun z => by have := h2 x n a (by omega) (by omega) (by omega) d c z; omega⟩, (h1 x a (by omega) d).2⟩) (fun x y a b d e => h2 x y a (by omega) d (by omega)) (fun k a b d => h3 k a b d.1)
      have b := smP_or (p := fun k => q k ∧ k ≠ f n) (q := fun k => k = f n) (g := g') (fun k z => z.1.2 z.2) m
      rw [smP_1 w.1.1.1 m, if_pos w.1.1.2] at b
      have e := smP_cg (p := fun k => (q k ∧ k ≠ f n) ∨ k = f n) (q := q) (f := g') (g := g') (n := (m : Int)) (fun k _ _ => ⟨fun z => by
        rcases z with z | z
        · exact z.1
        · rw [z]; exact w.1.2, fun z => by
        by_cases y : k = f n
        · exact Or.inr y
        · exact Or.inl ⟨z, y⟩⟩) (fun _ _ _ _ => rfl)
      rw [e] at b
      have := w.2
      omega
    · rw [smP_f p g (n : Int) _ (by omega) (by omega) c]
      exact ih q (fun x a b => h1 x a (by omega)) (fun x y a b d e => h2 x y a (by omega) d (by omega)) h3

