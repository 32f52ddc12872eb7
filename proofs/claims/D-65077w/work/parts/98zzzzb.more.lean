/-! contracts: printed by tools/mk.py out of s98zzzzb_more.py -/
set_option maxRecDepth 100000
set_option maxHeartbeats 800000
/-! more fields: what was read before is read again -/
section PMO
variable {e : PE} {F p f : Int} {l : LD}
def PE.wf (e : PE) (F : Int) : PE := ⟨e.B, e.n, e.K, F⟩
theorem lfR_up (hF : e.f ≤ F) (h : lfR e f p = .inr l) : lfR (e.wf F) f p = .inr l := by
  have g : lfG e f p := Classical.byContradiction fun z => by
    unfold lfR at h
    rw [if_pos (zb_f z)] at h
    cases h
  have g' : lfG (e.wf F) f p := ⟨⟨g.1.1, by have := g.1.2; show f < F; omega⟩, g.2⟩
  unfold lfR at h ⊢
  rw [if_neg (by rw [zb_t g]; omega)] at h
  rw [if_neg (by rw [zb_t g']; omega)]
  exact h
theorem oneS_up {a : Int} {K : List PFr} {s : PS} (hF : e.f ≤ F) : (∃ c, oneS e a K s = .inr (.inl c)) ∨ oneS (e.wf F) a K s = oneS e a K s := by
  cases hq : lfR e (fhF e s.p) (fhP e s.p) with
  | inr l =>
    right
    have h2 : lfR (e.wf F) (fhF (e.wf F) s.p) (fhP (e.wf F) s.p) = .inr l := lfR_up hF hq
    have e1 : ∀ p, hc (e.wf F) p = hc e p := fun _ => rfl
    unfold oneS
    rw [h2, hq, e1, e1, e1]
    rfl
  | inl c =>
    have e1 : ∀ p, hc (e.wf F) p = hc e p := fun _ => rfl
    by_cases h1 : zb (bgn (hc e s.p)) = 0
    · left; exact ⟨_, by unfold oneS; rw [if_pos h1]⟩
    by_cases h2 : s.on = 60 ∨ 11 < a
    · left; exact ⟨_, by unfold oneS; rw [if_neg h1, if_pos h2]⟩
    by_cases h3 : hc e s.p = 40
    · right; unfold oneS; rw [e1, if_neg h1, if_neg h2, if_pos h3, if_neg h1, if_neg h2, if_pos h3]
    by_cases h4 : hc e s.p = 123
    · right; unfold oneS; rw [e1, e1, e1, if_neg h1, if_neg h2, if_neg h3, if_pos h4, if_neg h1, if_neg h2, if_neg h3, if_pos h4]
    by_cases h5 : hc e s.p = 62
    · right; unfold oneS; rw [e1, e1, e1, if_neg h1, if_neg h2, if_neg h3, if_neg h4, if_pos h5, if_neg h1, if_neg h2, if_neg h3, if_neg h4, if_pos h5]
    by_cases h6 : hc e s.p = 60
    · right; unfold oneS; rw [e1, e1, e1, if_neg h1, if_neg h2, if_neg h3, if_neg h4, if_neg h5, if_pos h6, if_neg h1, if_neg h2, if_neg h3, if_neg h4, if_neg h5, if_pos h6]
    by_cases h7 : hc e s.p = 42 ∧ zb (ptb (hc e (s.p + 1))) = 0
    · right; unfold oneS; rw [e1, e1, e1, if_neg h1, if_neg h2, if_neg h3, if_neg h4, if_neg h5, if_neg h6, if_pos h7, if_neg h1, if_neg h2, if_neg h3, if_neg h4, if_neg h5, if_neg h6, if_pos h7]
    left
    exact ⟨c, by unfold oneS; rw [if_neg h1, if_neg h2, if_neg h3, if_neg h4, if_neg h5, if_neg h6, if_neg h7, hq]⟩
theorem stp_up (hF : e.f ≤ F) (z : PZ) : (∃ c, stp e z = .inr (.inl c)) ∨ stp (e.wf F) z = stp e z := by
  obtain ⟨c, K, s⟩ := z
  cases c using PCt.cs with
  | one a => exact oneS_up hF
  | ret v =>
    right
    cases K with
    | nil => rfl
    | cons k K => cases k using PFr.cs <;> rfl
  | _ => right; rfl
theorem itN_up (hF : e.f ≤ F) {r : Int × PS} : ∀ k z, itN (stp e) k z = some (.inr r) → itN (stp (e.wf F)) k z = some (.inr r) := by
  intro k
  induction k with
  | zero => intro z h; cases h
  | succ k ih =>
    intro z h
    rcases stp_up hF z with ⟨c, hc⟩ | he
    · rw [itN_r hc] at h; cases h
    · cases hq : stp e z with
      | inl z' => rw [itN_l hq] at h; rw [itN_l (he.trans hq)]; exact ih z' h
      | inr x => rw [itN_r hq] at h; rw [itN_r (he.trans hq)]; exact h
theorem rn_at {z : PZ} {r : Int × PS} (h : ∃ k, itN (stp e) k z = some (.inr r)) : rn e z = .inr r := by
  obtain ⟨k, hk⟩ := h
  induction k generalizing z with
  | zero => cases hk
  | succ k ih =>
    cases hq : stp e z with
    | inl z' => rw [itN_l hq] at hk; rw [rn_s hq]; exact ih hk
    | inr x => rw [itN_r hq] at hk; rw [rn_e hq]; exact Option.some.inj hk
theorem rn_ex {z : PZ} {r : Int × PS} (h : rn e z = .inr r) : ∃ k, itN (stp e) k z = some (.inr r) := by
  unfold rn rs pickR at h
  by_cases he : ∃ x, ∃ k, itN (stp e) k z = some x
  · rw [dif_pos he] at h
    obtain ⟨k, hk⟩ := Classical.choose_spec he
    exact ⟨k, by rw [h] at hk; exact hk⟩
  · rw [dif_neg he] at h; cases h
theorem rn_up {z : PZ} {r : Int × PS} (hF : e.f ≤ F) (h : rn e z = .inr r) : rn (e.wf F) z = .inr r := by
  obtain ⟨k, hk⟩ := rn_ex h
  exact rn_at ⟨k, itN_up hF k z hk⟩
end PMO
/-- a text that says the same, with more fields -/
def MoreT (e e' : PE) : Prop := e'.n = e.n ∧ (∀ k, 0 ≤ k → k < e.f → e'.K k = e.K k) ∧ e.f ≤ e'.f ∧ (∀ i, 0 ≤ i → i < e.n → e'.B i = e.B i)
theorem NOr_up {e e' : PE} {a b : Int} {g : Nat → Int} (m : MoreT e e') (h : NOr e a b g) : NOr e' a b g := by
  obtain ⟨h1, h2, h3, h4, h5⟩ := h
  have h6 := h1.2.2.1
  have h7 := h1.2.1
  have k : 7 ≤ g 0 → e'.K (g 5) = e.K (g 5) := fun q => m.2.1 (g 5) h7.1 (h6 q)
  have m3 := m.2.2.1
  refine ⟨⟨h1.1, h1.2.1, fun q => by have := h6 q; omega, h1.2.2.2⟩, h2, h3, h4, ?_⟩
  refine ⟨fun q => by rw [k (by omega)]; exact h5.1 q, fun q => by rw [k (by omega)]; exact h5.2.1 q, fun q => by rw [k (by omega)]; exact h5.2.2.1 q, fun q => by rw [k (by omega)]; exact h5.2.2.2.1 q, fun q => by rw [k (by omega)]; exact h5.2.2.2.2 q⟩
theorem POm_up {e e' : PE} {s s' : PS} {v t : Int} (m : MoreT e e') (h : PO e s s' v t) : PO e' s s' v t := by
  obtain ⟨h1, h2, h3, h4, ⟨pa, h5⟩, h6⟩ := h
  refine ⟨h1, h2, h3, ⟨h4.1, by rw [m.1]; exact h4.2⟩, ⟨pa, h5.1, fun k a b => ?_, h5.2.2⟩, h6⟩
  exact ⟨NOr_up m (h5.2.1 k a b).1, (h5.2.1 k a b).2⟩
theorem qR_up {e e' : PE} {v : Int} {s : PS} (m : MoreT e e') (h12 : e.f ≤ 12) (hn : 0 ≤ e.n) (h : qR e = .inr (v, s)) : qR e' = .inr (v, s) := by
  have hs : SameT e ⟨e'.B, e'.n, e'.K, e.f⟩ := ⟨m.1, m.2.1, rfl, m.2.2.2⟩
  have q1 : qR (⟨e'.B, e'.n, e'.K, e.f⟩ : PE) = .inr (v, s) := (qR_cg hs h12 hn).trans h
  have q2 : ∃ r, rn (⟨e'.B, e'.n, e'.K, e.f⟩ : PE) (.any 0, [], s00) = .inr r ∧ ¬ r.2.p < e'.n ∧ r = (v, s) := by
    unfold qR at q1
    cases hr : rn (⟨e'.B, e'.n, e'.K, e.f⟩ : PE) (.any 0, [], s00) with
    | inl x => rw [hr] at q1; cases q1
    | inr r =>
      obtain ⟨a, b⟩ := r
      rw [hr] at q1
      have q3 : (if b.p < e'.n then (.inl (-10 - b.p) : PR) else .inr (a, b)) = .inr (v, s) := q1
      by_cases c : b.p < e'.n
      · rw [if_pos c] at q3; cases q3
      · rw [if_neg c] at q3
        exact ⟨(a, b), rfl, c, Sum.inr.inj q3⟩
  obtain ⟨r, q3, q4, rfl⟩ := q2
  have q5 := rn_up (e := ⟨e'.B, e'.n, e'.K, e.f⟩) (F := e'.f) m.2.2.1 q3
  have q6 : rn e' (.any 0, [], s00) = .inr (v, s) := q5
  unfold qR
  rw [q6]
  show (if s.p < e'.n then (.inl (-10 - s.p) : PR) else .inr (v, s)) = .inr (v, s)
  exact if_neg q4
theorem QT_more {σ : Sto} {q : Nat} {e e' : PE} (h : QT σ q e) (m : MoreT e e') (h12 : e.f ≤ 12) (hn : 0 ≤ e.n) : QT σ q e' := by
  obtain ⟨⟨h1, h2⟩, v, s, h3, h4, h5, h6, h7, h8⟩ := h
  refine ⟨⟨by rw [m.1]; exact h1, fun i a b => ?_⟩, v, s, qR_up m h12 hn h3, POm_up m h4, h5, h6, h7, h8⟩
  rw [m.1] at b
  rw [m.2.2.2 i a b]
  exact h2 i a b

