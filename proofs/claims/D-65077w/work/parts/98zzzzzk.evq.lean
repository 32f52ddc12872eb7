/-! contracts: printed by tools/mk.py out of s98zzzzzk_evq.py -/
set_option maxRecDepth 100000
set_option maxHeartbeats 2000000
/-! what a question is worth, in both tables: nodes in step by any relation Q -/
def QCL (T G : Nat → Int → Int) (Q : Int → Int → Prop) : Prop := ∀ k x, Q k x → (k = -1 ∧ x = -1) ∨ ((0 ≤ k ∧ 0 ≤ x ∧ x < 200) ∧ rwR T G k x ∧ Q (T 1 k) (G 1 x) ∧ Q (T 2 k) (G 2 x))
section EVQ
variable {T G : Nat → Int → Int} {Q : Int → Int → Prop} {nc : Int} {pa : Int → Int}
theorem smV_q {V V' : Int → Int → Int} {n y o : Int} (hQ : QCL T G Q) (h : TPt T nc pa) (hn : n < nc) (hr : rwR T G n y) (hV : ∀ k x, Q k x → 0 ≤ k → k < n → V' x o = V k o) {m x c u t : Int} (hm : MBt n pa m) (hc : Q m x) : smV (tabS G) V' y o x c u t = smV (tabS T) V n o m c u t := by
  unfold smV
  refine rs_rel (I := fun s s' => MBt n pa s.1 ∧ Q s.1 s'.1 ∧ s'.2 = s.2) ?_ ⟨hm, hc, rfl⟩
  rintro ⟨m, c, u, t⟩ ⟨x, c', u', t'⟩ ⟨h1, h2, h3⟩
  have h1 : MBt n pa m := h1
  have h2 : Q m x := h2
  cases h3
  rcases hQ _ _ h2 with ⟨z1, z2⟩ | ⟨z1, z2, z3, z4⟩
  · left
    refine ⟨if (T 0 n = 3 ∧ T 6 n ≤ c) ∨ (T 0 n ≠ 3 ∧ 0 < c) then (if T 0 n = 1 then t else u) else -1, ?_, ?_⟩
    · show (if m < 0 then _ else _) = _; rw [if_pos (by omega)]; rfl
    · show (if x < 0 then _ else _) = _; rw [if_pos (by omega)]
      show (Sum.inr _ : _ ⊕ Int) = Sum.inr _
      congr 1
      show (if (G 0 y = 3 ∧ G 6 y ≤ c) ∨ (G 0 y ≠ 3 ∧ 0 < c) then (if G 0 y = 1 then t else u) else -1) = _
      rw [hr.1]
      by_cases q : T 0 n = 3
      · rw [hr.2.2.2 q]
      · have a1 : ¬ (T 0 n = 3 ∧ G 6 y ≤ c) := fun z => q z.1
        have a2 : ¬ (T 0 n = 3 ∧ T 6 n ≤ c) := fun z => q z.1
        simp only [q, false_and]
  · right
    have hmn : m < n := by rcases h1 with z | z; (omega); (exact z.2.1)
    have hv := hV m x h2 z1.1 hmn
    by_cases q : V m o < 0
    · refine ⟨(T 2 m, c, u, t), (G 2 x, c, u, t), ?_, ?_, MBt_n h hn h1 z1.1, z4, rfl⟩
      · show (if m < 0 then _ else if V m o < 0 then _ else _) = _; rw [if_neg (by omega), if_pos q]; rfl
      · show (if x < 0 then _ else if V' x o < 0 then _ else _) = _; rw [if_neg (by omega), if_pos (by rw [hv]; exact q)]; rfl
    · refine ⟨(T 2 m, c + 1, min 1000000000000000 (u + scW (tabS T) V m o), if c = 0 ∨ t < scW (tabS T) V m o then scW (tabS T) V m o else t), (G 2 x, c + 1, min 1000000000000000 (u + scW (tabS T) V m o), if c = 0 ∨ t < scW (tabS T) V m o then scW (tabS T) V m o else t), ?_, ?_, MBt_n h hn h1 z1.1, z4, rfl⟩
      · show (if m < 0 then _ else if V m o < 0 then _ else _) = _; rw [if_neg (by omega), if_neg q]; rfl
      · show (if x < 0 then _ else if V' x o < 0 then _ else Sum.inl (_, _, min 1000000000000000 (u + scW (tabS G) V' x o), if c = 0 ∨ t < scW (tabS G) V' x o then scW (tabS G) V' x o else t)) = _
        rw [if_neg (by omega), if_neg (by rw [hv]; exact q), scW_r z2 hv]; rfl
theorem alV_q {V V' : Int → Int → Int} {n o : Int} (hQ : QCL T G Q) (h : TPt T nc pa) (hn : n < nc) (hV : ∀ k x, Q k x → 0 ≤ k → k < n → V' x o = V k o) {m x u : Int} (hm : MBt n pa m) (hc : Q m x) : alV (tabS G) V' o x u = alV (tabS T) V o m u := by
  unfold alV
  refine rs_rel (I := fun s s' => MBt n pa s.1 ∧ Q s.1 s'.1 ∧ s'.2 = s.2) ?_ ⟨hm, hc, rfl⟩
  rintro ⟨m, u⟩ ⟨x, u'⟩ ⟨h1, h2, h3⟩
  have h1 : MBt n pa m := h1
  have h2 : Q m x := h2
  cases h3
  rcases hQ _ _ h2 with ⟨z1, z2⟩ | ⟨z1, z2, z3, z4⟩
  · left
    refine ⟨u, ?_, ?_⟩
    · show (if m < 0 then _ else _) = _; rw [if_pos (by omega)]
    · show (if x < 0 then _ else _) = _; rw [if_pos (by omega)]
  · have hmn : m < n := by rcases h1 with z | z; (omega); (exact z.2.1)
    have hv := hV m x h2 z1.1 hmn
    by_cases q : (V m o < 0 ∧ T 3 m = 0) ∨ (0 ≤ V m o ∧ T 3 m = 1)
    · left
      refine ⟨-1, ?_, ?_⟩
      · show (if m < 0 then _ else if (V m o < 0 ∧ T 3 m = 0) ∨ (0 ≤ V m o ∧ T 3 m = 1) then _ else _) = _; rw [if_neg (by omega), if_pos q]
      · show (if x < 0 then _ else if (V' x o < 0 ∧ G 3 x = 0) ∨ (0 ≤ V' x o ∧ G 3 x = 1) then _ else _) = _; rw [if_neg (by omega), if_pos (by rw [hv, z2.2.1]; exact q)]
    · right
      by_cases q2 : V m o < 0
      · refine ⟨(T 2 m, u), (G 2 x, u), ?_, ?_, MBt_n h hn h1 z1.1, z4, rfl⟩
        · show (if m < 0 then _ else if (V m o < 0 ∧ T 3 m = 0) ∨ (0 ≤ V m o ∧ T 3 m = 1) then _ else if V m o < 0 then _ else _) = _; rw [if_neg (by omega), if_neg q, if_pos q2]; rfl
        · show (if x < 0 then _ else if (V' x o < 0 ∧ G 3 x = 0) ∨ (0 ≤ V' x o ∧ G 3 x = 1) then _ else if V' x o < 0 then _ else _) = _; rw [if_neg (by omega), if_neg (by rw [hv, z2.2.1]; exact q), if_pos (by rw [hv]; exact q2)]; rfl
      · refine ⟨(T 2 m, min 1000000000000000 (u + scW (tabS T) V m o)), (G 2 x, min 1000000000000000 (u + scW (tabS T) V m o)), ?_, ?_, MBt_n h hn h1 z1.1, z4, rfl⟩
        · show (if m < 0 then _ else if (V m o < 0 ∧ T 3 m = 0) ∨ (0 ≤ V m o ∧ T 3 m = 1) then _ else if V m o < 0 then _ else _) = _; rw [if_neg (by omega), if_neg q, if_neg q2]; rfl
        · show (if x < 0 then _ else if (V' x o < 0 ∧ G 3 x = 0) ∨ (0 ≤ V' x o ∧ G 3 x = 1) then _ else if V' x o < 0 then _ else Sum.inl (_, min 1000000000000000 (u + scW (tabS G) V' x o))) = _; rw [if_neg (by omega), if_neg (by rw [hv, z2.2.1]; exact q), if_neg (by rw [hv]; exact q2), scW_r z2 hv]; rfl
theorem vB_q {W W' : Int → Prop} {P P' : Int → Int} {N : Int} {Lf Lg V V' : Int → Int → Int} {n y o : Int} (hQ : QCL T G Q) (h : TPt T nc pa) (h0 : 0 ≤ n) (hn : n < nc) (hr : rwR T G n y) (hc : Q (T 1 n) (G 1 y)) (hN : N ≤ 601) (hW : ∀ o, 0 ≤ o → o < 601 → (W' o ↔ W o)) (hP : ∀ o, 0 ≤ o → o < 601 → W o → P' o = P o ∧ P o < 601) (o0 : 0 ≤ o) (o1 : o < 601) (hV : ∀ k x o, Q k x → 0 ≤ k → k < n → 0 ≤ o → o < 601 → V' x o = V k o) (hL : 7 ≤ T 0 n → W o → Lg y o = Lf n o) : vB G W' P' N Lg V' y o = vB T W P N Lf V n o := by
  have hm : MBt n pa (T 1 n) := (h n h0 hn).1
  unfold vB
  rw [hr.1, zb_iff (hW o o0 o1)]
  by_cases c0 : W o
  · have c0' : ¬ zb (W o) = 0 := by rw [zb_t c0]; omega
    rw [if_neg c0', if_neg c0']
    by_cases c1 : T 0 n ≤ 3
    · rw [if_pos c1, if_pos c1]
      unfold mbV
      rw [tb0, tb0, tb1, tb1, hr.1, alV_q hQ h hn (fun k x a b c => hV k x o a b c o0 o1) hm hc, smV_q hQ h hn hr (fun k x a b c => hV k x o a b c o0 o1) hm hc]
    · rw [if_neg c1, if_neg c1]
      by_cases c4 : T 0 n = 4 ∨ T 0 n = 5
      · have hf := (h n h0 hn).2.2.2.2 (by omega) (by omega)
        have hlt : T 1 n < n := by rcases hm with z | z; (omega); (exact z.2.1)
        have hv : ∀ o, 0 ≤ o → o < 601 → V' (G 1 y) o = V (T 1 n) o := fun o a b => hV _ _ o hc hf hlt a b
        have hrr : rwR T G (T 1 n) (G 1 y) := by
          rcases hQ _ _ hc with z | z
          · omega
          · exact z.2.1
        by_cases c5 : T 0 n = 4
        · rw [if_pos c5, if_pos c5]
          have e1 : exN (fun k => W' k ∧ P' k = o ∧ 0 ≤ V' (G 1 y) k) N ↔ exN (fun k => W k ∧ P k = o ∧ 0 ≤ V (T 1 n) k) N := by
            constructor
            · rintro ⟨k, k0, k1, w1, w2, w3⟩
              have w := (hW k k0 (by omega)).mp w1
              exact ⟨k, k0, k1, w, (hP k k0 (by omega) w).1 ▸ w2, by rw [← hv k k0 (by omega)]; exact w3⟩
            · rintro ⟨k, k0, k1, w1, w2, w3⟩
              exact ⟨k, k0, k1, (hW k k0 (by omega)).mpr w1, by rw [(hP k k0 (by omega) w1).1]; exact w2, by rw [hv k k0 (by omega)]; exact w3⟩
          rw [zb_iff e1]
        · rw [if_neg c5, if_neg c5, if_pos (show T 0 n = 5 by omega), if_pos (show T 0 n = 5 by omega)]
          obtain ⟨p1, p2⟩ := hP o o0 o1 c0
          rw [p1]
          by_cases c6 : 0 ≤ P o
          · rw [zb_iff (show (0 ≤ P o ∧ W' (P o)) ↔ (0 ≤ P o ∧ W (P o)) from ⟨fun z => ⟨c6, (hW _ c6 p2).mp z.2⟩, fun z => ⟨c6, (hW _ c6 p2).mpr z.2⟩⟩), scW_r hrr (hv (P o) c6 p2)]
          · rw [zb_f (fun z => c6 z.1), zb_f (fun z => c6 z.1), if_neg (by omega), if_neg (by omega)]
      · rw [if_neg (show ¬ T 0 n = 4 by omega), if_neg (show ¬ T 0 n = 4 by omega), if_neg (show ¬ T 0 n = 5 by omega), if_neg (show ¬ T 0 n = 5 by omega)]
        by_cases c6 : T 0 n = 6
        · rw [if_pos c6, if_pos c6]
        · rw [if_neg c6, if_neg c6]; exact hL (by omega) c0
  · rw [if_pos (zb_f c0), if_pos (zb_f c0)]
theorem vN_q {W W' : Int → Prop} {P P' : Int → Int} {N : Int} {Lf Lg : Int → Int → Int} (hQ : QCL T G Q) (h : TPt T nc pa) (hN : N ≤ 601) (hW : ∀ o, 0 ≤ o → o < 601 → (W' o ↔ W o)) (hP : ∀ o, 0 ≤ o → o < 601 → W o → P' o = P o ∧ P o < 601) (hL : ∀ k x o, Q k x → 0 ≤ k → k < nc → 7 ≤ T 0 k → 0 ≤ o → o < 601 → W o → Lg x o = Lf k o) : ∀ (m : Nat) (n y o : Int) (f g : Nat), 0 ≤ n → n < (m : Int) → n < nc → n < (f : Int) → n < (g : Int) → 0 ≤ o → o < 601 → Q n y → vN G W' P' N Lg g y o = vN T W P N Lf f n o := by
  intro m
  induction m with
  | zero => intro n y o f g h0 h1; omega
  | succ m ih =>
    intro n y o f g h0 h1 h2 h3 h4 o0 o1 hc
    rcases hQ _ _ hc with z | ⟨z1, z2, z3, z4⟩
    · omega
    · obtain ⟨f, rfl⟩ : ∃ f', f = f' + 1 := ⟨f - 1, by omega⟩
      obtain ⟨g, rfl⟩ : ∃ g', g = g' + 1 := ⟨g - 1, by omega⟩
      exact vB_q hQ h h0 h2 z2 z3 hN hW hP o0 o1 (fun k x o hk k0 k1 a b => ih k x o f g k0 (by omega) (by omega) (by omega) (by omega) a b hk) (fun a b => hL n y o hc h0 h2 a o0 o1 b)
end EVQ

