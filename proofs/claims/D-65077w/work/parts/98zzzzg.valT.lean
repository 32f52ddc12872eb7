/-! contracts: printed by tools/mk.py out of s98zzzzg_valT.py -/
set_option maxRecDepth 100000
set_option maxHeartbeats 1200000
/-! terms and chains when values come or go -/
theorem fsFN_cg3 {p q : Int → Prop} : ∀ (f : Nat) (i : Int), (∀ k, i ≤ k → k < i + f → (p k ↔ q k)) → fsFN p f i = fsFN q f i := by
  intro f
  induction f with
  | zero => intro i _; rfl
  | succ f ih =>
    intro i h
    show (if zb (p i) = 1 then i else fsFN p f (i + 1)) = (if zb (q i) = 1 then i else fsFN q f (i + 1))
    rw [zb_iff (h i (by omega) (by omega)), ih (i + 1) (fun k h0 h1 => h k (by omega) (by omega))]
theorem fsF_cg3 {p q : Int → Prop} {i n : Int} (h : ∀ k, i ≤ k → k < n → (p k ↔ q k)) : fsF p i n = fsF q i n := fsFN_cg3 _ _ (fun k h0 h1 => h k h0 (by omega))
theorem TC_cg {σ τ : Sto} (h19 : τ.I 19 = σ.I 19) (h20 : τ.I 20 = σ.I 20) (h21 : τ.I 21 = σ.I 21) (h24 : τ.I 24 = σ.I 24) (h25 : τ.I 25 = σ.I 25) (h7 : τ.I 18 7 = σ.I 18 7) (r : TC σ) : TC τ := by
  have e : hT τ = hT σ := by funext a; unfold hT; rw [h19, h20, h21]
  unfold TC TC1 TC2 at r ⊢
  rw [e, h24, h25, h7]
  exact r
theorem TU_cg {σ τ : Sto} (h19 : τ.I 19 = σ.I 19) (h20 : τ.I 20 = σ.I 20) (h21 : τ.I 21 = σ.I 21) (h7 : τ.I 18 7 = σ.I 18 7) (r : TU σ) : TU τ := by
  unfold TU at r ⊢
  rw [h19, h20, h21, h7]
  exact r
theorem PT_cg {σ τ : Sto} {K : Int} (h7 : τ.I 18 7 = σ.I 18 7) (hw : ∀ t, 0 ≤ t → t < σ.I 18 7 → (isWt τ t ↔ isWt σ t)) (h22 : τ.I 22 = σ.I 22) (h23 : τ.I 23 = σ.I 23) (h36 : ∀ k, 0 ≤ k → k < K → τ.I 36 k = σ.I 36 k) (h37 : ∀ k, 0 ≤ k → k < K → τ.I 37 k = σ.I 37 k) (r : PT σ K) : PT τ K := by
  refine ⟨fun t h0 h1 hh => ?_, fun k h0 h1 => ?_⟩
  · rw [h7] at h1
    have z := r.1 t h0 h1 (fun q => hh ((hw t h0 h1).mpr q))
    rw [h22, h23, fsF_cg3 (q := tkQ σ t) (fun k p0 p1 => by unfold tkQ; rw [h36 k p0 p1]), ls_cg (q := tkQ σ t) (fun k p0 p1 => by unfold tkQ; rw [h36 k p0 p1])]
    exact z
  · rw [h37 k h0 h1, h36 k h0 h1, fsF_cg3 (q := tkQ σ (σ.I 36 k)) (fun j p0 p1 => by unfold tkQ; rw [h36 j (by omega) p1])]
    exact r.2 k h0 h1
theorem PW_cg {σ τ : Sto} {V : Int} (h7 : τ.I 18 7 = σ.I 18 7) (hw : ∀ t, 0 ≤ t → t < σ.I 18 7 → (isWt τ t ↔ isWt σ t)) (h22 : τ.I 22 = σ.I 22) (h23 : τ.I 23 = σ.I 23) (h16 : ∀ v, 0 ≤ v → v < V → τ.I 16 (τ.I 26 v) = σ.I 16 (σ.I 26 v)) (h33 : ∀ v, 0 ≤ v → v < V → τ.I 33 v = σ.I 33 v) (h34 : ∀ v, 0 ≤ v → v < V → τ.I 34 v = σ.I 34 v) (r : PW σ V) : PW τ V := by
  refine ⟨fun t h0 h1 hh => ?_, fun v h0 h1 hh => ?_⟩
  · rw [h7] at h1
    have z := r.1 t h0 h1 ((hw t h0 h1).mp hh)
    rw [h22, h23, fsF_cg3 (q := wkQ σ t) (fun k p0 p1 => by unfold wkQ; rw [h16 k p0 p1, h33 k p0 p1]), ls_cg (q := wkQ σ t) (fun k p0 p1 => by unfold wkQ; rw [h16 k p0 p1, h33 k p0 p1])]
    exact z
  · rw [h16 v h0 h1] at hh
    rw [h34 v h0 h1, h33 v h0 h1, fsF_cg3 (q := wkQ σ (σ.I 33 v)) (fun j p0 p1 => by unfold wkQ; rw [h16 j (by omega) p1, h33 j (by omega) p1])]
    exact r.2 v h0 h1 hh
theorem DTX_cg {σ τ : Sto} (h32 : τ.I 0 32 = σ.I 0 32) (h7 : τ.I 18 7 = σ.I 18 7) (h31 : τ.I 0 31 = σ.I 0 31) (h16 : ∀ v, 0 ≤ v → v < σ.I 0 31 → τ.I 16 (τ.I 26 v) = σ.I 16 (σ.I 26 v)) (hv : ∀ c v, c = 31 ∨ c = 32 ∨ c = 33 → 0 ≤ v → v < σ.I 0 31 → τ.I c v = σ.I c v) (h36 : ∀ v i, 0 ≤ v → v < σ.I 0 31 → 0 ≤ i → i < σ.I 32 v → τ.I 36 (σ.I 31 v + i) = σ.I 36 (σ.I 31 v + i)) (r : DTX σ) : DTX τ := by
  unfold DTX at r ⊢
  rw [h32, h7, h31]
  refine ⟨r.1, fun v h0 h1 => ?_⟩
  have z := r.2 v h0 h1
  rw [h16 v h0 h1, hv 33 v (by omega) h0 h1, hv 32 v (by omega) h0 h1, hv 31 v (by omega) h0 h1]
  refine ⟨z.1, fun i p0 p1 => ?_⟩
  rw [h36 v i h0 h1 p0 p1]
  exact z.2 i p0 p1
/-- a plain value more, or more fields: the terms stay -/
theorem TE_pl {σ τ : Sto} (r : rTE σ) (va : rVA σ) (h20 : σ.I 0 20 ≤ τ.I 0 20) (hF : ∀ i, i = 29 ∨ i = 30 ∨ i = 31 ∨ i = 32 → τ.I 0 i = σ.I 0 i) (h9 : σ.I 0 9 ≤ τ.I 0 9) (h16 : ∀ f, 0 ≤ f → f < σ.I 0 9 → τ.I 16 f = σ.I 16 f) (hv : ∀ c i, c = 26 ∨ c = 31 ∨ c = 32 → i < σ.I 0 20 → τ.I c i = σ.I c i) (h31 : σ.I 0 20 < τ.I 0 20 → τ.I 31 (σ.I 0 20) = σ.I 0 29) (hc : ∀ c, (19 ≤ c ∧ c ≤ 25) ∨ c = 33 ∨ c = 34 ∨ c = 36 ∨ c = 37 → τ.I c = σ.I c) (h7 : τ.I 18 7 = σ.I 18 7) : rTE τ := by
  obtain ⟨⟨r1, r2⟩, r3, r4, r5, r6, r7, r8⟩ := r
  have e29 := hF 29 (by omega)
  have e30 := hF 30 (by omega)
  have e31 := hF 31 (by omega)
  have e32 := hF 32 (by omega)
  have dr := va.1.2.1
  have c19 := hc 19 (by omega)
  have c20 := hc 20 (by omega)
  have c21 := hc 21 (by omega)
  have f26 : ∀ v, 0 ≤ v → v < σ.I 0 20 → τ.I 16 (τ.I 26 v) = σ.I 16 (σ.I 26 v) := fun v p0 p1 => by
    have z := (va.2.2.1 v p0 p1).2.2.1
    rw [hv 26 v (by omega) p1, h16 _ z.2.1 z.2.2]
  have hw : ∀ t, 0 ≤ t → t < σ.I 18 7 → (isWt τ t ↔ isWt σ t) := fun t p0 p1 => by
    have z := r6 t p0 p1
    unfold isWt
    rw [c20, h16 _ z.1 z.2]
  have w : cn (isWv τ) (σ.I 0 31) = cn (isWv σ) (σ.I 0 31) := cn_cg (fun k p0 p1 => by unfold isWv; rw [f26 k p0 (by omega)])
  have s : smP (fun _ => True) (τ.I 32) (σ.I 0 31) = smP (fun _ => True) (σ.I 32) (σ.I 0 31) := smP_cg (fun _ _ _ => Iff.rfl) (fun k p0 p1 _ => hv 32 k (by omega) (by omega))
  have t : tkAt τ (σ.I 0 31) = tkAt σ (σ.I 0 31) := by
    unfold tkAt
    by_cases q : σ.I 0 31 < σ.I 0 20
    · rw [if_pos q, if_pos (by omega), hv 31 _ (by omega) q]
    · rw [if_neg q]
      by_cases q2 : σ.I 0 31 < τ.I 0 20
      · rw [if_pos q2, show σ.I 0 31 = σ.I 0 20 by omega]
        exact h31 (by omega)
      · rw [if_neg q2, e29]
  refine ⟨⟨TC_cg c19 c20 c21 (hc 24 (by omega)) (hc 25 (by omega)) h7 r1, TU_cg c19 c20 c21 h7 r2⟩, by rw [h7, e29, e30]; exact r3, by rw [e32, h7, e31, s, w]; exact r4, ?_, fun s h0 h1 => ?_, ?_, ?_⟩
  · exact DTX_cg e32 h7 e31 (fun v p0 p1 => f26 v p0 (by omega)) (fun c v hcc p0 p1 => hcc.elim (fun z => hv c v (by omega) (by omega)) (fun z => z.elim (fun z => hv c v (by omega) (by omega)) (fun z => by rw [z, hc 33 (by omega)]))) (fun v i _ _ _ _ => by rw [hc 36 (by omega)]) r5
  · rw [h7] at h1
    have z := r6 s h0 h1
    rw [c20]
    omega
  · rw [e31, t]
    exact PT_cg h7 hw (hc 22 (by omega)) (hc 23 (by omega)) (fun k _ _ => by rw [hc 36 (by omega)]) (fun k _ _ => by rw [hc 37 (by omega)]) r7
  · rw [e31]
    exact PW_cg h7 hw (hc 22 (by omega)) (hc 23 (by omega)) (fun v p0 p1 => f26 v p0 (by omega)) (fun v _ _ => by rw [hc 33 (by omega)]) (fun v _ _ => by rw [hc 34 (by omega)]) r8
/-- how objects lie when the draft grows -/
theorem PK_pl {σ τ : Sto} (r : rPK σ) (h20 : σ.I 0 20 ≤ τ.I 0 20) (h31 : τ.I 0 31 = σ.I 0 31) (h39 : τ.I 0 39 = σ.I 0 39) (hc : ∀ c, c = 27 ∨ c = 42 ∨ c = 43 ∨ c = 47 → τ.I c = σ.I c) : rPK τ := by
  have e27 := hc 27 (by omega)
  have e42 := hc 42 (by omega)
  have e43 := hc 43 (by omega)
  have e47 := hc 47 (by omega)
  obtain ⟨⟨a, b, c, d⟩, r2, r3⟩ := r
  refine ⟨⟨by rw [h39]; exact a, by rw [h31]; omega, ?_, fun k h0 h1 => ?_⟩, ?_, ?_⟩
  · unfold ofsX at c ⊢
    rw [h39, e42, h31]
    exact c
  · rw [h39] at h1
    have z := d k h0 h1
    unfold ofsX at z ⊢
    rw [h39, e42, h31, e43]
    exact z
  · rw [h39, e47, e43, e42, e27]
    exact r2
  · rw [e27]
    exact r3
/-- groups when the draft grows -/
theorem GR_pl {σ τ : Sto} (r : rGR σ) (hF : ∀ i, i = 31 ∨ i = 32 ∨ i = 79 ∨ i = 80 → τ.I 0 i = σ.I 0 i) (hM : ∀ i, i = 135 ∨ i = 141 → τ.I 555 i = σ.I 555 i) (hc : ∀ c, c = 19 ∨ c = 21 ∨ c = 196 ∨ c = 197 ∨ c = 198 ∨ c = 586 ∨ c = 587 ∨ c = 656 ∨ c = 657 ∨ c = 658 ∨ c = 659 → τ.I c = σ.I c) (h : τ.I 582 (σ.I 0 31) = σ.I 582 (σ.I 0 31)) : rGR τ := by
  unfold rGR at r ⊢
  rw [hF 31 (by omega), hF 32 (by omega), hF 79 (by omega), hF 80 (by omega), hM 135 (by omega), hM 141 (by omega), hc 19 (by omega), hc 21 (by omega), hc 196 (by omega), hc 197 (by omega), hc 198 (by omega), hc 586 (by omega), hc 587 (by omega), hc 656 (by omega), hc 657 (by omega), hc 658 (by omega), hc 659 (by omega), h]
  exact r

