/-! contracts: printed by tools/mk.py out of s98zzzzt_txtP.py -/
set_option maxRecDepth 100000
set_option maxHeartbeats 2000000
/-! a text more: what of the relation goes on -/
theorem sm_at {g : Int → Int} : ∀ (m : Nat) (k : Int), 0 ≤ k → k < smP (fun _ => True) g m → ∃ v, 0 ≤ v ∧ v < (m : Int) ∧ smP (fun _ => True) g v ≤ k ∧ k < smP (fun _ => True) g v + g v := by
  intro m
  induction m with
  | zero => intro k h0 h1; rw [smP_0 _ _ _ (by omega)] at h1; omega
  | succ m ih =>
    intro k h0 h1
    rw [smP_t _ _ (m : Int) _ (by omega) (by omega) trivial] at h1
    by_cases q : k < smP (fun _ => True) g m
    · obtain ⟨v, a, b, c, d⟩ := ih k h0 q
      exact ⟨v, a, by omega, c, d⟩
    · exact ⟨m, by omega, by omega, by omega, by omega⟩
theorem vaE_gr {σ τ : Sto} {v : Int} (h9 : σ.I 0 9 ≤ τ.I 0 9) (h16 : τ.I 16 (σ.I 26 v) = σ.I 16 (σ.I 26 v)) (hv : ∀ c, cVA c → τ.I c v = σ.I c v) (h1 : τ.I 582 v = σ.I 582 v) (h2 : τ.I 582 (v + 1) = σ.I 582 (v + 1)) (h3 : τ.I 584 = σ.I 584)
    (ha : ∀ c j, c = 36 ∨ (38 ≤ c ∧ c ≤ 41) → 0 ≤ j → j < σ.I 32 v → τ.I c (σ.I 31 v + j) = σ.I c (σ.I 31 v + j)) (hb : ∀ c b, 587 ≤ c ∧ c ≤ 590 → σ.I 582 v ≤ b → b < σ.I 582 (v + 1) → τ.I c b = σ.I c b)
    (hc : ∀ b k, σ.I 582 v ≤ b → b < σ.I 582 (v + 1) → 0 ≤ k → k < σ.I 587 b → τ.I 586 (20 * b + k) = σ.I 586 (20 * b + k)) (ht : TXT σ τ) (hz : bd_0_20 σ 21 36500) (h7 : σ.I 18 7 ≤ 36500) (e : vaE σ v) : vaE τ v := by
  have v26 : τ.I 26 v = σ.I 26 v := hv 26 (by unfold cVA; omega)
  have v28 : τ.I 28 v = σ.I 28 v := hv 28 (by unfold cVA; omega)
  have v29 : τ.I 29 v = σ.I 29 v := hv 29 (by unfold cVA; omega)
  have v30 : τ.I 30 v = σ.I 30 v := hv 30 (by unfold cVA; omega)
  have v31 : τ.I 31 v = σ.I 31 v := hv 31 (by unfold cVA; omega)
  have v32 : τ.I 32 v = σ.I 32 v := hv 32 (by unfold cVA; omega)
  have v33 : τ.I 33 v = σ.I 33 v := hv 33 (by unfold cVA; omega)
  have v579 : τ.I 579 v = σ.I 579 v := hv 579 (by unfold cVA; omega)
  have v580 : τ.I 580 v = σ.I 580 v := hv 580 (by unfold cVA; omega)
  have v581 : τ.I 581 v = σ.I 581 v := hv 581 (by unfold cVA; omega)
  have v583 : τ.I 583 v = σ.I 583 v := hv 583 (by unfold cVA; omega)
  obtain ⟨e1, e2, e3, e4, e5, e6, e7, e8, e9⟩ := e
  have t1 := ht.1
  unfold vaE
  rw [v26, v28, v29, v30, v31, v32, v579, v580, v581, v583, h1, h2, h16, h3]
  refine ⟨⟨e1.1, e1.2.1, by omega⟩, e2, e3, fun q => ⟨(e4 q).1, fun j p0 p1 => ?_⟩, fun q => ⟨(e5 q).1, (e5 q).2.1, (e5 q).2.2.1, ?_⟩, e6, e7, e8, e9⟩
  · have l := (e4 q).1
    obtain ⟨⟨z1, z2, z3, z4⟩, z5, z6⟩ := (e4 q).2 j p0 p1
    have zz := hz _ z1.1 (by omega)
    have tt := ht.2.1 _ z1.1 z1.2
    unfold tkE
    rw [ha 36 j (by omega) p0 p1, ha 38 j (by omega) p0 p1, ha 39 j (by omega) p0 p1, ha 40 j (by omega) p0 p1, ha 41 j (by omega) p0 p1, hb 587 (σ.I 582 v + j) (by omega) (by omega) (by omega), hb 588 (σ.I 582 v + j) (by omega) (by omega) (by omega), hb 589 (σ.I 582 v + j) (by omega) (by omega) (by omega), hb 590 (σ.I 582 v + j) (by omega) (by omega) (by omega), tt.1, tt.2.1]
    refine ⟨⟨⟨z1.1, by omega⟩, z2, z3, fun k k0 k1 => ?_⟩, z5, z6⟩
    rw [ht.2.2.1 _ (by omega), hc _ k (by omega) (by omega) k0 k1]
    exact z4 k k0 k1
  · have l := (e5 q).1
    obtain ⟨z1, z2, z3, z4⟩ := (e5 q).2.2.2
    have zz := hz _ z1.1 (by omega)
    have tt := ht.2.1 _ z1.1 z1.2
    unfold wdE
    rw [v33, v26, hb 587 (σ.I 582 v) (by omega) (by omega) (by omega), tt.1, tt.2.1]
    refine ⟨⟨z1.1, by omega⟩, z2, z3, fun k k0 k1 => ?_⟩
    rw [ht.2.2.1 _ (by omega), hc _ k (by omega) (by omega) k0 k1]
    exact z4 k k0 k1
/-- what a text leaves in both: of field f, n bytes of A, tokens l -/
def TXB (σ τ : Sto) (f n : Int) (A : Int → Int) (l : TL) : Prop :=
  (((0 ≤ f ∧ f < σ.I 0 9) ∧ (σ.I 16 f = 0 ∨ (σ.I 16 f = 1 ∧ n ≠ 0))) ∧ (0 ≤ n ∧ n ≤ 1000) ∧ (0 ≤ l.1 ∧ l.1 ≤ 250) ∧ (σ.I 16 f = 1 → l.1 = 1) ∧ ∀ j, 0 ≤ j → j < l.1 → (0 ≤ l.2.2.2.2.2 j ∧ l.2.2.2.2.2 j ≤ 499) ∧ (0 ≤ l.2.2.2.1 j ∧ l.2.2.2.1 j ≤ 1000) ∧ 0 ≤ l.2.2.2.2.1 j ∧ l.2.2.2.2.1 j ≤ 1000) ∧
  (σ.I 0 20 - σ.I 0 31 < 24 ∧ σ.I 0 20 < 6000 ∧ σ.I 0 22 + n ≤ 60000 ∧ σ.I 0 29 + σ.I 0 30 + l.1 ≤ 24000) ∧
  (τ.I 0 20 = σ.I 0 20 + 1 ∧ τ.I 555 30 = σ.I 0 20 + 1 ∧ τ.I 0 9 = σ.I 0 9 ∧ τ.I 0 31 = σ.I 0 31 ∧ τ.I 555 45 = σ.I 555 45 ∧ τ.I 0 22 = σ.I 0 22 + n ∧ τ.I 555 38 = σ.I 555 38 + n ∧ τ.I 555 44 = σ.I 555 44 + l.1 ∧ τ.I 0 32 = σ.I 0 32) ∧
  (τ.I 16 = σ.I 16 ∧ τ.I 584 = σ.I 584 ∧ τ.I 34 = σ.I 34 ∧ τ.I 37 = σ.I 37) ∧
  ((∀ c i, cVA c → i < σ.I 0 20 → τ.I c i = σ.I c i) ∧ (∀ i, i ≤ σ.I 0 20 → τ.I 582 i = σ.I 582 i) ∧ (∀ c i, c = 36 ∨ (38 ≤ c ∧ c ≤ 41) → i < σ.I 0 29 → τ.I c i = σ.I c i) ∧ (∀ c i, 587 ≤ c ∧ c ≤ 590 → i < σ.I 555 44 → τ.I c i = σ.I c i) ∧ ∀ i, i < 20 * σ.I 555 44 → τ.I 586 i = σ.I 586 i) ∧
  (TXT σ τ ∧ TXNF σ τ f ∧ TU τ ∧ TC τ ∧ τ.I 18 7 ≤ σ.I 18 7 + l.1) ∧
  ((∀ i, i < σ.I 0 22 → τ.I 35 i = σ.I 35 i ∧ τ.I 585 i = σ.I 585 i) ∧ ∀ k, 0 ≤ k → k < n → τ.I 35 (σ.I 0 22 + k) = A k ∧ τ.I 585 (σ.I 0 22 + k) = A k) ∧
  (τ.I 26 (σ.I 0 20) = f ∧ τ.I 579 (σ.I 0 20) = f ∧ τ.I 28 (σ.I 0 20) = σ.I 0 22 ∧ τ.I 580 (σ.I 0 20) = σ.I 0 22 ∧ τ.I 29 (σ.I 0 20) = n ∧ τ.I 581 (σ.I 0 20) = n ∧ τ.I 31 (σ.I 0 20) = σ.I 0 29 ∧ τ.I 582 (σ.I 0 20 + 1) = σ.I 555 44 + l.1) ∧
  (σ.I 16 f = 0 → τ.I 32 (σ.I 0 20) = l.1 ∧ τ.I 0 29 = σ.I 0 29 + l.1 ∧ τ.I 0 30 = σ.I 0 30 ∧ TJN τ (σ.I 0 20) (σ.I 0 29) f l l.1) ∧
  (σ.I 16 f = 1 → τ.I 32 (σ.I 0 20) = 0 ∧ τ.I 0 29 = σ.I 0 29 ∧ τ.I 0 30 = σ.I 0 30 + 1 ∧ rowX τ (τ.I 33 (σ.I 0 20)) f (l.2.1 0) (l.2.2.1 0)) ∧
  LTN τ (σ.I 555 44) l l.1
theorem TXB_c {σ τ : Sto} {f n : Int} {A : Int → Int} {l : TL} (b : TXB σ τ f n A l) : τ.I 0 29 + τ.I 0 30 = σ.I 0 29 + σ.I 0 30 + l.1 := by
  obtain ⟨⟨hf, hn, hl, hl1, -⟩, -, -, -, -, -, -, -, xT, xW, -⟩ := b
  rcases hf.2 with q | q
  · have := xT q; omega
  · have := xW q.1; have := hl1 q.1; omega
theorem VA_tx {σ τ : Sto} {f n : Int} {A : Int → Int} {l : TL} (r : rVA σ) (fl : rFL σ) (te : rTE σ) (bd : bd_0_20 σ 587 24000) (bt : bd_0_20 σ 21 36500) (b : TXB σ τ f n A l) : rVA τ := by
  have cnt := TXB_c b
  obtain ⟨⟨hf, hn, hl, hl1, -⟩, room, ⟨h20, h30, h9, h31, h45, h22, h38, h44, -⟩, ⟨h16, h584, -, -⟩, ⟨hv, h1, ha, hb, hb6⟩, ⟨ht, -, -, -, -⟩, ⟨h35, k35⟩, ⟨x26, x579, x28, x580, x29, x581, x31, x582⟩, xT, xW, xl⟩ := b
  have r' := r
  obtain ⟨⟨⟨a1, a2, a3, a4⟩, a5, a6, a7⟩, ⟨b1, b2, b3, b4, b5⟩, c, d⟩ := r
  have te2 := te.2.1
  have s29 : ∀ v, v ≤ σ.I 0 20 → smP (fun _ => True) (τ.I 29) v = smP (fun _ => True) (σ.I 29) v := fun v hh => smP_cg (fun _ _ _ => Iff.rfl) (fun k p0 p1 _ => hv 29 k (by unfold cVA; omega) (by omega))
  have s32 : ∀ v, v ≤ σ.I 0 20 → smP (fun _ => True) (τ.I 32) v = smP (fun _ => True) (σ.I 32) v := fun v hh => smP_cg (fun _ _ _ => Iff.rfl) (fun k p0 p1 _ => hv 32 k (by unfold cVA; omega) (by omega))
  have w : cn (isWv τ) (σ.I 0 20) = cn (isWv σ) (σ.I 0 20) := cn_cg (fun k p0 p1 => by unfold isWv; rw [h16, hv 26 k (by unfold cVA; omega) p1])
  have nz : 0 ≤ σ.I 0 20 := by omega
  have t582 : σ.I 582 (σ.I 0 20) = σ.I 555 44 := by rw [a1]; exact b2
  have k16 : τ.I 16 (τ.I 26 (σ.I 0 20)) = σ.I 16 f := by rw [x26, h16]
  have u582 : τ.I 582 (σ.I 0 20) = σ.I 555 44 := (h1 _ (by omega)).trans t582
  have nv : vaE τ (σ.I 0 20) := by
    unfold vaE
    rw [k16, x26, x579, x28, x580, x29, x581, x31, x582, u582, h9]
    refine ⟨⟨rfl, hf.1.1, hf.1.2⟩, ⟨rfl, rfl, hn.1, hn.2⟩, ?_, fun q => ?_, fun q => ?_, fun q => by omega, fun q => by omega, fun q => by omega, fun q => by omega⟩
    · rcases hf.2 with q | q
      · rw [(xT q).1]; exact hl
      · rw [(xW q.1).1]; omega
    · obtain ⟨y1, y2, y3, y4⟩ := xT q
      rw [y1]
      refine ⟨rfl, fun j p0 p1 => ?_⟩
      obtain ⟨⟨w1, w2, w3, w4⟩, w5, w6, w7, w8⟩ := y4 j p0 p1
      obtain ⟨u1, u2, u3, u4, u5⟩ := xl j p0 p1
      refine ⟨⟨w1, w2, w3.trans u1.symm, fun k k0 k1 => ?_⟩, ⟨w6.trans u4.symm, w7.trans u2.symm, w8.trans u3.symm⟩, w5⟩
      rw [u1] at k1
      rw [w4 k k0 k1, u5 k k0 k1]
    · obtain ⟨y1, y2, y3, w1, w2, w3, w4⟩ := xW q
      have q1 := hl1 q
      obtain ⟨u1, u2, u3, u4, u5⟩ := xl 0 (by omega) (by omega)
      rw [Int.add_zero] at u1 u5
      have hn0 : n ≠ 0 := by omega
      refine ⟨by omega, y1, by omega, w1, by rw [x26]; exact w2, w3.trans u1.symm, fun k k0 k1 => ?_⟩
      rw [u1] at k1
      rw [w4 k k0 k1, u5 k k0 k1]
  refine ⟨⟨⟨by omega, by omega, by omega, by omega⟩, by omega, by omega, by omega⟩, ⟨?_, ?_, ?_, ?_, ?_⟩, fun v p0 p1 => ?_, fun i p0 p1 => ?_⟩
  · rw [h1 0 nz]; exact b1
  · rw [h30, x582, h44]
  · rw [h22, h20, smP_t _ _ (σ.I 0 20) _ nz rfl trivial, s29 _ (by omega), x29, ← b3]
  · rw [h20, smP_t _ _ (σ.I 0 20) _ nz rfl trivial, s32 _ (by omega), ← b4]
    rcases hf.2 with q | q
    · rw [(xT q).1]; exact (xT q).2.1
    · rw [(xW q.1).1, (xW q.1).2.1]; omega
  · rw [h20, cn_s _ (σ.I 0 20) _ nz rfl, w, ← b5]
    rcases hf.2 with q | q
    · rw [zb_f (show ¬ isWv τ (σ.I 0 20) from fun z => by unfold isWv at z; rw [k16] at z; omega), (xT q).2.2.1]; omega
    · rw [zb_t (show isWv τ (σ.I 0 20) by unfold isWv; rw [k16]; exact q.1), (xW q.1).2.2.1]
  · rw [h20] at p1
    by_cases q : v = σ.I 0 20
    · subst q
      rw [s29 _ (by omega), s32 _ (by omega), x28, x31]
      exact ⟨b3, b4, nv⟩
    · have z := c v p0 (by omega)
      have z1 := VA_tk r' v p0 (by omega)
      have z2 := VA_582 r' fl (v + 1) (by omega) (by omega)
      have z3 := (r'.2.2.1 v p0 (by omega)).2.2
      rw [s29 v (by omega), s32 v (by omega), hv 28 v (by unfold cVA; omega) (by omega), hv 31 v (by unfold cVA; omega) (by omega)]
      have nn : 0 ≤ σ.I 582 v := by
        have e := VA_e582 r' fl v.toNat (by omega)
        rw [Int.toNat_of_nonneg p0] at e
        rw [e]
        have e1 : 0 ≤ smP (fun _ => True) (σ.I 32) v := smP_n0 (fun k q0 q1 => (r'.2.2.1 k q0 (by omega)).2.2.2.2.1.1)
        have e2 := cn_in (isWv σ) v
        omega
      refine ⟨z.1, z.2.1, vaE_gr (by omega) (by rw [h16]) (fun c hc => hv c v hc (by omega)) (h1 v (by omega)) (h1 (v + 1) (by omega)) h584 (fun c j hc q0 q1 => ha c _ hc (by omega)) (fun c b hc q0 q1 => hb c b hc (by omega)) (fun b k q0 q1 k0 k1 => ?_) ht bt (by omega) z.2.2⟩
      have y := bd b (by omega) (by omega)
      exact hb6 _ (by omega)
  · rw [h22] at p1
    by_cases q : i < σ.I 0 22
    · rw [(h35 i q).1, (h35 i q).2]
      exact d i p0 q
    · have y := k35 (i - σ.I 0 22) (by omega) (by omega)
      rw [show σ.I 0 22 + (i - σ.I 0 22) = i by omega] at y
      rw [y.1, y.2]
theorem TE_tx {σ τ : Sto} {f n : Int} {A : Int → Int} {l : TL} (r : rTE σ) (va : rVA σ) (fl : rFL σ) (b : TXB σ τ f n A l) : rTE τ := by
  have cnt := TXB_c b
  obtain ⟨⟨hf, -, -, -, -⟩, -, ⟨h20, -, h9, h31, -, -, -, -, h32⟩, ⟨h16, -, h34, h37⟩, ⟨hv, -, ha, -, -⟩, ⟨ht, htf, tu, tc, h7⟩, -, ⟨x26, -, -, -, -, -, x31, -⟩, -, -, -⟩ := b
  obtain ⟨⟨r1, r2⟩, r3, r4, r5, r6, r7, r8⟩ := r
  have dr := va.1.2.1
  have t1 := ht.1
  have h36 : ∀ i, i < σ.I 0 29 → τ.I 36 i = σ.I 36 i := fun i q => ha 36 i (by omega) q
  have f26 : ∀ v, 0 ≤ v → v < σ.I 0 20 → τ.I 16 (τ.I 26 v) = σ.I 16 (σ.I 26 v) := fun v p0 p1 => by rw [hv 26 v (by unfold cVA; omega) p1, h16]
  have hw : ∀ t, 0 ≤ t → t < σ.I 18 7 → (isWt τ t ↔ isWt σ t) := fun t p0 p1 => by unfold isWt; rw [(ht.2.1 t p0 p1).1, h16]
  have w : cn (isWv τ) (σ.I 0 31) = cn (isWv σ) (σ.I 0 31) := cn_cg (fun k p0 p1 => by unfold isWv; rw [f26 k p0 (by omega)])
  have s : smP (fun _ => True) (τ.I 32) (σ.I 0 31) = smP (fun _ => True) (σ.I 32) (σ.I 0 31) := smP_cg (fun _ _ _ => Iff.rfl) (fun k p0 p1 _ => hv 32 k (by unfold cVA; omega) (by omega))
  have t : tkAt τ (σ.I 0 31) = tkAt σ (σ.I 0 31) := by
    unfold tkAt
    by_cases q : σ.I 0 31 < σ.I 0 20
    · rw [if_pos q, if_pos (by omega), hv 31 _ (by unfold cVA; omega) q]
    · rw [if_neg q, if_pos (by omega), show σ.I 0 31 = σ.I 0 20 by omega]
      exact x31
  have kt : tkAt σ (σ.I 0 31) = smP (fun _ => True) (σ.I 32) (σ.I 0 31) := by
    unfold tkAt
    by_cases q : σ.I 0 31 < σ.I 0 20
    · rw [if_pos q]
      exact (va.2.2.1 _ dr.1 q).2.1
    · rw [if_neg q, va.2.1.2.2.2.1, show σ.I 0 31 = σ.I 0 20 by omega]
  have tok : ∀ k, 0 ≤ k → k < tkAt σ (σ.I 0 31) → (0 ≤ σ.I 36 k ∧ σ.I 36 k < σ.I 18 7) ∧ k < σ.I 0 29 := by
    intro k k0 k1
    rw [kt] at k1
    obtain ⟨v, v0, v1, v2, v3⟩ := sm_at (σ.I 0 31).toNat k k0 (by rw [Int.toNat_of_nonneg dr.1]; exact k1)
    rw [Int.toNat_of_nonneg dr.1] at v1
    have z := va.2.2.1 v v0 (by omega)
    have z1 := VA_tk va v v0 (by omega)
    rw [← z.2.1] at v2 v3
    obtain ⟨e1, e2, e3, e4, e5, e6, -⟩ := z.2.2
    refine ⟨?_, by omega⟩
    by_cases c0 : σ.I 16 (σ.I 26 v) = 0
    · have y := ((e4 c0).2 (k - σ.I 31 v) (by omega) (by omega)).1.1
      rw [show σ.I 31 v + (k - σ.I 31 v) = k by omega] at y
      exact y
    · exfalso
      have g := (fl.2 (σ.I 26 v) e1.2.1 e1.2.2).2.1
      by_cases c1 : σ.I 16 (σ.I 26 v) = 1
      · have := (e5 c1).2.1; omega
      · have := (e6 (by omega)).2.1; omega
  have none : ∀ {q : Int → Prop} {K : Int}, (∀ k, 0 ≤ k → k < K → ¬ q k) → fsF q 0 K = -1 ∧ ls q K = -1 := by
    intro q K hq
    have l1 : ls q K = -1 := by
      rcases ls_in q K with e | ⟨e1, e2, e3⟩
      · exact e
      · exact absurd e3 (hq _ e1 e2)
    exact ⟨(ls_fs _ _).mp l1, l1⟩
  refine ⟨⟨tc, tu⟩, by omega, ?_, ?_, fun u h0 h1 => ?_, ?_, ?_⟩
  · rw [h32, h31, s, w]
    omega
  · unfold DTX
    rw [h32, h31]
    refine ⟨by have := r5.1; omega, fun v p0 p1 => ?_⟩
    have z := r5.2 v p0 p1
    have z1 := VA_tk va v p0 (by omega)
    rw [f26 v p0 (by omega), hv 33 v (by unfold cVA; omega) (by omega), hv 32 v (by unfold cVA; omega) (by omega), hv 31 v (by unfold cVA; omega) (by omega)]
    refine ⟨z.1, fun i q0 q1 => ?_⟩
    rw [h36 _ (by omega)]
    exact z.2 i q0 q1
  · by_cases q : u < σ.I 18 7
    · rw [(ht.2.1 u h0 q).1, h9]
      exact r6 u h0 q
    · rw [htf u (by omega) h1, h9]
      exact hf.1
  · rw [h31, t]
    refine ⟨fun u h0 h1 hh => ?_, fun k h0 h1 => ?_⟩
    · by_cases q : u < σ.I 18 7
      · have z := r7.1 u h0 q (fun e => hh ((hw u h0 q).mpr e))
        have tt := ht.2.1 u h0 q
        rw [tt.2.2.1, tt.2.2.2, fsF_cg3 (q := tkQ σ u) (fun k p0 p1 => by unfold tkQ; rw [h36 k (tok k p0 p1).2]), ls_cg (q := tkQ σ u) (fun k p0 p1 => by unfold tkQ; rw [h36 k (tok k p0 p1).2])]
        exact z
      · have nw := ht.2.2.2 u (by omega) h1
        have no := none (q := tkQ τ u) (K := tkAt σ (σ.I 0 31)) (fun k p0 p1 e => by
          unfold tkQ at e
          have y := tok k p0 p1
          rw [h36 k y.2] at e
          omega)
        rw [nw.1, nw.2, no.1, no.2]
        exact ⟨rfl, rfl⟩
    · rw [h37, h36 k (tok k h0 h1).2, fsF_cg3 (q := tkQ σ (σ.I 36 k)) (fun j p0 p1 => by unfold tkQ; rw [h36 j (tok j (by omega) p1).2])]
      exact r7.2 k h0 h1
  · rw [h31]
    have wq : ∀ u k, 0 ≤ k → k < σ.I 0 31 → (wkQ τ u k ↔ wkQ σ u k) := fun u k p0 p1 => by unfold wkQ; rw [f26 k p0 (by omega), hv 33 k (by unfold cVA; omega) (by omega)]
    refine ⟨fun u h0 h1 hh => ?_, fun v h0 h1 hh => ?_⟩
    · by_cases q : u < σ.I 18 7
      · have z := r8.1 u h0 q ((hw u h0 q).mp hh)
        have tt := ht.2.1 u h0 q
        rw [tt.2.2.1, tt.2.2.2, fsF_cg3 (q := wkQ σ u) (fun k p0 p1 => wq u k p0 p1), ls_cg (q := wkQ σ u) (fun k p0 p1 => wq u k p0 p1)]
        exact z
      · have nw := ht.2.2.2 u (by omega) h1
        have no := none (q := wkQ τ u) (K := σ.I 0 31) (fun k p0 p1 e => by
          have y := (wq u k p0 p1).mp e
          have z := ((va.2.2.1 k p0 (by omega)).2.2.2.2.2.2.1 y.1).2.2.2.1
          have y2 := y.2
          omega)
        rw [nw.1, nw.2, no.1, no.2]
        exact ⟨rfl, rfl⟩
    · rw [f26 v h0 (by omega)] at hh
      rw [h34, hv 33 v (by unfold cVA; omega) (by omega), fsF_cg3 (q := wkQ σ (σ.I 33 v)) (fun j p0 p1 => wq _ j (by omega) p1)]
      exact r8.2 v h0 h1 hh
theorem GR_tx {σ τ : Sto} {f n : Int} {A : Int → Int} {l : TL} (r : rGR σ) (va : rVA σ) (fl : rFL σ) (te : rTE σ) (bd : bd_0_20 σ 587 24000) (b : TXB σ τ f n A l) (hF : ∀ i, i = 79 ∨ i = 80 → τ.I 0 i = σ.I 0 i) (hM : ∀ i, i = 135 ∨ i = 141 → τ.I 555 i = σ.I 555 i) (hc : ∀ c, c = 196 ∨ c = 197 ∨ c = 198 ∨ c = 656 ∨ c = 657 ∨ c = 658 ∨ c = 659 → τ.I c = σ.I c) : rGR τ := by
  obtain ⟨-, -, ⟨h20, -, h9, h31, -, -, -, -, h32⟩, -, ⟨hv, h1, ha, hb, hb6⟩, ⟨ht, -, -, -, -⟩, -, -, -, -, -⟩ := b
  have dr := va.1.2.1
  have a4 := va.1.1.2.2.2
  have a7 := va.1.2.2.2
  have mono := VA_582 va fl (σ.I 0 31) dr.1 dr.2.1
  have t4 := te.2.2.1
  unfold rGR at r ⊢
  rw [hF 79 (by omega), hF 80 (by omega), hM 135 (by omega), hM 141 (by omega), hc 196 (by omega), hc 197 (by omega), hc 198 (by omega), hc 656 (by omega), hc 657 (by omega), hc 658 (by omega), hc 659 (by omega), h31, h32, h1 _ (by omega)]
  refine ⟨r.1, r.2.1, fun i h0 h1 => ?_⟩
  have z := r.2.2 i h0 h1
  refine ⟨z.1, z.2.1, fun q => ?_⟩
  obtain ⟨y1, y2, y3, y4⟩ := z.2.2 q
  have bb := bd (σ.I 658 i) y2.1 (by omega)
  rw [(ht.2.1 (σ.I 196 i) y1.1 (by omega)).2.1, hb 587 (σ.I 658 i) (by omega) (by omega)]
  refine ⟨y1, y2, y3, fun k k0 k1 => ?_⟩
  rw [ht.2.2.1 _ (by omega), hb6 _ (by omega)]
  exact y4 k k0 k1
theorem BD_tx {σ τ : Sto} {f n : Int} {A : Int → Int} {l : TL} (r : rBD σ) (va : rVA σ) (b : TXB σ τ f n A l) (rx : RSX σ τ (τ.I 0 29)) (rm : RSM σ τ (σ.I 555 44 + l.1)) (h587 : bd_0_20 τ 587 24000) (h21 : bd_0_20 τ 21 36500) (h20 : bd_0_12 τ 20 36500) (h32 : ∀ i, i ≠ σ.I 0 20 → τ.I 32 i = σ.I 32 i) : rBD τ := by
  obtain ⟨⟨hf, -, hl, hl1, hlb⟩, -, -, ⟨-, h584, -, -⟩, ⟨hv, -, ha, hb, -⟩, -, -, -, xT, xW, xl⟩ := b
  obtain ⟨⟨r1, r2, r3, r4⟩, r5, r6, r7, -, -⟩ := r
  have key : ∀ i, 0 ≤ i → i < 24000 → (0 ≤ τ.I 39 i ∧ τ.I 39 i ≤ 499) ∧ (0 ≤ τ.I 40 i ∧ τ.I 40 i ≤ 1000) ∧ 0 ≤ τ.I 41 i ∧ τ.I 41 i ≤ 1000 := by
    intro i i0 i1
    by_cases q : i < σ.I 0 29
    · rw [ha 39 i (by omega) q, ha 40 i (by omega) q, ha 41 i (by omega) q]
      exact ⟨r1 i i0 i1, r2 i i0 i1, r3 i i0 i1⟩
    · by_cases q2 : τ.I 0 29 ≤ i
      · rw [rx 39 i (by omega) q2, rx 40 i (by omega) q2, rx 41 i (by omega) q2]
        exact ⟨r1 i i0 i1, r2 i i0 i1, r3 i i0 i1⟩
      · rcases hf.2 with e | e
        · have y := xT e
          have z := (y.2.2.2 (i - σ.I 0 29) (by omega) (by omega)).2.2
          have u := hlb (i - σ.I 0 29) (by omega) (by omega)
          rw [show σ.I 0 29 + (i - σ.I 0 29) = i by omega] at z
          rw [z.1, z.2.1, z.2.2]
          exact ⟨u.1, u.2.1, u.2.2⟩
        · have y := xW e.1
          omega
  refine ⟨⟨fun i i0 i1 => (key i i0 i1).1, fun i i0 i1 => (key i i0 i1).2.1, fun i i0 i1 => (key i i0 i1).2.2, fun i i0 i1 => ?_⟩, h587, fun i i0 i1 => ?_, fun i i0 i1 => ?_, h21, h20⟩
  · by_cases q : i = σ.I 0 20
    · subst q
      rcases hf.2 with e | e
      · rw [(xT e).1]; exact hl
      · rw [(xW e.1).1]; omega
    · rw [h32 i q]; exact r4 i i0 i1
  · by_cases q : i < σ.I 555 44
    · rw [hb 590 i (by omega) q]; exact r6 i i0 i1
    · by_cases q2 : σ.I 555 44 + l.1 ≤ i
      · rw [rm 590 i (by omega) (by omega) q2]; exact r6 i i0 i1
      · have z := (xl (i - σ.I 555 44) (by omega) (by omega)).2.2.2.1
        rw [show σ.I 555 44 + (i - σ.I 555 44) = i by omega] at z
        rw [z]
        exact (hlb (i - σ.I 555 44) (by omega) (by omega)).1
  · rw [h584]; exact r7 i i0 i1

