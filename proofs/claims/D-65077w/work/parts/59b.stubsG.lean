section
/-! contracts: printed by tools/mk.py out of s98p_anaX.py -/
set_option maxRecDepth 100000
set_option maxHeartbeats 800000
theorem anS_k {σ τ : Sto} {o ot : Nat} (h : KXt ot σ τ) (ho : 16 ≤ o) (hot : ot = 4 ∨ ot = 10) : anS τ o = anS σ o := by
  have e : ∀ c, o ≤ c → τ.I c = σ.I c := fun c hc => funext fun i => h.2 c i (by unfold wsXt; omega)
  have e2 : τ.2 = σ.2 := Prod.ext h.1.1 (Prod.ext h.1.2.1 h.1.2.2)
  unfold anS
  rw [e o (by omega), e (o + 1) (by omega), e (o + 2) (by omega), e (o + 3) (by omega), e (o + 4) (by omega), e (o + 5) (by omega), e (o + 6) (by omega), e (o + 8) (by omega), e (o + 9) (by omega), e2]
theorem has_isSt {σ τ : Sto} {o ot : Nat} {n : Int} {w : Int → Int} (h : KXt ot σ τ) (ho : 16 ≤ o) (hot : ot = 4 ∨ ot = 10) (hc : σ.I (o + 1) 2 ≤ 20) (hn : n ≤ 20 ∨ ∀ k, 0 ≤ k → k < 20 → σ.I (o + 3) k ≤ 20) (hw : ∀ k, 0 ≤ k → k < n → τ.I 2 k = w k) :
    (∃ k, 0 ≤ k ∧ k < τ.I (o + 1) 2 ∧ τ.I (o + 1 + 2) k = n ∧ eqR τ (o + 1 + 1) (20 * k) 2 0 n) ↔ isSt (anS σ o) 0 w n := by
  have e : ∀ c, o ≤ c → τ.I c = σ.I c := fun c hc => funext fun i => h.2 c i (by unfold wsXt; omega)
  rw [e (o + 1) (by omega), e (o + 1 + 2) (by omega)]
  unfold isSt
  rw [an_stc]
  have key : ∀ k, 0 ≤ k → k < σ.I (o + 1) 2 → ((σ.I (o + 1 + 2) k = n ∧ eqR τ (o + 1 + 1) (20 * k) 2 0 n) ↔ tdQ (anS σ o) w n (60 * 0 + k)) := by
    intro k k0 k1
    unfold tdQ
    rw [an_ts, if_pos (by omega), show 60 * 0 + k = k by omega, show o + 1 + 2 = o + 3 by omega]
    refine and_congr_right (fun hs => ?_)
    have hn20 : n ≤ 20 := by rcases hn with q | q; (exact q); (have := q k k0 (by omega); omega)
    constructor
    · intro q t t0 t1
      rw [an_tb, if_pos (by omega)]
      have := q t t0 t1
      rw [e (o + 1 + 1) (by omega), Int.zero_add, hw t t0 t1] at this
      rw [Int.zero_add]; exact this
    · intro q t t0 t1
      have q1 : (anS σ o).I 563 (20 * k + t) = w (0 + t) := q t t0 t1
      rw [an_tb, if_pos (by omega), Int.zero_add] at q1
      rw [e (o + 1 + 1) (by omega), Int.zero_add, hw t t0 t1]; exact q1
  constructor
  · rintro ⟨k, k0, k1, k2⟩; exact ⟨k, k0, k1, (key k k0 k1).mp k2⟩
  · rintro ⟨k, k0, k1, k2⟩; exact ⟨k, k0, k1, (key k k0 k1).mpr k2⟩
/-- what is read so far, and what is still to come -/
def TRX (ρ τ : Sto) (ot : Nat) (A : Int → Int) (f to i p : Int) (R : TL) : Prop := ∃ l, TLX τ ot l ∧ tk ρ 0 A f to i p l = R
theorem TLX_fr {σ τ : Sto} {ot : Nat} {l : TL} (h : TLX σ ot l) (h1 : ∀ c i, ot ≤ c → c ≤ ot + 5 → τ.I c i = σ.I c i) : TLX τ ot l := by
  obtain ⟨a, b, c⟩ := h
  refine ⟨by rw [h1 ot 5 (by omega) (by omega)]; exact a, b, fun t t0 t1 => ?_⟩
  obtain ⟨⟨q1, q2, q3⟩, ⟨q4, q5, q6⟩, q7⟩ := c t t0 t1
  exact ⟨⟨by rw [h1 _ _ (by omega) (by omega)]; exact q1, q2, q3⟩, ⟨by rw [h1 _ _ (by omega) (by omega)]; exact q4, by rw [h1 _ _ (by omega) (by omega)]; exact q5, by rw [h1 _ _ (by omega) (by omega)]; exact q6⟩, fun k k0 k1 => by rw [h1 _ _ (by omega) (by omega)]; exact q7 k k0 k1⟩
theorem TLX_0 {σ : Sto} {ot : Nat} (h : σ.I ot 5 = 0) : TLX σ ot tl0 := ⟨h, ⟨Int.le_refl _, by decide⟩, fun t h0 h1 => absurd h1 (by show ¬ t < 0; omega)⟩
theorem TRX_fr {ρ σ τ : Sto} {ot : Nat} {A : Int → Int} {f to i p : Int} {R : TL} (h : TRX ρ σ ot A f to i p R) (h1 : ∀ c i, ot ≤ c → c ≤ ot + 5 → τ.I c i = σ.I c i) : TRX ρ τ ot A f to i p R := by
  obtain ⟨l, a, b⟩ := h
  exact ⟨l, TLX_fr a h1, b⟩
theorem TRX_0 {ρ σ : Sto} {ot : Nat} {A : Int → Int} {f to : Int} (h : σ.I ot 5 = 0) : TRX ρ σ ot A f to f 0 (tk ρ 0 A f to f 0 tl0) := ⟨tl0, TLX_0 h, rfl⟩
theorem TRX_end {ρ σ : Sto} {ot : Nat} {A : Int → Int} {f to i p : Int} {R : TL} (h : TRX ρ σ ot A f to i p R) (hi : to ≤ i) : TLX σ ot R := by
  obtain ⟨l, a, b⟩ := h
  rw [tk_end hi] at b; rw [← b]; exact a
theorem TRX_skip {ρ σ : Sto} {ot : Nat} {A : Int → Int} {f to i p : Int} {R : TL} (h : TRX ρ σ ot A f to i p R) (hi : i < to) (hl : ¬ isLet (A i % 256)) : TRX ρ σ ot A f to (i + 1) p R := by
  obtain ⟨l, a, b⟩ := h
  exact ⟨l, a, (tk_skip hi hl).symm.trans b⟩
theorem TRX_stop {ρ σ : Sto} {ot : Nat} {A : Int → Int} {f to i p e : Int} {R : TL} (h : TRX ρ σ ot A f to i p R) (hi : i < to) (hl : isLet (A i % 256)) (he : we A i to = e) (hs : isSt ρ 0 (wF ρ 0 A i (e - i)) (e - i)) : TRX ρ σ ot A f to e (p + 1) R := by
  obtain ⟨l, a, b⟩ := h
  exact ⟨l, a, (tk_stop hi hl he hs).symm.trans b⟩
theorem TRX_word {ρ σ τ : Sto} {ot : Nat} {A : Int → Int} {f to i p e : Int} {R : TL} (h : TRX ρ σ ot A f to i p R) (hi : i < to) (hl : isLet (A i % 256)) (he : we A i to = e) (hs : ¬ isSt ρ 0 (wF ρ 0 A i (e - i)) (e - i)) (hx : XWA σ τ ot (wT ρ 0 (wF ρ 0 A i (e - i)) (e - i)) (i - f) (e - f) p) (hc : τ.I ot 5 ≤ 250) : TRX ρ τ ot A f to e (p + 1) R := by
  obtain ⟨l, a, b⟩ := h
  obtain ⟨x1, x2, x3, x4⟩ := hx l a
  have hr : l.1 + (wT ρ 0 (wF ρ 0 A i (e - i)) (e - i)).1 ≤ 250 := by split at x1 <;> omega
  rw [if_pos hr] at x1
  exact ⟨apT l _ _ _ _ _, ⟨x1, x4 hr⟩, (tk_word hi hl he hs rfl hr).symm.trans b⟩
theorem TRX_full {ρ σ τ υ : Sto} {ot : Nat} {A : Int → Int} {f to i p e : Int} {R : TL} (h : TRX ρ σ ot A f to i p R) (hi : i < to) (hl : isLet (A i % 256)) (he : we A i to = e) (hs : ¬ isSt ρ 0 (wF ρ 0 A i (e - i)) (e - i)) (hx : XWA σ τ ot (wT ρ 0 (wF ρ 0 A i (e - i)) (e - i)) (i - f) (e - f) p) (hc : 250 < τ.I ot 5) (hu : υ = τ.wI ot 5 (σ.I ot 5)) : TLX υ ot R := by
  obtain ⟨l, a, b⟩ := h
  obtain ⟨x1, x2, x3, x4⟩ := hx l a
  have hr : 250 < l.1 + (wT ρ 0 (wF ρ 0 A i (e - i)) (e - i)).1 := by
    rcases Int.lt_or_le 250 (l.1 + (wT ρ 0 (wF ρ 0 A i (e - i)) (e - i)).1) with q | q
    · exact q
    · rw [if_pos q] at x1; omega
  rw [tk_full hi hl he hs rfl hr] at b
  rw [← b]
  have hk : ∀ c i, c ≠ ot → υ.I c i = τ.I c i := fun c i q => by rw [hu]; exact I_ne _ _ _ _ q
  refine ⟨by rw [hu, I_same]; exact a.1, x2.1, fun t t0 t1 => ?_⟩
  obtain ⟨⟨q1, q2, q3⟩, ⟨q4, q5, q6⟩, q7⟩ := x2.2 t t0 t1
  exact ⟨⟨by rw [hk _ _ (by omega)]; exact q1, q2, q3⟩, ⟨by rw [hk _ _ (by omega)]; exact q4, by rw [hk _ _ (by omega)]; exact q5, by rw [hk _ _ (by omega)]; exact q6⟩, fun k k0 k1 => by rw [hk _ _ (by omega)]; exact q7 k k0 k1⟩
theorem fo_v (b f : Int) (h1 : -128 ≤ b) (h2 : b ≤ 127) : sx8 (if f = 1 ∧ 65 ≤ b % 256 ∧ b % 256 ≤ 90 then b % 256 + 32 else b % 256) = if f = 1 then fo b else b := by
  have hs : ∀ x : Int, sx8 x = (x + 128) % 256 - 128 := fun x => sx8_eq x
  rw [hs]
  unfold fo
  split <;> split <;> (try split) <;> omega
theorem wF_at {σ τ : Sto} {o o1 : Nat} {x7 n k y : Int} (hy : y = (if τ.I o 0 = 1 ∧ 65 ≤ b32and (τ.I o1 (x7 + k)) 255 ∧ b32and (τ.I o1 (x7 + k)) 255 ≤ 90 then b32and (τ.I o1 (x7 + k)) 255 + 32 else b32and (τ.I o1 (x7 + k)) 255)) (hA : τ.I o1 = σ.I o1) (h00 : τ.I o 0 = σ.I o 0) (hb : -128 ≤ τ.I o1 (x7 + k) ∧ τ.I o1 (x7 + k) ≤ 127) (h0 : 0 ≤ k) (h1 : k < n) : sx8 (sx8 y) = wF (anS σ o) 0 (σ.I o1) x7 n k := by
  rw [hA] at hb
  rw [hy, sx8_sx8, and255, hA, h00, fo_v _ _ hb.1 hb.2]
  unfold wF
  rw [if_pos (show 0 ≤ k ∧ k < n from ⟨h0, h1⟩), an_fold]

theorem ANB_k {σ τ : Sto} {o ot : Nat} (h : KXt ot σ τ) (ho : 16 ≤ o) (hot : ot = 4 ∨ ot = 10) (g : ANB σ o) : ANB τ o := by
  have e : ∀ c, o ≤ c → τ.I c = σ.I c := fun c hc => funext fun i => h.2 c i (by unfold wsXt; omega)
  unfold ANB
  rw [e o (by omega), e (o + 4) (by omega), e (o + 6) (by omega), e (o + 9) (by omega)]
  exact g

theorem sp_X10_analyse {E : XE} {d : Nat} {σ : Sto} {o0 : Nat} {o1 : Nat} {n1 : Nat} {x2 : Int} {x3 : Int} {o4 : Nat} (hd : 12 ≤ d) (hL : Lay σ) (ho0 : At10 σ o0) (ho1 : σ.sh o1 = (1, n1)) (ho4 : At1 σ o4) (p0 : 0 ≤ x2 ∧ x2 ≤ x3 ∧ x3 ≤ n1 ∧ x3 - x2 ≤ 29990) (p1 : (n1 : Int) ≤ 1000000) (p2 : o4 = 4 ∨ o4 = 10) (p3 : 16 ≤ o0) (p4 : o1 = 1 ∨ 16 ≤ o1) (p5 : ANB σ o0) (p6 : 0 ≤ σ.I (o0 + 1) 2 ∧ σ.I (o0 + 1) 2 ≤ 20) (p7 : bd_0_20 σ (o0 + 3) 20) (p8 : bd_0_20 σ (o4 + 2) 250) : CC E mX10_analyse d [aO o0, aO o1, aI (x2), aI (x3), aO o4] σ (RV (fun τ => (TLX τ o4 (tk (anS σ o0) 0 (σ.I o1) x2 x3 x2 0 tl0)) ∧ (bd_0_20 τ (o4 + 2) 250) ∧ (KXt o4 σ τ))) := by sorry
end
section
/-! contracts: printed by tools/mk.py out of s98q_stopX.py -/
set_option maxRecDepth 100000
set_option maxHeartbeats 1200000
theorem anS_e {σ τ : Sto} {o : Nat} (e : ∀ c, o ≤ c → c ≤ o + 9 → τ.I c = σ.I c) (e2 : τ.2 = σ.2) : anS τ o = anS σ o := by
  unfold anS
  rw [e o (by omega) (by omega), e (o + 1) (by omega) (by omega), e (o + 2) (by omega) (by omega), e (o + 3) (by omega) (by omega), e (o + 4) (by omega) (by omega), e (o + 5) (by omega) (by omega), e (o + 6) (by omega) (by omega), e (o + 8) (by omega) (by omega), e (o + 9) (by omega) (by omega), e2]
/-- an analyser of X's is well made -/
def ANBs (σ : Sto) (o : Nat) : Prop := ANB σ o ∧ (0 ≤ σ.I (o + 1) 2 ∧ σ.I (o + 1) 2 ≤ 20) ∧ bd_0_20 σ (o + 3) 20
def ANX (σ : Sto) : Prop := ∀ k, 0 ≤ k → k < σ.I 0 4 → ANBs σ (anC σ k)
theorem ANBs_e {σ τ : Sto} {o : Nat} (e : ∀ c, o ≤ c → c ≤ o + 9 → τ.I c = σ.I c) (h : ANBs σ o) : ANBs τ o := by
  unfold ANBs ANB bd_0_20 at *
  rw [e o (by omega) (by omega), e (o + 1) (by omega) (by omega), e (o + 3) (by omega) (by omega), e (o + 4) (by omega) (by omega), e (o + 6) (by omega) (by omega), e (o + 9) (by omega) (by omega)]
  exact h

theorem sp_X0_analyse {E : XE} {d : Nat} {σ : Sto} {x1 : Int} (hd : 16 ≤ d) (hL : Lay σ)  (p0 : inR x1) (p1 : 0 ≤ σ.I 0 1 ∧ σ.I 0 1 ≤ 29990) (p2 : 0 ≤ σ.I 0 4 ∧ σ.I 0 4 ≤ 6) (p3 : AN σ) (p4 : ANX σ) (p5 : bd_0_20 σ 6 250) : CC E mX0_analyse d [aO 0, aI (x1)] σ (RVI (fun y τ => ((¬ (0 ≤ x1 ∧ x1 < σ.I 0 4) ∧ y = -1 ∧ RD σ τ (fun c i => if at2 c i 0 1 then 0 else σ.I c i)) ∨ ((0 ≤ x1 ∧ x1 < σ.I 0 4) ∧ y = (tk (anS σ (anC σ x1)) 0 (σ.I 1) 0 (σ.I 0 1) 0 0 tl0).1 ∧ TLX τ 4 (tk (anS σ (anC σ x1)) 0 (σ.I 1) 0 (σ.I 0 1) 0 0 tl0) ∧ τ.I 0 1 = 0 ∧ Ch (fun c i => wsXt 4 c i ∨ at2 c i 0 1) σ τ ∧ bd_0_20 τ 6 250)))) := by sorry
theorem row_RD {σ σ2 σ3 : Sto} {b : Nat} {a n : Int} (hb : 675 ≤ b) (h2 : ∀ c, c = 1 ∨ c = b → σ2.I c = σ.I c) (h3 : σ3.I = fun c i => if rg c i (b + 1) (20 * σ2.I b 2) (20 * σ2.I b 2 + n) then σ2.I 1 (a + (i - 20 * σ2.I b 2)) else if at2 c i (b + 2) (σ2.I b 2) then n else if at2 c i b 2 then σ2.I b 2 + 1 else σ2.I c i) : σ3.I = fun c i => if rg c i (b + 1) (20 * σ.I b 2) (20 * σ.I b 2 + n) then σ.I 1 (a + (i - 20 * σ.I b 2)) else if at2 c i (b + 2) (σ.I b 2) then n else if at2 c i b 2 then σ.I b 2 + 1 else σ2.I c i := by
  rw [h3, h2 1 (Or.inl rfl), h2 b (Or.inr rfl)]
theorem row_1 {σ τ : Sto} {b : Nat} {a n z : Int} {G : Nat → Int → Int} (hb : 675 ≤ b) (h : τ.I = fun c i => if rg c i (b + 1) (20 * z) (20 * z + n) then σ.I 1 (a + (i - 20 * z)) else if at2 c i (b + 2) z then n else if at2 c i b 2 then z + 1 else G c i) : τ.I b 2 = z + 1 := by
  rw [h]
  show (if rg b 2 (b + 1) _ _ then _ else if at2 b 2 (b + 2) z then _ else if at2 b 2 b 2 then z + 1 else _) = _
  rw [if_neg (fun q => absurd q.1 (by omega)), if_neg (fun q => absurd q.1 (by omega)), if_pos ⟨rfl, rfl⟩]

theorem sp_X0_stop {E : XE} {d : Nat} {σ : Sto} {x1 : Int} (hd : 4 ≤ d) (hL : Lay σ)  (p0 : inR x1) (p1 : 0 ≤ σ.I 0 1 ∧ σ.I 0 1 ≤ 29990) (p2 : 0 ≤ σ.I 0 4 ∧ σ.I 0 4 ≤ 6) (p3 : AN σ) (p4 : ANX σ) : CC E mX0_stop d [aO 0, aI (x1)] σ (RVI (fun y τ => ((¬ ((0 ≤ x1 ∧ x1 < σ.I 0 4) ∧ (1 ≤ (σ.I 0 1) ∧ (σ.I 0 1) ≤ 20) ∧ letA (σ.I 1) 0 (σ.I 0 1)) ∧ y = -1 ∧ RD σ τ (fun c i => if at2 c i 0 1 then 0 else σ.I c i)) ∨ (((0 ≤ x1 ∧ x1 < σ.I 0 4) ∧ (1 ≤ (σ.I 0 1) ∧ (σ.I 0 1) ≤ 20) ∧ letA (σ.I 1) 0 (σ.I 0 1)) ∧ (∃ k, 0 ≤ k ∧ k < σ.I (anC σ x1 + 1) 2 ∧ σ.I (anC σ x1 + 3) k = (σ.I 0 1) ∧ eqR σ (anC σ x1 + 2) (20 * k) 1 0 (σ.I 0 1)) ∧ y = σ.I (anC σ x1 + 1) 2 ∧ RD σ τ (fun c i => if at2 c i 0 1 then 0 else σ.I c i)) ∨ (((0 ≤ x1 ∧ x1 < σ.I 0 4) ∧ (1 ≤ (σ.I 0 1) ∧ (σ.I 0 1) ≤ 20) ∧ letA (σ.I 1) 0 (σ.I 0 1)) ∧ ¬ (∃ k, 0 ≤ k ∧ k < σ.I (anC σ x1 + 1) 2 ∧ σ.I (anC σ x1 + 3) k = (σ.I 0 1) ∧ eqR σ (anC σ x1 + 2) (20 * k) 1 0 (σ.I 0 1)) ∧ σ.I (anC σ x1 + 1) 2 = 20 ∧ y = -3 ∧ RD σ τ (fun c i => if at2 c i 0 1 then 0 else σ.I c i)) ∨ (((0 ≤ x1 ∧ x1 < σ.I 0 4) ∧ (1 ≤ (σ.I 0 1) ∧ (σ.I 0 1) ≤ 20) ∧ letA (σ.I 1) 0 (σ.I 0 1)) ∧ ¬ (∃ k, 0 ≤ k ∧ k < σ.I (anC σ x1 + 1) 2 ∧ σ.I (anC σ x1 + 3) k = (σ.I 0 1) ∧ eqR σ (anC σ x1 + 2) (20 * k) 1 0 (σ.I 0 1)) ∧ σ.I (anC σ x1 + 1) 2 ≠ 20 ∧ y = σ.I (anC σ x1 + 1) 2 + 1 ∧ RD σ τ (fun c i => if at2 c i 0 1 then 0 else if rg c i (anC σ x1 + 2) (20 * σ.I (anC σ x1 + 1) 2) (20 * σ.I (anC σ x1 + 1) 2 + (σ.I 0 1)) then σ.I 1 (i - 20 * σ.I (anC σ x1 + 1) 2) else if at2 c i (anC σ x1 + 3) (σ.I (anC σ x1 + 1) 2) then (σ.I 0 1) else if at2 c i (anC σ x1 + 1) 2 then σ.I (anC σ x1 + 1) 2 + 1 else σ.I c i))))) := by sorry
theorem sp_X0_synonym {E : XE} {d : Nat} {σ : Sto} {x1 : Int} (hd : 4 ≤ d) (hL : Lay σ)  (p0 : inR x1) (p1 : 0 ≤ σ.I 0 1 ∧ σ.I 0 1 ≤ 29990) (p2 : 0 ≤ σ.I 0 4 ∧ σ.I 0 4 ≤ 6) (p3 : AN σ) (p4 : ANX σ) (p5 : (0 ≤ x1 ∧ x1 < σ.I 0 4) → σ.I (anC σ x1 + 7) 2 = σ.I (anC σ x1 + 4) 2) : CC E mX0_synonym d [aO 0, aI (x1)] σ (RVI (fun y τ => ((¬ ((0 ≤ x1 ∧ x1 < σ.I 0 4) ∧ ((1 ≤ (blk (σ.I 1) (σ.I 0 1)) ∧ (blk (σ.I 1) (σ.I 0 1)) ≤ 20) ∧ letA (σ.I 1) 0 (blk (σ.I 1) (σ.I 0 1))) ∧ ((1 ≤ (σ.I 0 1) - ((blk (σ.I 1) (σ.I 0 1)) + 1) ∧ (σ.I 0 1) - ((blk (σ.I 1) (σ.I 0 1)) + 1) ≤ 20) ∧ letA (σ.I 1) ((blk (σ.I 1) (σ.I 0 1)) + 1) ((σ.I 0 1) - ((blk (σ.I 1) (σ.I 0 1)) + 1)))) ∧ y = -1 ∧ RD σ τ (fun c i => if at2 c i 0 1 then 0 else σ.I c i)) ∨ (((0 ≤ x1 ∧ x1 < σ.I 0 4) ∧ ((1 ≤ (blk (σ.I 1) (σ.I 0 1)) ∧ (blk (σ.I 1) (σ.I 0 1)) ≤ 20) ∧ letA (σ.I 1) 0 (blk (σ.I 1) (σ.I 0 1))) ∧ ((1 ≤ (σ.I 0 1) - ((blk (σ.I 1) (σ.I 0 1)) + 1) ∧ (σ.I 0 1) - ((blk (σ.I 1) (σ.I 0 1)) + 1) ≤ 20) ∧ letA (σ.I 1) ((blk (σ.I 1) (σ.I 0 1)) + 1) ((σ.I 0 1) - ((blk (σ.I 1) (σ.I 0 1)) + 1)))) ∧ σ.I (anC σ x1 + 4) 2 = 20 ∧ y = -3 ∧ RD σ τ (fun c i => if at2 c i 0 1 then 0 else σ.I c i)) ∨ (((0 ≤ x1 ∧ x1 < σ.I 0 4) ∧ ((1 ≤ (blk (σ.I 1) (σ.I 0 1)) ∧ (blk (σ.I 1) (σ.I 0 1)) ≤ 20) ∧ letA (σ.I 1) 0 (blk (σ.I 1) (σ.I 0 1))) ∧ ((1 ≤ (σ.I 0 1) - ((blk (σ.I 1) (σ.I 0 1)) + 1) ∧ (σ.I 0 1) - ((blk (σ.I 1) (σ.I 0 1)) + 1) ≤ 20) ∧ letA (σ.I 1) ((blk (σ.I 1) (σ.I 0 1)) + 1) ((σ.I 0 1) - ((blk (σ.I 1) (σ.I 0 1)) + 1)))) ∧ σ.I (anC σ x1 + 4) 2 ≠ 20 ∧ y = σ.I (anC σ x1 + 4) 2 + 1 ∧ RD σ τ (fun c i => if at2 c i 0 1 then 0 else if rg c i (anC σ x1 + 5) (20 * σ.I (anC σ x1 + 4) 2) (20 * σ.I (anC σ x1 + 4) 2 + (blk (σ.I 1) (σ.I 0 1))) then σ.I 1 (i - 20 * σ.I (anC σ x1 + 4) 2) else if at2 c i (anC σ x1 + 6) (σ.I (anC σ x1 + 4) 2) then (blk (σ.I 1) (σ.I 0 1)) else if at2 c i (anC σ x1 + 4) 2 then σ.I (anC σ x1 + 4) 2 + 1 else if rg c i (anC σ x1 + 8) (20 * σ.I (anC σ x1 + 7) 2) (20 * σ.I (anC σ x1 + 7) 2 + ((σ.I 0 1) - ((blk (σ.I 1) (σ.I 0 1)) + 1))) then σ.I 1 ((blk (σ.I 1) (σ.I 0 1)) + 1 + (i - 20 * σ.I (anC σ x1 + 7) 2)) else if at2 c i (anC σ x1 + 9) (σ.I (anC σ x1 + 7) 2) then (σ.I 0 1) - ((blk (σ.I 1) (σ.I 0 1)) + 1) else if at2 c i (anC σ x1 + 7) 2 then σ.I (anC σ x1 + 7) 2 + 1 else σ.I c i))))) := by sorry
end
section
/-! contracts: printed by tools/mk.py out of s98s_textC.py -/
set_option maxRecDepth 100000
set_option maxHeartbeats 1200000
/-- what a text leaf of the program writes: of node n, row r, behind pc places and tc terms -/
def wsTe (o : Nat) (n r pc tc : Int) (c : Nat) (i : Int) : Prop := c = 2 ∨ (10 ≤ c ∧ c ≤ 15) ∨ (c = o ∧ (i = 12 ∨ i = 13)) ∨ ((c = o + 22 ∨ c = o + 25) ∧ i = n) ∨ ((c = o + 26 ∨ c = o + 27) ∧ pc ≤ i) ∨ (c = o + 28 ∧ tc ≤ i) ∨ (c = o + 23 ∧ 601 * r ≤ i ∧ i < 601 * r + 601) ∨ (o + 31 ≤ c ∧ c ≤ o + 33)
abbrev KTe (o : Nat) (n r pc tc : Int) (σ τ : Sto) : Prop := Ch (wsTe o n r pc tc) σ τ
section KTES
variable {o : Nat} {n r pc tc : Int} {σ τ : Sto}
theorem KTe_rf : KTe o n r pc tc σ σ := Ch.rf
theorem KTe_w {a : Nat} {i v : Int} (e : τ = σ.wI a i v) (h : wsTe o n r pc tc a i) : KTe o n r pc tc σ τ := by subst e; exact Ch.wI Ch.rf h
theorem KTe_of_KXt (h : KXt 10 σ τ) : KTe o n r pc tc σ τ := Ch.mono h (fun c i q => by unfold wsXt at q; unfold wsTe; omega)
theorem KTe_of_KLf (h : KLf o r σ τ) : KTe o n r pc tc σ τ := Ch.mono h (fun c i q => by unfold wsLf at q; unfold wsTe; omega)
end KTES
/-- cells that the laying of a text does not touch -/
def UNA (σ τ : Sto) (o : Nat) : Prop := ∀ c i, ¬ (c = 2 ∨ (10 ≤ c ∧ c ≤ 15)) → ¬ (c = o ∨ (o + 25 ≤ c ∧ c ≤ o + 28)) → τ.I c i = σ.I c i
def UNB (σ τ : Sto) (o : Nat) (n : Int) : Prop := ∀ c i, ¬ (c = 2 ∨ (10 ≤ c ∧ c ≤ 15)) → ¬ (c = o ∨ (o + 25 ≤ c ∧ c ≤ o + 28)) → ¬ (c = o + 22 ∧ i = n) → τ.I c i = σ.I c i
def UNC (σ τ : Sto) (o : Nat) (n : Int) : Prop := ∀ c i, ¬ (c = 2 ∨ (10 ≤ c ∧ c ≤ 15)) → ¬ (c = o ∨ (o + 25 ≤ c ∧ c ≤ o + 28)) → ¬ (c = o + 22 ∧ i = n) → ¬ (c = o + 23 ∨ (o + 31 ≤ c ∧ c ≤ o + 33)) → τ.I c i = σ.I c i
theorem UNB.c {σ τ : Sto} {o : Nat} {n : Int} (h : UNB σ τ o n) : UNC σ τ o n := fun c i x y z _ => h c i x y z
def lastP (p : Int → Int) (j x : Int) : Prop := (j = 0 ∧ x = -1) ∨ (0 < j ∧ x = p (j - 1) - p 0)
theorem lastP_nw {p : Int → Int} {j x a b : Int} (h : lastP p j x) (hj : 0 ≤ j) (ha : a = p j) (hb : b = p 0) (hp : p 0 ≤ p j) : (a - b ≠ x ↔ nwP p j) := by
  unfold nwP
  rcases h with ⟨h1, h2⟩ | ⟨h1, h2⟩
  · constructor
    · intro _; exact Or.inl h1
    · intro _ z; omega
  · constructor
    · intro z; right; intro y; omega
    · rintro (z | z)
      · omega
      · intro y; omega
def TXE (σ τ : Sto) (o : Nat) (n : Int) (T : Int → Int) (l : TL) : Prop := TXA σ τ o n T l.2.2.2.2.2 l.1 (mL l) ∧ τ.I (o + 27) (σ.I o 12 + nL l) = σ.I o 13 + kT T (mL l)
theorem TXE_ft {σ τ : Sto} {o : Nat} {n q : Int} {T : Int → Int} {l : TL} (h : TXE σ τ o n T l) (hl : 0 ≤ l.1) (h0 : 0 ≤ q) (h1 : q ≤ nL l) : τ.I (o + 27) (σ.I o 12 + q) = σ.I o 13 + kT T (fqP l.2.2.2.2.2 (mL l) q) := by
  have hm := mL_in hl
  have e : nL l = nPl l.2.2.2.2.2 (mL l) := rfl
  rcases (show q < nL l ∨ q = nL l by omega) with z | z
  · have hm0 : 0 < mL l := by
      rcases Int.lt_or_le 0 (mL l) with y | y
      · exact y
      · have := (nPl_b (p := l.2.2.2.2.2) (n := mL l)).2.2 y; omega
    have a := (h.1.2.2.2.1 q h0 (by omega)).2
    rw [fqP_fs hm0 hm.2 h0 (by omega)] at a
    exact a
  · rw [z, fqP_m hm.1 (by omega)]; exact h.2
theorem TXE_fr {σ τ υ : Sto} {o : Nat} {n : Int} {T : Int → Int} {l : TL} (h : TXE σ τ o n T l) (e : ∀ c i, c = o ∨ (o + 25 ≤ c ∧ c ≤ o + 28) → υ.I c i = τ.I c i) : TXE σ υ o n T l := by
  obtain ⟨⟨a, b, c, d, f⟩, g⟩ := h
  refine ⟨⟨by rw [e _ _ (by omega)]; exact a, by rw [e _ _ (by omega)]; exact b, by rw [e _ _ (by omega)]; exact c, fun q x y => ?_, fun i x y z => by rw [e _ _ (by omega)]; exact f i x y z⟩, by rw [e _ _ (by omega)]; exact g⟩
  rw [e _ _ (by omega), e _ _ (by omega)]; exact d q x y
noncomputable def ixX (σ : Sto) (o : Nat) (f K V : Int) (l : TL) (j : Int) : Int := if 0 ≤ tmX σ f l j ∧ 0 < owX σ (o + 15) (tmX σ f l j) K V then lgR (2 * σ.I (o + 17) f + 2) (2 * owX σ (o + 15) (tmX σ f l j) K V + 1) else 0
theorem ixX_0 {σ : Sto} {o : Nat} {f K V : Int} {l : TL} : ∀ j, tmX σ f l j < 0 → ixX σ o f K V l j = 0 := fun j h => by unfold ixX; rw [if_neg (fun z => by have := z.1; omega)]
noncomputable def plX (σ : Sto) (o : Nat) (f K V : Int) (l : TL) (q : Int) : Int := mxP (fun i => rk l.2.2.2.2.2 i = q) (ixX σ o f K V l) (mL l)
noncomputable def smX (σ : Sto) (o : Nat) (f K V : Int) (l : TL) (q : Int) : Int := smP (fun _ => True) (plX σ o f K V l) q
theorem ixX_in (σ : Sto) (o : Nat) (f K V : Int) (l : TL) (j : Int) : 0 ≤ ixX σ o f K V l j ∧ ixX σ o f K V l j ≤ 5376 := by
  unfold ixX
  have := lgR_in (2 * σ.I (o + 17) f + 2) (2 * owX σ (o + 15) (tmX σ f l j) K V + 1)
  split <;> omega
theorem smX_in {σ : Sto} {o : Nat} {f K V : Int} {l : TL} {q : Int} (h : 0 ≤ q) : 0 ≤ smX σ o f K V l q ∧ smX σ o f K V l q ≤ 5376 * q := smP_bd h (fun k => mxP_in (by omega) (fun j => (ixX_in σ o f K V l j).2)) (by omega)
theorem smX_s {σ : Sto} {o : Nat} {f K V : Int} {l : TL} {q : Int} (h : 0 ≤ q) : smX σ o f K V l (q + 1) = smX σ o f K V l q + plX σ o f K V l q := smP_t _ _ _ _ h rfl trivial
section UNS
variable {σ τ : Sto} {o : Nat} {n : Int}
theorem UNA.b (h : UNA σ τ o) : UNB σ τ o n := fun c i x y _ => h c i x y
theorem unb_c (h : UNC σ τ o n) (ho : 80 ≤ o) {c : Nat} (q : 16 ≤ c ∧ c < 80) : τ.I c = σ.I c := funext fun i => h c i (by omega) (by omega) (by omega) (by omega)
theorem unb_0 (h : UNC σ τ o n) (ho : 80 ≤ o) (i : Int) : τ.I 0 i = σ.I 0 i := h 0 i (by omega) (by omega) (by omega) (by omega)
theorem unb_o (h : UNC σ τ o n) (ho : 80 ≤ o) {c : Nat} (q : (o < c ∧ c < o + 22) ∨ c = o + 24 ∨ (o + 33 < c)) : τ.I c = σ.I c := funext fun i => h c i (by omega) (by omega) (by omega) (by omega)
theorem PT_u (h : UNC σ τ o n) (ho : 80 ≤ o) {K : Int} (g : PT σ K) : PT τ K := by
  unfold PT tkQ isWt at *
  rw [unb_c h ho (c := 36) (by decide), unb_c h ho (c := 22) (by decide), unb_c h ho (c := 23) (by decide), unb_c h ho (c := 37) (by decide), unb_c h ho (c := 16) (by decide), unb_c h ho (c := 20) (by decide), unb_c h ho (c := 18) (by decide)]
  exact g
theorem PW_u (h : UNC σ τ o n) (ho : 80 ≤ o) {V : Int} (g : PW σ V) : PW τ V := by
  unfold PW wkQ isWt at *
  rw [unb_c h ho (c := 26) (by decide), unb_c h ho (c := 33) (by decide), unb_c h ho (c := 34) (by decide), unb_c h ho (c := 22) (by decide), unb_c h ho (c := 23) (by decide), unb_c h ho (c := 16) (by decide), unb_c h ho (c := 20) (by decide), unb_c h ho (c := 18) (by decide)]
  exact g
theorem OBV_u (h : UNC σ τ o n) (ho : 80 ≤ o) {K V : Int} (g : OBV σ K V) : OBV τ K V := by
  unfold OBV at *
  rw [unb_c h ho (c := 38) (by decide), unb_c h ho (c := 27) (by decide)]
  exact g
theorem TVL_u (h : UNC σ τ o n) (ho : 80 ≤ o) {K V : Int} (g : TVL σ K V) : TVL τ K V := by
  unfold TVL at *
  rw [unb_c h ho (c := 38) (by decide), unb_c h ho (c := 31) (by decide), unb_c h ho (c := 32) (by decide)]
  exact g
theorem DRV_u (h : UNC σ τ o n) (ho : 80 ≤ o) (g : DRV σ) : DRV τ := by
  unfold DRV at *
  rw [unb_c h ho (c := 26) (by decide), unb_c h ho (c := 31) (by decide), unb_c h ho (c := 32) (by decide), unb_0 h ho, unb_0 h ho]
  exact g
theorem VOC_u (h : UNC σ τ o n) (ho : 80 ≤ o) {V : Int} (g : VOC σ V) : VOC τ V := by
  unfold VOC at *
  rw [unb_c h ho (c := 27) (by decide), unb_0 h ho, unb_0 h ho]
  exact g
theorem TC1_u (h : UNC σ τ o n) (ho : 80 ≤ o) (g : TC1 σ) : TC1 τ := by
  have e : hT τ = hT σ := by funext t; unfold hT; rw [unb_c h ho (c := 19) (by decide), unb_c h ho (c := 20) (by decide), unb_c h ho (c := 21) (by decide)]
  unfold TC1 at *
  rw [e, unb_c h ho (c := 25) (by decide), unb_c h ho (c := 18) (by decide)]
  exact g
theorem TC2_u (h : UNC σ τ o n) (ho : 80 ≤ o) (g : TC2 σ) : TC2 τ := by
  have e : hT τ = hT σ := by funext t; unfold hT; rw [unb_c h ho (c := 19) (by decide), unb_c h ho (c := 20) (by decide), unb_c h ho (c := 21) (by decide)]
  unfold TC2 at *
  rw [e, unb_c h ho (c := 24) (by decide), unb_c h ho (c := 18) (by decide)]
  exact g
theorem owX_u (h : UNC σ τ o n) (ho : 80 ≤ o) {t K V : Int} : owX τ (o + 15) t K V = owX σ (o + 15) t K V := by
  have e1 : wkQ τ t = wkQ σ t := by funext v; unfold wkQ; rw [unb_c h ho (c := 26) (by decide), unb_c h ho (c := 33) (by decide), unb_c h ho (c := 16) (by decide)]
  have e2 : tkQ τ t = tkQ σ t := by funext v; unfold tkQ; rw [unb_c h ho (c := 36) (by decide)]
  have e3 : sn τ (o + 15) = sn σ (o + 15) := by funext v; unfold sn; rw [unb_o h ho (c := o + 15 + 1) (by omega)]
  have e4 : obT τ = obT σ := by funext v; unfold obT; rw [unb_c h ho (c := 27) (by decide), unb_c h ho (c := 38) (by decide)]
  unfold owX
  rw [e1, e2, e3, e4, unb_c h ho (c := 27) (by decide), unb_c h ho (c := 16) (by decide), unb_c h ho (c := 20) (by decide)]
end UNS
theorem lfS_k {o : Nat} {r : Int} {σ τ : Sto} (h : KLf o r σ τ) (ho : 80 ≤ o) : lfS τ o = lfS σ o := by
  funext n t V k
  have k0 := klf h (c := 0) (by omega)
  have e : fdS τ o n t k V = fdS σ o n t k V := by
    unfold fdS
    have e2 : (fun v => lkC τ o n t v ∧ τ.I 27 v = k) = (fun v => lkC σ o n t v ∧ σ.I 27 v = k) := by
      funext v; unfold lkC sn
      rw [ftX_k h ho, klf h (c := 27) (by omega), klf h (c := o + 15 + 1) (by omega), klf h (c := 36) (by omega), klf h (c := 31) (by omega), klf h (c := 32) (by omega)]
    rw [e2, mtX_k h ho]
  unfold lfS daS
  rw [e, mtX_k h ho, klf h (c := o + 15) (by omega), klf h (c := o + 28) (by omega), klf h (c := o + 27) (by omega), klf h (c := o + 24) (by omega), klf h (c := o + 8) (by omega), klf h (c := 26) (by omega), k0]
theorem TXE_mk {σ τ υ : Sto} {o : Nat} {n : Int} {T : Int → Int} {l : TL} (h : TXA σ τ o n T l.2.2.2.2.2 l.1 (mL l)) (e : υ = τ.wI (o + 27) (τ.I o 12) (τ.I o 13)) : TXE σ υ o n T l := by
  obtain ⟨a, b, c, d, f⟩ := h
  have en : nL l = nPl l.2.2.2.2.2 (mL l) := rfl
  refine ⟨⟨by rw [e, I_ne _ _ _ _ (by omega)]; exact a, by rw [e, I_ne _ _ _ _ (by omega)]; exact b, by rw [e, I_ne _ _ _ _ (by omega)]; exact c, fun q x y => ?_, fun i x y z => by rw [e, I_ne _ _ _ _ (by omega)]; exact f i x y z⟩, by rw [e, b, en, I_same]; exact a⟩
  rw [e, I_ne _ _ _ _ (by omega), I_nj _ _ _ _ (by omega)]; exact d q x y
theorem TXE_TMI {σ τ : Sto} {o : Nat} {n : Int} {T : Int → Int} {l : TL} (h : TXE σ τ o n T l) (hl : 0 ≤ l.1 ∧ l.1 ≤ 250) (h24 : τ.I (o + 24) n = σ.I o 12) (hc : 0 ≤ σ.I o 13 ∧ σ.I o 13 + 250 < 6000) : TMI τ o n := by
  intro p p0 p1
  have c25 : τ.I (o + 25) n = nL l := h.1.2.2.1
  have hm := mL_in hl.1
  have e1 := TXE_ft h hl.1 p0 (by omega)
  have e2 := TXE_ft h hl.1 (q := p + 1) (by omega) (by omega)
  have f1 := fqP_in (p := l.2.2.2.2.2) (m := mL l) (q := p) hm.1
  have f2 := fqP_in (p := l.2.2.2.2.2) (m := mL l) (q := p + 1) hm.1
  have k1 := kT_mo (T := T) f1.1 (fqP_mo (p := l.2.2.2.2.2) (m := mL l) hm.1 (show p ≤ p + 1 by omega))
  have k2 := kT_in (T := T) f1.1
  have k3 := kT_in (T := T) f2.1
  rw [h24, e1, show σ.I o 12 + p + 1 = σ.I o 12 + (p + 1) by omega, e2]
  omega
theorem kT_ex {T : Int → Int} : ∀ (m : Nat) (i : Int), 0 ≤ i → i < kT T (m : Int) → ∃ a, (0 ≤ a ∧ a < (m : Int)) ∧ 0 ≤ T a ∧ kT T a = i := by
  intro m
  induction m with
  | zero => intro i h0 h1; have := kT_in (T := T) (j := ((0 : Nat) : Int)) (by omega); omega
  | succ m ih =>
    intro i h0 h1
    have s := kT_s (T := T) (j := (m : Int)) (by omega)
    rw [show ((m + 1 : Nat) : Int) = (m : Int) + 1 by omega] at h1
    rcases Int.lt_or_le i (kT T (m : Int)) with z | z
    · obtain ⟨a, b, c, d⟩ := ih i h0 z
      exact ⟨a, ⟨b.1, by omega⟩, c, d⟩
    · rcases zb_cs (0 ≤ T (m : Int)) with y | y
      · exact ⟨(m : Int), ⟨by omega, by omega⟩, y.1, by omega⟩
      · omega
/-- the terms of the first place are not the same -/
theorem TXE_inj {σ τ : Sto} {o : Nat} {n f a b c : Int} {l : TL} (h : TXE σ τ o n (tmX σ f l) l) (hK : TKI l a b c) {i j : Int} (h0 : 0 ≤ i) (hij : i < j) (hj : j < kT (tmX σ f l) (fqP l.2.2.2.2.2 (mL l) 1)) : τ.I (o + 28) (σ.I o 13 + i) ≠ τ.I (o + 28) (σ.I o 13 + j) := by
  have hm := mL_in hK.1.1
  have fi := fqP_in (p := l.2.2.2.2.2) (m := mL l) (q := 1) hm.1
  have e : (((fqP l.2.2.2.2.2 (mL l) 1).toNat : Nat) : Int) = fqP l.2.2.2.2.2 (mL l) 1 := by omega
  obtain ⟨x, x1, x2, x3⟩ := kT_ex (T := tmX σ f l) (fqP l.2.2.2.2.2 (mL l) 1).toNat i h0 (by rw [e]; omega)
  obtain ⟨y, y1, y2, y3⟩ := kT_ex (T := tmX σ f l) (fqP l.2.2.2.2.2 (mL l) 1).toNat j (by omega) (by rw [e]; omega)
  rw [e] at x1 y1
  have p1 := h.1.2.2.2.2 x x1.1 (by omega) x2
  have p2 := h.1.2.2.2.2 y y1.1 (by omega) y2
  rw [x3] at p1
  rw [y3] at p2
  rw [p1, p2]
  have hxy : x < y := by
    rcases Int.lt_or_le x y with z | z
    · exact z
    · have := kT_mo (T := tmX σ f l) y1.1 z; omega
  have r1 := (fqP_lt (p := l.2.2.2.2.2) (m := mL l) (q := 1) (j := x) x1.1 (by omega)).mp x1.2
  have r2 := (fqP_lt (p := l.2.2.2.2.2) (m := mL l) (q := 1) (j := y) y1.1 (by omega)).mp y1.2
  have r3 := rk_in (p := l.2.2.2.2.2) (j := x)
  have r4 := rk_in (p := l.2.2.2.2.2) (j := y)
  exact tmX_inj hK x1.1 hxy (by omega) (rk_eq x1.1 (by omega) (by omega)) x2
theorem tmX_in {σ : Sto} {f j : Int} {l : TL} (h : 0 ≤ tmX σ f l j) : tmX σ f l j < σ.I 18 7 ∧ σ.I 20 (tmX σ f l j) = f := by
  rcases ls_in (tQ σ f (l.2.2.1 j) 0 (l.2.1 j)) (σ.I 18 7) with z | z
  · unfold tmX at h; omega
  · exact ⟨z.2.1, z.2.2.1.1⟩
theorem MXI_nn {T p g : Int → Int} {m TC q x6 x7 : Int} (h : MXI T p g m TC q x6 x7) (hg : ∀ i, g i ≤ 5376) : 0 ≤ x6 ∧ x6 ≤ 5376 := by
  obtain ⟨j, _, _, _, e⟩ := h
  rw [e]; exact mxP_in (by omega) hg
/-- how often terms of the first place are found, as far as term x -/
def FDT (σ τ : Sto) (o : Nat) (n V x : Int) : Prop := ∀ k, 0 ≤ k → k < 601 → τ.I (o + 23) (601 * σ.I (o + 21) n + k) = σ.I (o + 23) (601 * σ.I (o + 21) n + k) + smP (fun _ => True) (fun j => lfS τ o n (τ.I (o + 28) (σ.I o 13 + j)) V k) (x - σ.I o 13)

theorem sp_X5_text {E : XE} {d : Nat} {σ : Sto} {l : TL} {K : Int} {V : Int} {o0 : Nat} {x1 : Int} {x2 : Int} (hd : 525 ≤ d) (hL : Lay σ) (ho0 : At5 σ o0) (p0 : o0 = 87 ∨ o0 = 121 ∨ o0 = 155) (p1 : 0 ≤ x1 ∧ x1 < 200) (p2 : 0 ≤ x2 ∧ x2 ≤ 1) (p3 : 0 ≤ (σ.I (o0 + 8) x1) ∧ (σ.I (o0 + 8) x1) < 12) (p4 : 0 ≤ (σ.I 17 (σ.I (o0 + 8) x1)) ∧ (σ.I 17 (σ.I (o0 + 8) x1)) < σ.I 0 4 ∧ σ.I 0 4 ≤ 6) (p5 : 0 ≤ (σ.I (o0 + 9) x1) ∧ (σ.I (o0 + 9) x1) ≤ (σ.I (o0 + 10) x1) ∧ (σ.I (o0 + 10) x1) ≤ 400) (p6 : AN σ) (p7 : ANX σ) (p8 : bd_0_20 σ 12 250) (p9 : l = tk (anS σ (anC σ (σ.I 17 (σ.I (o0 + 8) x1)))) 0 (σ.I (o0 + 2)) (σ.I (o0 + 9) x1) (σ.I (o0 + 10) x1) (σ.I (o0 + 9) x1) 0 tl0) (p10 : TC1 σ) (p11 : TC2 σ) (p12 : 0 ≤ σ.I 18 7 ∧ σ.I 18 7 < 36500) (p13 : 0 ≤ (σ.I o0 12) ∧ (σ.I o0 12) + 16 ≤ 1000) (p14 : 0 ≤ (σ.I o0 13) ∧ (σ.I o0 13) + 250 < 6000) (p15 : σ.I (o0 + 24) x1 = (σ.I o0 12)) (p16 : σ.I (o0 + 25) x1 = 0) (p17 : PT σ K) (p18 : PW σ V) (p19 : OBV σ K V) (p20 : TVL σ K V) (p21 : DRV σ) (p22 : 0 ≤ σ.I 0 39 ∧ σ.I 0 39 < 601) (p23 : 0 ≤ σ.I (o0 + 11) x1 ∧ σ.I (o0 + 11) x1 ≤ 9) (p24 : bd_0_500 σ (o0 + 26) 1000) (p25 : bd_m1_15 σ (o0 + 32) 512) (p26 : bd_0_499 σ 39 24000) (p27 : bd_0_59 σ (o0 + 21) 200) (p28 : ∀ v, 0 ≤ v → v < V → 0 ≤ σ.I 31 v ∧ 0 ≤ σ.I 32 v ∧ σ.I 31 v + σ.I 32 v ≤ 24000) (p29 : ∀ k, 0 ≤ k → k < 601 → 0 ≤ σ.I (o0 + 23) (601 * (σ.I (o0 + 21) x1) + k) ∧ σ.I (o0 + 23) (601 * (σ.I (o0 + 21) x1) + k) ≤ 20000) (p30 : VOC σ V) (p31 : ¬ σ.I 16 (σ.I (o0 + 8) x1) = 1) (p32 : ∀ t, 0 ≤ t → t < σ.I 18 7 → σ.I 20 t = (σ.I (o0 + 8) x1) → owX σ (o0 + 15) t K V ≤ σ.I (o0 + 17) (σ.I (o0 + 8) x1)) (p33 : 0 ≤ σ.I (o0 + 17) (σ.I (o0 + 8) x1) ∧ σ.I (o0 + 17) (σ.I (o0 + 8) x1) ≤ 601) (p34 : 0 ≤ σ.I (o0 + 22) x1 ∧ σ.I (o0 + 22) x1 ≤ 1000000) : CC E mX5_text d [aO o0, aI (x1), aI (x2)] σ (RV (fun τ => (TXE σ τ o0 x1 (tmX σ (σ.I (o0 + 8) x1) l) l) ∧ ((x2 = 0 ∨ nL l = 0) ∧ (∀ c i, c = o0 + 22 ∨ c = o0 + 23 → τ.I c i = σ.I c i) ∨ (x2 ≠ 0 ∧ 1 ≤ nL l) ∧ τ.I (o0 + 22) x1 = σ.I (o0 + 22) x1 + smX σ o0 (σ.I (o0 + 8) x1) K V l (nL l) ∧ FDT σ τ o0 x1 V ((σ.I o0 13) + kT (tmX σ (σ.I (o0 + 8) x1) l) (fqP l.2.2.2.2.2 (mL l) 1))) ∧ (bd_0_20 τ 12 250) ∧ (bd_0_500 τ (o0 + 26) 1000) ∧ (bd_m1_15 τ (o0 + 32) 512) ∧ (KTe o0 x1 (σ.I (o0 + 21) x1) (σ.I o0 12) (σ.I o0 13) σ τ))) := by sorry
end
section
/-! contracts: printed by tools/mk.py out of s98t_textX.py -/
set_option maxRecDepth 100000
set_option maxHeartbeats 1200000
/-- what a text more writes in SearchHouse, with v values, h bytes, k tokens before it -/
def wsTX (v h k : Int) (c : Nat) (i : Int) : Prop := c = 2 ∨ (10 ≤ c ∧ c ≤ 15) ∨ (19 ≤ c ∧ c ≤ 25) ∨ at2 c i 18 7 ∨ ((c = 28 ∨ c = 29 ∨ c = 31 ∨ c = 32 ∨ c = 33) ∧ i = v) ∨ (c = 35 ∧ h ≤ i) ∨ ((c = 36 ∨ (38 ≤ c ∧ c ≤ 41)) ∧ k ≤ i) ∨ at2 c i 0 22 ∨ at2 c i 0 29 ∨ at2 c i 0 30
abbrev KTX (v h k : Int) (σ τ : Sto) : Prop := Ch (wsTX v h k) σ τ
theorem KTX_rf {v h k : Int} {σ : Sto} : KTX v h k σ σ := Ch.rf
theorem KTX_w {v h k : Int} {σ τ : Sto} {a : Nat} {i x : Int} (e : τ = σ.wI a i x) (q : wsTX v h k a i) : KTX v h k σ τ := by subst e; exact Ch.wI Ch.rf q
theorem KTX_c {v h k : Int} {σ τ : Sto} {a b : Nat} {i j z : Int} (e : τ = σ.cp a i b j z) (q : ∀ y, j ≤ y → y < j + z → wsTX v h k b y) : KTX v h k σ τ := by subst e; exact Ch.cp Ch.rf q
theorem KTX_rd {v h k : Int} {σ τ : Sto} {F : Nat → Int → Int} (r : τ.R = σ.R) (s : τ.sh = σ.sh) (n : τ.n = σ.n) (e : τ.I = F) (q : ∀ c i, ¬ wsTX v h k c i → F c i = σ.I c i) : KTX v h k σ τ := ⟨⟨r, s, n⟩, fun c i z => by rw [e]; exact q c i z⟩
theorem KTX_of_KXt {v h k : Int} {σ τ : Sto} (q : KXt 10 σ τ) : KTX v h k σ τ := Ch.mono q (fun c i z => by unfold wsXt at z; unfold wsTX; omega)
theorem KTX_come {v h k : Int} {σ τ : Sto} (r : τ.R = σ.R) (s : τ.sh = σ.sh) (n : τ.n = σ.n) (e : ∀ c j, ¬ (19 ≤ c ∧ c ≤ 25) → ¬ at2 c j 18 7 → τ.I c j = σ.I c j) : KTX v h k σ τ := ⟨⟨r, s, n⟩, fun c i z => e c i (fun y => z (by unfold wsTX; omega)) (fun y => z (by unfold wsTX; omega))⟩
/-- token j of a list lies at k + j, of value v, its term of field f -/
def TJ1 (σ : Sto) (v k f : Int) (l : TL) (j : Int) : Prop := rowX σ (σ.I 36 (k + j)) f (l.2.1 j) (l.2.2.1 j) ∧ σ.I 38 (k + j) = v ∧ σ.I 39 (k + j) = l.2.2.2.2.2 j ∧ σ.I 40 (k + j) = l.2.2.2.1 j ∧ σ.I 41 (k + j) = l.2.2.2.2.1 j
def TJN (σ : Sto) (v k f : Int) (l : TL) (n : Int) : Prop := ∀ j, 0 ≤ j → j < n → TJ1 σ v k f l j
theorem TJN_x {σ τ : Sto} {v k f n : Int} {l : TL} (h : TJN σ v k f l n) (hx : TXT σ τ) (hl : ∀ j, 0 ≤ j → j < n → l.2.1 j ≤ 20) (he : ∀ c i, 36 ≤ c → c ≤ 41 → i < k + n → τ.I c i = σ.I c i) : TJN τ v k f l n := by
  intro j j0 j1
  obtain ⟨a1, a2, a3, a4, a5⟩ := h j j0 j1
  unfold TJ1
  rw [he 36 _ (by omega) (by omega) (by omega), he 38 _ (by omega) (by omega) (by omega), he 39 _ (by omega) (by omega) (by omega), he 40 _ (by omega) (by omega) (by omega), he 41 _ (by omega) (by omega) (by omega)]
  exact ⟨rowX_x hx a1 (hl j j0 j1), a2, a3, a4, a5⟩
/-- rows of tokens from k on are as they were -/
def RSX (σ τ : Sto) (k : Int) : Prop := ∀ c i, c = 36 ∨ (38 ≤ c ∧ c ≤ 41) → k ≤ i → τ.I c i = σ.I c i
theorem RSX_tr {σ τ ρ : Sto} {a b k : Int} (h : RSX σ τ a) (g : RSX τ ρ b) (ha : a ≤ k) (hb : b ≤ k) : RSX σ ρ k := fun c i p r => (g c i p (by omega)).trans (h c i p (by omega))
/-- a text more: of field f, n bytes of A from fr on, tokens l -/
def TXX (σ τ : Sto) (f : Int) (A : Int → Int) (fr n : Int) (l : TL) : Prop :=
  KTX (σ.I 0 20) (σ.I 0 22) (σ.I 0 29) σ τ ∧ (τ.I 0 22 = σ.I 0 22 + n ∧ τ.I 28 (σ.I 0 20) = σ.I 0 22 ∧ τ.I 29 (σ.I 0 20) = n ∧ τ.I 31 (σ.I 0 20) = σ.I 0 29) ∧ alN (fun k => τ.I 35 (σ.I 0 22 + k) = A (fr + k)) n ∧
  (σ.I 16 f = 0 → τ.I 32 (σ.I 0 20) = l.1 ∧ τ.I 0 29 = σ.I 0 29 + l.1 ∧ τ.I 0 30 = σ.I 0 30 ∧ TJN τ (σ.I 0 20) (σ.I 0 29) f l l.1) ∧
  (σ.I 16 f = 1 → τ.I 32 (σ.I 0 20) = 0 ∧ τ.I 0 29 = σ.I 0 29 ∧ τ.I 0 30 = σ.I 0 30 + 1 ∧ rowX τ (τ.I 33 (σ.I 0 20)) f (l.2.1 0) (l.2.2.1 0)) ∧
  (TXT σ τ ∧ TU τ ∧ TC τ ∧ τ.I 18 7 ≤ σ.I 18 7 + l.1 ∧ bd_0_20 τ 21 36500 ∧ bd_0_12 τ 20 36500 ∧ TXNF σ τ f ∧ RSX σ τ (τ.I 0 29))
noncomputable def lTX (σ : Sto) (f : Int) (A : Int → Int) (fr n : Int) : TL := if σ.I 16 f = 0 then tk (anS σ (anC σ (σ.I 17 f))) 0 A fr (fr + n) fr 0 tl0 else wdT A fr n

theorem rowX_e {σ τ : Sto} {t f n : Int} {r : Int → Int} (h : rowX σ t f n r) (e : ∀ c i, 18 ≤ c → c ≤ 25 → τ.I c i = σ.I c i) : rowX τ t f n r := by
  unfold rowX at *
  rw [e 18 7 (by decide) (by decide), e 20 _ (by decide) (by decide), e 21 _ (by decide) (by decide)]
  exact ⟨h.1, h.2.1, h.2.2.1, fun k k0 k1 => by rw [e _ _ (by decide) (by decide)]; exact h.2.2.2 k k0 k1⟩
theorem TC_e {σ τ : Sto} (h : TC σ) (e : ∀ c i, 18 ≤ c → c ≤ 25 → τ.I c i = σ.I c i) : TC τ := TC_eq h (funext fun i => e _ i (by decide) (by decide)) (funext fun i => e _ i (by decide) (by decide)) (funext fun i => e _ i (by decide) (by decide)) (funext fun i => e _ i (by decide) (by decide)) (funext fun i => e _ i (by decide) (by decide)) (e _ _ (by decide) (by decide))
theorem TXT_e {σ τ : Sto} (e : ∀ c i, 18 ≤ c → c ≤ 25 → τ.I c i = σ.I c i) : TXT σ τ := TXT_eq (fun c a b => funext fun i => e c i a (by omega))
theorem TU_e {σ τ : Sto} (h : TU σ) (e : ∀ c i, 18 ≤ c → c ≤ 25 → τ.I c i = σ.I c i) : TU τ := TU_eq h (fun c a b => funext fun i => e c i a (by omega))

theorem sp_X0_addText {E : XE} {d : Nat} {σ : Sto} {x1 : Int} {o2 : Nat} {n2 : Nat} {x3 : Int} {x4 : Int} (hd : 20 ≤ d) (hL : Lay σ) (ho2 : σ.sh o2 = (1, n2)) (p0 : 0 ≤ σ.I 0 31 ∧ σ.I 0 31 ≤ σ.I 0 20) (p1 : σ.I 0 20 ≤ 6000 ∧ σ.I 0 20 ≤ σ.I 0 31 + 24) (p2 : 0 ≤ σ.I 0 22 ∧ σ.I 0 22 ≤ 60000) (p3 : 0 ≤ σ.I 0 29 ∧ 0 ≤ σ.I 0 30) (p4 : σ.I 0 29 + σ.I 0 30 ≤ 24000) (p5 : o2 = 1) (p6 : 0 ≤ x3 ∧ 0 ≤ x4 ∧ x4 ≤ 1000 ∧ x3 + x4 ≤ 30000) (p7 : 0 ≤ x1 ∧ x1 < σ.I 0 9 ∧ σ.I 0 9 ≤ 12) (p8 : σ.I 16 x1 = 0 ∨ σ.I 16 x1 = 1) (p9 : σ.I 16 x1 = 0 → 0 ≤ σ.I 17 x1 ∧ σ.I 17 x1 < σ.I 0 4) (p10 : AN σ) (p11 : ANX σ) (p12 : bd_0_20 σ 12 250) (p13 : TC σ) (p14 : TU σ) (p15 : 0 ≤ σ.I 18 7 ∧ σ.I 18 7 ≤ 30000) (p16 : bd_0_20 σ 21 36500) (p17 : bd_0_12 σ 20 36500) (p18 : σ.I 0 4 ≤ 6) : CC E mX0_addText d [aO 0, aI (x1), aO o2, aI (x3), aI (x4)] σ (RVZ (fun y τ => ((¬ (σ.I 0 20 - σ.I 0 31 < 24 ∧ σ.I 0 20 < 6000 ∧ σ.I 0 22 + x4 ≤ 60000 ∧ σ.I 0 29 + σ.I 0 30 + (lTX σ x1 (σ.I 1) x3 x4).1 ≤ 24000) ∧ y = 0 ∧ KXt 10 σ τ) ∨ ((σ.I 0 20 - σ.I 0 31 < 24 ∧ σ.I 0 20 < 6000 ∧ σ.I 0 22 + x4 ≤ 60000 ∧ σ.I 0 29 + σ.I 0 30 + (lTX σ x1 (σ.I 1) x3 x4).1 ≤ 24000) ∧ y = 1 ∧ TXX σ τ x1 (σ.I 1) x3 x4 (lTX σ x1 (σ.I 1) x3 x4))) ∧ (bd_0_20 τ 12 250))) := by sorry
end
section
/-! contracts: printed by tools/mk.py out of s98u_txv.py -/
set_option maxRecDepth 100000
set_option maxHeartbeats 1200000
/-! what a text leaf of the program finds, by its tokens -/
def TXG (τ : Sto) (o : Nat) (n : Int) (T : Int → Int) (l : TL) (pc tc : Int) : Prop := (τ.I (o + 24) n = pc ∧ τ.I (o + 25) n = nL l) ∧ (∀ q, 0 ≤ q → q < nL l → τ.I (o + 26) (pc + q) = pPl l.2.2.2.2.2 l.1 q) ∧ (∀ q, 0 ≤ q → q ≤ nL l → τ.I (o + 27) (pc + q) = tc + kT T (fqP l.2.2.2.2.2 (mL l) q)) ∧ ∀ i, 0 ≤ i → i < mL l → 0 ≤ T i → τ.I (o + 28) (tc + kT T i) = T i
theorem TXE_G {σ τ : Sto} {o : Nat} {n : Int} {T : Int → Int} {l : TL} (h : TXE σ τ o n T l) (hl : 0 ≤ l.1) (h24 : τ.I (o + 24) n = σ.I o 12) : TXG τ o n T l (σ.I o 12) (σ.I o 13) :=
  ⟨⟨h24, h.1.2.2.1⟩, fun q a b => (h.1.2.2.2.1 q a b).1, fun q a b => TXE_ft h hl a b, fun i a b c => h.1.2.2.2.2 i a b c⟩
section TXGS
variable {σ τ : Sto} {o : Nat} {n pc tc f : Int} {T : Int → Int} {l : TL}
theorem TXG_lx (h : TXG τ o n T l pc tc) (hl : 0 ≤ l.1) {p t : Int} (p0 : 0 ≤ p) (p1 : p < nL l) : lxQ τ o n p t ↔ exN (fun q => rk l.2.2.2.2.2 q = p ∧ 0 ≤ T q ∧ T q = t) (mL l) := by
  have hm := mL_in hl
  have f1 := fqP_in (p := l.2.2.2.2.2) (m := mL l) (q := p) hm.1
  have f2 := fqP_in (p := l.2.2.2.2.2) (m := mL l) (q := p + 1) hm.1
  have a1 := h.2.2.1 p p0 (by omega)
  have a2 := h.2.2.1 (p + 1) (by omega) (by omega)
  unfold lxQ
  rw [h.1.1, a1, show pc + p + 1 = pc + (p + 1) by omega, a2]
  constructor
  · rintro ⟨k, k0, k1, k2⟩
    have e : (((fqP l.2.2.2.2.2 (mL l) (p + 1)).toNat : Nat) : Int) = fqP l.2.2.2.2.2 (mL l) (p + 1) := by omega
    have kk := kT_in (T := T) f1.1
    obtain ⟨a, b1, b2, b3⟩ := kT_ex (T := T) (fqP l.2.2.2.2.2 (mL l) (p + 1)).toNat (k - tc) (by omega) (by rw [e]; omega)
    rw [e] at b1
    have c1 : fqP l.2.2.2.2.2 (mL l) p ≤ a := by
      rcases Int.lt_or_le a (fqP l.2.2.2.2.2 (mL l) p) with z | z
      · have s := kT_s (T := T) b1.1
        rw [zb_t b2] at s
        have m := kT_mo (T := T) (a := a + 1) (b := fqP l.2.2.2.2.2 (mL l) p) (by omega) (by omega)
        omega
      · exact z
    have r1 : ¬ rk l.2.2.2.2.2 a < p := fun y => by have := (fqP_lt (p := l.2.2.2.2.2) (m := mL l) (q := p) (j := a) b1.1 (by omega)).mpr y; omega
    have r2 := (fqP_lt (p := l.2.2.2.2.2) (m := mL l) (q := p + 1) (j := a) b1.1 (by omega)).mp b1.2
    have v := h.2.2.2 a b1.1 (by omega) b2
    rw [b3, show tc + (k - tc) = k by omega] at v
    have k2 : τ.I (o + 28) k = t := k2
    exact ⟨a, b1.1, by omega, by omega, b2, by omega⟩
  · rintro ⟨q, q0, q1, q2, q3, q4⟩
    have r1 := (fqP_lt (p := l.2.2.2.2.2) (m := mL l) (q := p + 1) (j := q) q0 q1).mpr (by omega)
    have r2 : fqP l.2.2.2.2.2 (mL l) p ≤ q := by
      rcases Int.lt_or_le q (fqP l.2.2.2.2.2 (mL l) p) with z | z
      · have := (fqP_lt (p := l.2.2.2.2.2) (m := mL l) (q := p) (j := q) q0 q1).mp z; omega
      · exact z
    have s := kT_s (T := T) q0
    rw [zb_t q3] at s
    have m1 := kT_mo (T := T) f1.1 r2
    have m2 := kT_mo (T := T) (a := q + 1) (b := fqP l.2.2.2.2.2 (mL l) (p + 1)) (by omega) (by omega)
    have v := h.2.2.2 q q0 q1 q3
    exact ⟨tc + kT T q, by omega, by omega, v.trans q4⟩
end TXGS
def sqV (σ : Sto) (f : Int) (l : TL) (v p x : Int) : Prop := exN (fun j => σ.I 39 (σ.I 31 v + j) = x ∧ exN (fun q => rk l.2.2.2.2.2 q = p ∧ 0 ≤ tmX σ f l q ∧ tmX σ f l q = σ.I 36 (σ.I 31 v + j)) (mL l)) (σ.I 32 v)
noncomputable def mtV (σ : Sto) (f : Int) (l : TL) (sl v : Int) : Int := mtc (sqV σ f l v) (pPl l.2.2.2.2.2 l.1) (nL l) sl
theorem mtV_0 {σ : Sto} {f : Int} {l : TL} {sl v : Int} (h : ∀ x, ¬ sqV σ f l v 0 x) : mtV σ f l sl v = 0 := by
  unfold mtV mtc
  rw [cn_ext (n := 0) (m := 500) (Int.le_refl _) (by omega) (fun k a b z => h k z.1), cn_0 _ _ (Int.le_refl _)]
theorem mtV_e {σ : Sto} {f : Int} {l : TL} {sl v : Int} (h : mL l ≤ 0) : mtV σ f l sl v = 0 := mtV_0 (fun x z => by obtain ⟨j, _, _, _, y⟩ := z; exact exN_0 _ _ h y)
theorem mtV_in (σ : Sto) (f : Int) (l : TL) (sl v : Int) : 0 ≤ mtV σ f l sl v ∧ mtV σ f l sl v ≤ 500 := by
  have := cn_in (fun x => sqV σ f l v 0 x ∧ mAt (sqV σ f l v) (pPl l.2.2.2.2.2 l.1) (nL l) sl x) 500
  unfold mtV mtc; omega
section FDV
variable {σ τ : Sto} {o : Nat} {n pc tc f : Int} {l : TL}
theorem TXG_mt (h : TXG τ o n (tmX σ f l) l pc tc) (hl : 0 ≤ l.1) (h1 : 1 ≤ nL l) (e : ∀ c, 31 ≤ c ∧ c ≤ 39 → τ.I c = σ.I c) (v : Int) : mtX τ o n v = mtV σ f l (τ.I (o + 11) n) v := by
  unfold mtX mtV
  rw [h.1.2]
  refine mtc_cg (fun p y a b => ?_) (fun p a b => ?_) h1
  · unfold sxQ sxP sqV
    rw [e 39 (by decide), e 31 (by decide), e 36 (by decide), e 32 (by decide)]
    constructor
    · rintro ⟨j, j0, j1, j2, j3⟩; exact ⟨j, j0, j1, j2, (TXG_lx h hl a b).mp j3⟩
    · rintro ⟨j, j0, j1, j2, j3⟩; exact ⟨j, j0, j1, j2, (TXG_lx h hl a b).mpr j3⟩
  · show τ.I (o + 26) (τ.I (o + 24) n + p) = _
    rw [h.1.1]; exact h.2.1 p (by omega) b
theorem smP_cz {p q : Int → Prop} {g : Int → Int} : ∀ (V : Nat), (∀ v, 0 ≤ v → v < (V : Int) → (p v → q v) ∧ (q v → ¬ p v → g v = 0)) → smP p g (V : Int) = smP q g (V : Int) := by
  intro V
  induction V with
  | zero => intro _; rw [smP_0 _ _ _ (show ((0 : Nat) : Int) ≤ 0 by omega), smP_0 _ _ _ (show ((0 : Nat) : Int) ≤ 0 by omega)]
  | succ V ih =>
    intro h
    have i2 := ih (fun v a b => h v a (by omega))
    have w := h (V : Int) (by omega) (by omega)
    rcases Classical.em (p (V : Int)) with a | a
    · rw [smP_t p g (V : Int) ((V + 1 : Nat) : Int) (by omega) (by omega) a, smP_t q g (V : Int) ((V + 1 : Nat) : Int) (by omega) (by omega) (w.1 a), i2]
    · rw [smP_f p g (V : Int) ((V + 1 : Nat) : Int) (by omega) (by omega) a]
      rcases Classical.em (q (V : Int)) with b | b
      · rw [smP_t q g (V : Int) ((V + 1 : Nat) : Int) (by omega) (by omega) b, w.2 b a, i2]; omega
      · rw [smP_f q g (V : Int) ((V + 1 : Nat) : Int) (by omega) (by omega) b, i2]
theorem smP_gg {p : Int → Prop} {g g' : Int → Int} : ∀ (V : Nat), (∀ v, 0 ≤ v → v < (V : Int) → g v = g' v) → smP p g (V : Int) = smP p g' (V : Int) := by
  intro V
  induction V with
  | zero => intro _; rw [smP_0 _ _ _ (show ((0 : Nat) : Int) ≤ 0 by omega), smP_0 _ _ _ (show ((0 : Nat) : Int) ≤ 0 by omega)]
  | succ V ih =>
    intro h
    have i2 := ih (fun v a b => h v a (by omega))
    have w := h (V : Int) (by omega) (by omega)
    rcases Classical.em (p (V : Int)) with a | a
    · rw [smP_t p g (V : Int) ((V + 1 : Nat) : Int) (by omega) (by omega) a, smP_t p g' (V : Int) ((V + 1 : Nat) : Int) (by omega) (by omega) a, i2, w]
    · rw [smP_f p g (V : Int) ((V + 1 : Nat) : Int) (by omega) (by omega) a, smP_f p g' (V : Int) ((V + 1 : Nat) : Int) (by omega) (by omega) a, i2]
theorem lfS_un {V k N : Int} {P : Int → Int} (hd : ∀ i j, 0 ≤ i → i < j → j < N → P i ≠ P j) (hV : 0 ≤ V) (al : τ.I (o + 15) 8 = 0) : ∀ q : Nat, (q : Int) ≤ N → smP (fun _ => True) (fun j => lfS τ o n (P j) V k) (q : Int) = smP (fun v => (∃ j, 0 ≤ j ∧ j < (q : Int) ∧ lkC τ o n (P j) v) ∧ τ.I 27 v = k) (mtX τ o n) V := by
  obtain ⟨u, rfl⟩ := Int.eq_ofNat_of_zero_le hV
  intro q
  induction q with
  | zero =>
    intro _
    rw [smP_0 _ _ _ (show ((0 : Nat) : Int) ≤ 0 by omega)]
    refine (smP_z (by omega) (fun v a b c => ?_)).symm
    obtain ⟨⟨j, j0, j1, _⟩, _⟩ := c
    omega
  | succ q ih =>
    intro hq
    rw [smP_t (fun _ => True) (fun j => lfS τ o n (P j) u k) (q : Int) ((q + 1 : Nat) : Int) (by omega) (by omega) trivial, ih (by omega)]
    have e : lfS τ o n (P (q : Int)) u k = smP (fun v => lkC τ o n (P (q : Int)) v ∧ τ.I 27 v = k) (mtX τ o n) u := if_pos al
    rw [e, ← smP_or (fun v z => by
      obtain ⟨⟨⟨j, j0, j1, j2⟩, _⟩, ⟨y, _⟩⟩ := z
      exact hd j (q : Int) j0 j1 (by omega) (j2.2.2.symm.trans y.2.2)) u]
    refine smP_pq (fun v => ?_) _
    constructor
    · rintro (⟨⟨j, j0, j1, j2⟩, c⟩ | ⟨a, c⟩)
      · exact ⟨⟨j, j0, by omega, j2⟩, c⟩
      · exact ⟨⟨(q : Int), by omega, by omega, a⟩, c⟩
    · rintro ⟨⟨j, j0, j1, j2⟩, c⟩
      rcases (show j < (q : Int) ∨ j = (q : Int) by omega) with z | z
      · exact Or.inl ⟨⟨j, j0, z, j2⟩, c⟩
      · rw [z] at j2; exact Or.inr ⟨j2, c⟩
theorem lfS_al {V k N : Int} {P : Int → Int} (hd : ∀ i j, 0 ≤ i → i < j → j < N → P i ≠ P j) (al : ¬ τ.I (o + 15) 8 = 0) (h0 : P 0 = τ.I (o + 28) (τ.I (o + 27) (τ.I (o + 24) n))) : ∀ q : Nat, (q : Int) ≤ N → smP (fun _ => True) (fun j => lfS τ o n (P j) V k) (q : Int) = if 0 < (q : Int) ∧ k = τ.I 0 39 then daS τ o n (τ.I 0 20 - τ.I 0 31) else 0 := by
  intro q
  induction q with
  | zero => intro _; rw [smP_0 _ _ _ (show ((0 : Nat) : Int) ≤ 0 by omega), if_neg (fun z => by have := z.1; omega)]
  | succ q ih =>
    intro hq
    rw [smP_t (fun _ => True) (fun j => lfS τ o n (P j) V k) (q : Int) ((q + 1 : Nat) : Int) (by omega) (by omega) trivial, ih (by omega)]
    have e : lfS τ o n (P (q : Int)) V k = if k = τ.I 0 39 ∧ P (q : Int) = τ.I (o + 28) (τ.I (o + 27) (τ.I (o + 24) n)) then daS τ o n (τ.I 0 20 - τ.I 0 31) else 0 := if_neg al
    rw [e]
    by_cases y : k = τ.I 0 39
    · by_cases z : q = 0
      · subst z
        rw [if_neg (fun w => by have := w.1; omega), if_pos ⟨y, h0⟩, if_pos ⟨by omega, y⟩]; omega
      · have ne : ¬ P (q : Int) = τ.I (o + 28) (τ.I (o + 27) (τ.I (o + 24) n)) := fun w => hd 0 (q : Int) (Int.le_refl _) (by omega) (by omega) (h0.trans w.symm)
        rw [if_pos ⟨by omega, y⟩, if_neg (fun w => ne w.2), if_pos ⟨by omega, y⟩]; omega
    · rw [if_neg (fun w => y w.2), if_neg (fun w => y w.1), if_neg (fun w => y w.2)]; rfl
/-- how often an object has a text leaf -/
noncomputable def foX (σ : Sto) (o : Nat) (f : Int) (l : TL) (sl V k : Int) : Int := if σ.I (o + 15) 8 = 0 then (if zb (sn σ (o + 15) k) = 1 then smP (fun v => σ.I 27 v = k) (mtV σ f l sl) V else 0) else (if k = σ.I 0 39 then smP (fun j => σ.I 26 (σ.I 0 31 + j) = f) (fun j => mtV σ f l sl (σ.I 0 31 + j)) (σ.I 0 20 - σ.I 0 31) else 0)
theorem foX_0 {V k sl : Int} (h : mL l ≤ 0) (hV : 0 ≤ V) (hD : 0 ≤ σ.I 0 20 - σ.I 0 31) : foX σ o f l sl V k = 0 := by
  unfold foX
  split
  · split
    · exact smP_z hV (fun v _ _ _ => mtV_e h)
    · rfl
  · split
    · exact smP_z hD (fun v _ _ _ => mtV_e h)
    · rfl
theorem FDT_fo {V k : Int} (h : TXE σ τ o n (tmX σ f l) l) {a b c : Int} (hK : TKI l a b c) (h24 : τ.I (o + 24) n = σ.I o 12) (h1 : 1 ≤ nL l) (hV : 0 ≤ V) (hD : 0 ≤ σ.I 0 20 - σ.I 0 31) (hU : UNC σ τ o n) (ho : 80 ≤ o) (hf : σ.I (o + 8) n = f) (htc : 0 ≤ σ.I o 13) : smP (fun _ => True) (fun j => lfS τ o n (τ.I (o + 28) (σ.I o 13 + j)) V k) (kT (tmX σ f l) (fqP l.2.2.2.2.2 (mL l) 1)) = foX σ o f l (σ.I (o + 11) n) V k := by
  have hl := hK.1.1
  have hm := mL_in hl
  have hF := TXE_G h hl h24
  have hc : ∀ c, 31 ≤ c ∧ c ≤ 39 → τ.I c = σ.I c := fun c q => unb_c hU ho (by omega)
  have hmt := fun v => TXG_mt hF hl h1 hc v
  have k11 : τ.I (o + 11) n = σ.I (o + 11) n := congrFun (unb_o hU ho (by omega)) n
  rw [k11] at hmt
  have fi := fqP_in (p := l.2.2.2.2.2) (m := mL l) (q := 1) hm.1
  have kk := kT_in (T := tmX σ f l) fi.1
  have e : (((kT (tmX σ f l) (fqP l.2.2.2.2.2 (mL l) 1)).toNat : Nat) : Int) = kT (tmX σ f l) (fqP l.2.2.2.2.2 (mL l) 1) := by omega
  have hd := fun (i j : Int) (x : 0 ≤ i) (y : i < j) (z : j < kT (tmX σ f l) (fqP l.2.2.2.2.2 (mL l) 1)) => TXE_inj h hK x y z
  have ft0 : τ.I (o + 27) (τ.I (o + 24) n) = σ.I o 13 := by
    have z := hF.2.2.1 0 (Int.le_refl _) (by omega)
    rw [fqP_0 hm.1 (Int.le_refl _), show kT (tmX σ f l) 0 = 0 from cn_0 _ _ (Int.le_refl _), Int.add_zero, Int.add_zero] at z
    rw [h24]; exact z
  have ft1 : τ.I (o + 27) (τ.I (o + 24) n + 1) = σ.I o 13 + kT (tmX σ f l) (fqP l.2.2.2.2.2 (mL l) 1) := by rw [h24]; exact hF.2.2.1 1 (by omega) (by omega)
  have al : τ.I (o + 15) 8 = σ.I (o + 15) 8 := congrFun (unb_o hU ho (by omega)) 8
  have vo := unb_c hU ho (c := 27) (by decide)
  -- a value that has no term of the first place matches nowhere
  have hno : ∀ v, (∀ j, 0 ≤ j → j < kT (tmX σ f l) (fqP l.2.2.2.2.2 (mL l) 1) → ¬ fqX τ o v (σ.I o 13 + j)) → mtX τ o n v = 0 := fun v hn => by
    rw [hmt v]
    refine mtV_0 (fun x z => ?_)
    obtain ⟨i, i0, i1, i2, q, q0, q1, q2, q3, q4⟩ := z
    have r := (fqP_lt (p := l.2.2.2.2.2) (m := mL l) (q := 1) (j := q) q0 q1).mpr (by omega)
    have s := kT_s (T := tmX σ f l) q0
    rw [zb_t q3] at s
    have m2 := kT_mo (T := tmX σ f l) (a := q + 1) (b := fqP l.2.2.2.2.2 (mL l) 1) (by omega) (by omega)
    have kq := kT_in (T := tmX σ f l) q0
    refine hn (kT (tmX σ f l) q) kq.1 (by omega) ⟨i, i0, ?_, ?_⟩
    · rw [hc 32 (by decide)]; exact i1
    · show τ.I 36 (τ.I 31 v + i) = τ.I (o + 28) (σ.I o 13 + kT (tmX σ f l) q)
      rw [hc 36 (by decide), hc 31 (by decide), ← q4]
      exact (h.1.2.2.2.2 q q0 q1 q3).symm
  unfold foX
  by_cases a0 : σ.I (o + 15) 8 = 0
  · rw [if_pos a0, ← e, lfS_un (V := V) (k := k) (P := fun j => τ.I (o + 28) (σ.I o 13 + j)) hd hV (al.trans a0) _ (by omega), e]
    obtain ⟨u, rfl⟩ := Int.eq_ofNat_of_zero_le hV
    have sne : sn τ (o + 15) = sn σ (o + 15) := by funext v; unfold sn; rw [unb_o hU ho (c := o + 15 + 1) (by omega)]
    by_cases s : sn σ (o + 15) k
    · rw [if_pos (zb_t s), smP_cz (q := fun v => σ.I 27 v = k) u (fun v _ _ => ⟨fun z => by rw [← vo]; exact z.2, fun z y => ?_⟩)]
      · exact smP_gg u (fun v _ _ => hmt v)
      · refine hno v (fun j j0 j1 w => ?_)
        -- then the first such term finds it
        have hb := fsF_in (fqX τ o v) (σ.I o 13) (σ.I o 13 + kT (tmX σ f l) (fqP l.2.2.2.2.2 (mL l) 1))
        rcases hb with hb | hb
        · exact (fsF_bt (fqX τ o v) (σ.I o 13) (σ.I o 13 + kT (tmX σ f l) (fqP l.2.2.2.2.2 (mL l) 1)) htc (by omega)).1 hb (σ.I o 13 + j) (by omega) (by omega) w
        · refine y ⟨⟨fsF (fqX τ o v) (σ.I o 13) (σ.I o 13 + kT (tmX σ f l) (fqP l.2.2.2.2.2 (mL l) 1)) - σ.I o 13, by omega, by omega, ?_⟩, by rw [vo]; exact z⟩
          have ee : σ.I o 13 + (fsF (fqX τ o v) (σ.I o 13) (σ.I o 13 + kT (tmX σ f l) (fqP l.2.2.2.2.2 (mL l) 1)) - σ.I o 13) = fsF (fqX τ o v) (σ.I o 13) (σ.I o 13 + kT (tmX σ f l) (fqP l.2.2.2.2.2 (mL l) 1)) := by omega
          show lkC τ o n (τ.I (o + 28) (σ.I o 13 + (fsF (fqX τ o v) (σ.I o 13) (σ.I o 13 + kT (tmX σ f l) (fqP l.2.2.2.2.2 (mL l) 1)) - σ.I o 13))) v
          rw [ee]
          refine ⟨by rw [sne, vo, z]; exact s, hb.2.2, ?_⟩
          unfold ftX
          rw [ft0, ft1, if_neg (by have hz := hb.1; omega)]
    · rw [if_neg (by rw [zb_f s]; decide)]
      refine smP_z (by omega) (fun v _ _ z => ?_)
      obtain ⟨⟨j, _, _, w⟩, y⟩ := z
      exfalso
      have w1 := w.1
      rw [sne, y] at w1
      exact s w1
  · rw [if_neg a0, ← e, lfS_al (V := V) (k := k) (P := fun j => τ.I (o + 28) (σ.I o 13 + j)) hd (by rw [al]; exact a0) (by rw [ft0]; show τ.I (o + 28) (σ.I o 13 + 0) = _; rw [Int.add_zero]) _ (by omega), e]
    have n1 : τ.I 0 39 = σ.I 0 39 := unb_0 hU ho _
    have n2 : τ.I 0 20 = σ.I 0 20 := unb_0 hU ho _
    have n3 : τ.I 0 31 = σ.I 0 31 := unb_0 hU ho _
    have n8 : τ.I (o + 8) n = f := (congrFun (unb_o hU ho (by omega)) n).trans hf
    have dae : daS τ o n (τ.I 0 20 - τ.I 0 31) = smP (fun j => σ.I 26 (σ.I 0 31 + j) = f) (fun j => mtV σ f l (σ.I (o + 11) n) (σ.I 0 31 + j)) (σ.I 0 20 - σ.I 0 31) := by
      unfold daS
      rw [n2, n3, n8, unb_c hU ho (c := 26) (by decide)]
      obtain ⟨u, hu⟩ := Int.eq_ofNat_of_zero_le hD
      rw [hu]
      exact smP_gg u (fun v _ _ => hmt _)
    rw [n1]
    by_cases y : k = σ.I 0 39
    · rw [if_pos y]
      by_cases z : 0 < kT (tmX σ f l) (fqP l.2.2.2.2.2 (mL l) 1)
      · rw [if_pos ⟨z, y⟩]; exact dae
      · rw [if_neg (fun w => z w.1)]
        refine (smP_z hD (fun j _ _ _ => ?_)).symm
        have w := hno (σ.I 0 31 + j) (fun i i0 i1 => by omega)
        rw [hmt] at w; exact w
    · rw [if_neg (fun w => y w.2), if_neg y]
end FDV

theorem KTe_unc {o : Nat} {n r pc tc : Int} {σ τ : Sto} (h : KTe o n r pc tc σ τ) : UNC σ τ o n := fun c i a b d e => h.2 c i (by unfold wsTe; omega)
end
section
/-! contracts: printed by tools/mk.py out of s98v_prep.py -/
set_option maxRecDepth 100000
set_option maxHeartbeats 1200000
def bd_0_20000 (σ : Sto) (a : Nat) (n : Int) : Prop := ∀ i, 0 ≤ i → i < n → 0 ≤ σ.I a i ∧ σ.I a i ≤ 20000
theorem bd_0_20000_at {σ : Sto} {a : Nat} {n i : Int} (h : bd_0_20000 σ a n) (h0 : 0 ≤ i) (h1 : i < n) : σ.I a i = 0 ∨ (0 < σ.I a i ∧ σ.I a i ≤ 20000) := by have := h i h0 h1; omega
theorem bd_0_20000_eq {σ τ : Sto} {a : Nat} {n : Int} (h : bd_0_20000 σ a n) (e : τ.I a = σ.I a) : bd_0_20000 τ a n := by unfold bd_0_20000; rw [e]; exact h
/-! all leaves of a question of the program -/
def wsPr (o c : Nat) (i : Int) : Prop := c = 2 ∨ (10 ≤ c ∧ c ≤ 15) ∨ c = 81 ∨ (c = o ∧ (i = 6 ∨ i = 12 ∨ i = 13 ∨ i = 16)) ∨ (o + 21 ≤ c ∧ c ≤ o + 33)
def wsPq (o c : Nat) (i : Int) : Prop := wsPr o c i ∨ c = o + 17 ∨ c = o + 18
abbrev KPq (o : Nat) (σ τ : Sto) : Prop := Ch (wsPq o) σ τ
section PRS
variable {o : Nat} {β τ σ : Sto}
theorem KPq_rf : KPq o σ σ := Ch.rf
theorem KPq_w {a : Nat} {i v : Int} (e : τ = σ.wI a i v) (h : wsPq o a i) : KPq o σ τ := by subst e; exact Ch.wI Ch.rf h
theorem KPq_of_KCn (h : KCn (o + 15) σ τ) : KPq o σ τ := Ch.mono h (fun c i q => by unfold wsCn at q; unfold wsPq wsPr; omega)
theorem KPq_of_KTe {n r pc tc : Int} (h : KTe o n r pc tc σ τ) : KPq o σ τ := Ch.mono h (fun c i q => by unfold wsTe at q; unfold wsPq wsPr; omega)
theorem KPq_of_KOt {r x : Int} (h : KOt o r x σ τ) : KPq o σ τ := Ch.mono h (fun c i q => by unfold wsOt at q; unfold wsPq wsPr; omega)
theorem pr_te {n r pc tc : Int} (h : KTe o n r pc tc σ τ) : Ch (wsPr o) σ τ := Ch.mono h (fun c i q => by unfold wsTe at q; unfold wsPr; omega)
theorem pr_ot {r x : Int} (h : KOt o r x σ τ) : Ch (wsPr o) σ τ := Ch.mono h (fun c i q => by unfold wsOt at q; unfold wsPr; omega)
theorem unp (h : KPq o β τ) {c : Nat} (q : c ≠ 2 ∧ ¬ (10 ≤ c ∧ c ≤ 15) ∧ c ≠ 81 ∧ c ≠ o ∧ ¬ (o + 21 ≤ c ∧ c ≤ o + 33) ∧ c ≠ o + 17 ∧ c ≠ o + 18) : τ.I c = β.I c := funext fun i => h.2 c i (by unfold wsPq wsPr; omega)
theorem PT_p {K : Int} (h : KPq o β τ) (ho : 86 ≤ o) (g : PT β K) : PT τ K := by
  unfold PT tkQ isWt at *
  rw [unp h (c := 36) (by omega), unp h (c := 22) (by omega), unp h (c := 23) (by omega), unp h (c := 37) (by omega), unp h (c := 16) (by omega), unp h (c := 20) (by omega), unp h (c := 18) (by omega)]
  exact g
theorem PW_p {V : Int} (h : KPq o β τ) (ho : 86 ≤ o) (g : PW β V) : PW τ V := by
  unfold PW wkQ isWt at *
  rw [unp h (c := 26) (by omega), unp h (c := 33) (by omega), unp h (c := 34) (by omega), unp h (c := 22) (by omega), unp h (c := 23) (by omega), unp h (c := 16) (by omega), unp h (c := 20) (by omega), unp h (c := 18) (by omega)]
  exact g
theorem OBV_p {K V : Int} (h : KPq o β τ) (ho : 86 ≤ o) (g : OBV β K V) : OBV τ K V := by
  unfold OBV at *
  rw [unp h (c := 38) (by omega), unp h (c := 27) (by omega)]
  exact g
theorem TVL_p {K V : Int} (h : KPq o β τ) (ho : 86 ≤ o) (g : TVL β K V) : TVL τ K V := by
  unfold TVL at *
  rw [unp h (c := 38) (by omega), unp h (c := 31) (by omega), unp h (c := 32) (by omega)]
  exact g
theorem DRV_p (h : KPq o β τ) (ho : 86 ≤ o) (g : DRV β) : DRV τ := by
  unfold DRV at *
  rw [unp h (c := 26) (by omega), unp h (c := 31) (by omega), unp h (c := 32) (by omega), unp h (c := 0) (by omega)]
  exact g
theorem VOC_p {V : Int} (h : KPq o β τ) (ho : 86 ≤ o) (g : VOC β V) : VOC τ V := by
  unfold VOC at *
  rw [unp h (c := 27) (by omega), unp h (c := 0) (by omega)]
  exact g
theorem TC_p (h : KPq o β τ) (ho : 86 ≤ o) (g : TC β) : TC τ := TC_e g (fun c i a b => congrFun (unp h (c := c) (by omega)) i)
theorem OBX_p (h : KPq o β τ) (ho : 86 ≤ o) (g : OB β 42 43) : OB τ 42 43 := by
  unfold OB at *; rw [unp h (c := 42) (by omega), unp h (c := 43) (by omega)]; exact g
theorem AN_p (h : KPq o β τ) (ho : 86 ≤ o) (g : AN β) : AN τ := AN_k g h.1.1 h.1.2.1 h.1.2.2 (congrFun (unp h (c := 0) (by omega)) _)
theorem anC_p (h : KPq o β τ) : anC τ = anC β := by funext k; unfold anC; rw [h.1.1]
theorem ANX_p (h : KPq o β τ) (ho : 86 ≤ o ∧ o ≤ 160) (a : AN β) (g : ANX β) : ANX τ := by
  intro k k0 k1
  rw [show τ.I 0 4 = β.I 0 4 from congrFun (unp h (c := 0) (by omega)) _] at k1
  have q := AN_g a k0 k1
  rw [anC_p h]
  exact ANBs_e (fun c x y => unp h (by omega)) (g k k0 k1)
theorem tmX_p (h : KPq o β τ) (ho : 86 ≤ o) : tmX τ = tmX β := by
  funext f l j
  unfold tmX
  have e : tQ τ = tQ β := by funext f A i n t; unfold tQ; rw [unp h (c := 20) (by omega), unp h (c := 21) (by omega), unp h (c := 19) (by omega)]
  rw [e, unp h (c := 18) (by omega)]
theorem owX_p (h : KPq o β τ) (ho : 86 ≤ o) : owX τ (o + 15) = owX β (o + 15) := by
  funext t K V
  have e1 : wkQ τ t = wkQ β t := by funext v; unfold wkQ; rw [unp h (c := 26) (by omega), unp h (c := 33) (by omega), unp h (c := 16) (by omega)]
  have e2 : tkQ τ t = tkQ β t := by funext v; unfold tkQ; rw [unp h (c := 36) (by omega)]
  have e3 : sn τ (o + 15) = sn β (o + 15) := by funext v; unfold sn; rw [unp h (c := o + 15 + 1) (by omega)]
  have e4 : obT τ = obT β := by funext v; unfold obT; rw [unp h (c := 27) (by omega), unp h (c := 38) (by omega)]
  unfold owX
  rw [e1, e2, e3, e4, unp h (c := 27) (by omega), unp h (c := 16) (by omega), unp h (c := 20) (by omega)]
theorem smX_p (h : KPq o β τ) (ho : 86 ≤ o) (h17 : τ.I (o + 17) = β.I (o + 17)) : smX τ o = smX β o := by
  funext f K V l q
  unfold smX plX
  have e : ixX τ o f K V l = ixX β o f K V l := by funext j; unfold ixX; rw [tmX_p h ho, owX_p h ho, h17]
  have e2 : (fun q => mxP (fun i => rk l.2.2.2.2.2 i = q) (ixX τ o f K V l) (mL l)) = (fun q => mxP (fun i => rk l.2.2.2.2.2 i = q) (ixX β o f K V l) (mL l)) := by rw [e]
  exact congrArg (fun g => smP (fun _ => True) g q) e2
theorem foX_p (h : KPq o β τ) (ho : 86 ≤ o) : foX τ o = foX β o := by
  funext f l sl V k
  have e1 : mtV τ f l sl = mtV β f l sl := by
    funext v
    unfold mtV
    have e : sqV τ f l v = sqV β f l v := by
      funext p x; unfold sqV
      rw [tmX_p h ho, unp h (c := 39) (by omega), unp h (c := 31) (by omega), unp h (c := 36) (by omega), unp h (c := 32) (by omega)]
    rw [e]
  have e3 : sn τ (o + 15) = sn β (o + 15) := by funext v; unfold sn; rw [unp h (c := o + 15 + 1) (by omega)]
  unfold foX
  rw [e1, e3, unp h (c := o + 15) (by omega), unp h (c := 27) (by omega), unp h (c := 26) (by omega), unp h (c := 0) (by omega)]
theorem mkQ_p (h : KPq o β τ) (ho : 86 ≤ o) : mkQ τ o = mkQ β o := by
  funext t K V k
  have e1 : wkQ τ t = wkQ β t := by funext v; unfold wkQ; rw [unp h (c := 26) (by omega), unp h (c := 33) (by omega), unp h (c := 16) (by omega)]
  have e2 : tkQ τ t = tkQ β t := by funext v; unfold tkQ; rw [unp h (c := 36) (by omega)]
  have e5 : isWt τ t = isWt β t := by unfold isWt; rw [unp h (c := 16) (by omega), unp h (c := 20) (by omega)]
  unfold mkQ sn obT dhX vhX
  rw [e1, e2, e5, unp h (c := o + 15) (by omega), unp h (c := o + 15 + 1) (by omega), unp h (c := 38) (by omega), unp h (c := 27) (by omega), unp h (c := 0) (by omega), unp h (c := 26) (by omega), unp h (c := 16) (by omega), unp h (c := 33) (by omega), unp h (c := 31) (by omega), unp h (c := 36) (by omega), unp h (c := 32) (by omega)]
theorem vtX_p (h : KPq o β τ) (ho : 86 ≤ o) : vtX τ o = vtX β o := by
  funext n
  unfold vtX
  have e : tQ τ = tQ β := by funext f A i n t; unfold tQ; rw [unp h (c := 20) (by omega), unp h (c := 21) (by omega), unp h (c := 19) (by omega)]
  rw [e, unp h (c := 18) (by omega), unp h (c := o + 8) (by omega), unp h (c := o + 2) (by omega), unp h (c := o + 9) (by omega), unp h (c := o + 10) (by omega)]
theorem fitX_p (h : KPq o β τ) (ho : 86 ≤ o ∧ o ≤ 160) (n : Int) (hA : β.I 16 (β.I (o + 8) n) = 0 → 675 ≤ anC β (β.I 17 (β.I (o + 8) n))) (t : Int) : fitX τ o n t ↔ fitX β o n t := by
  have e : ptX τ o n = ptX β o n := by
    funext k
    unfold ptX
    rw [anC_p h, unp h (c := 16) (by omega), unp h (c := o + 8) (by omega), unp h (c := 17) (by omega), unp h (c := o + 2) (by omega), unp h (c := o + 9) (by omega)]
    by_cases z : β.I 16 (β.I (o + 8) n) = 0
    · rw [unp h (c := anC β (β.I 17 (β.I (o + 8) n))) (by have := hA z; omega)]
    · rw [if_neg (fun y => z y.1), if_neg (fun y => z y.1)]
  unfold fitX
  rw [e, unp h (c := o + 3) (by omega), unp h (c := o + 10) (by omega), unp h (c := o + 9) (by omega), unp h (c := o + 11) (by omega), unp h (c := 19) (by omega), unp h (c := 21) (by omega)]
theorem otQ_p (h : KPq o β τ) (ho : 86 ≤ o ∧ o ≤ 160) (n : Int) (hA : 11 ≤ β.I (o + 3) n → β.I 16 (β.I (o + 8) n) = 0 → 675 ≤ anC β (β.I 17 (β.I (o + 8) n))) (hk : 8 ≤ β.I (o + 3) n) (K V k : Int) : otQ τ o n K V k ↔ otQ β o n K V k := by
  unfold otQ
  rw [unp h (c := o + 3) (by omega)]
  refine or_congr (and_congr_right (fun _ => ?_)) (or_congr (and_congr_right (fun _ => ?_)) (and_congr_right (fun z => ?_)))
  · unfold oqV
    rw [vtX_p h ho.1, mkQ_p h ho.1, unp h (c := o + 10) (by omega), unp h (c := o + 9) (by omega)]
  · have e : lvX τ o n = lvX β o n := by funext v; unfold lvX; rw [unp h (c := 26) (by omega), unp h (c := 30) (by omega), unp h (c := o + 8) (by omega), unp h (c := o + 3) (by omega), unp h (c := o + 12) (by omega), unp h (c := o + 13) (by omega), unp h (c := o + 14) (by omega)]
    unfold oqR
    rw [e, unp h (c := o + 15) (by omega), unp h (c := o + 16) (by omega), unp h (c := 42) (by omega), unp h (c := 43) (by omega)]
  · unfold oqW
    rw [mkQ_p h ho.1, unp h (c := 20) (by omega), unp h (c := o + 8) (by omega), unp h (c := 18) (by omega)]
    constructor
    · rintro ⟨s, a, b, c1, c2, c3⟩; exact ⟨s, a, b, c1, (fitX_p h ho n (fun w => hA (by omega) w) s).mp c2, c3⟩
    · rintro ⟨s, a, b, c1, c2, c3⟩; exact ⟨s, a, b, c1, (fitX_p h ho n (fun w => hA (by omega) w) s).mpr c2, c3⟩
end PRS
/-- a leaf -/
def lfN (σ : Sto) (o : Nat) (x : Int) : Prop := 7 ≤ σ.I (o + 3) x
noncomputable def rwN (σ : Sto) (o : Nat) (x : Int) : Int := cn (lfN σ o) x
noncomputable def txN (σ : Sto) (o : Nat) (lx : Int → TL) (x : Int) : Int := smP (fun x => σ.I (o + 3) x = 7) (fun x => (lx x).1) x
noncomputable def shF (σ : Sto) (o : Nat) (f : Int) : Int := zb (¬ bt32 (σ.I (o + 15) 1) f)
noncomputable def fvX (β : Sto) (o : Nat) (lx : Int → TL) (K V y k : Int) : Int := if shF β o (β.I (o + 8) y) = 1 then (if β.I (o + 3) y = 7 then foX β o (β.I (o + 8) y) (lx y) (β.I (o + 11) y) V k else zb (otQ β o y K V k)) else 0
noncomputable def svX (β : Sto) (o : Nat) (lx : Int → TL) (K V y : Int) : Int := if shF β o (β.I (o + 8) y) = 1 then (if β.I (o + 3) y = 7 then smX β o (β.I (o + 8) y) K V (lx y) (nL (lx y)) else if β.I (o + 3) y = 8 ∧ 0 ≤ vtX β o y ∧ β.I (o + 10) y ≠ β.I (o + 9) y then lgR (2 * β.I (o + 17) (β.I (o + 8) y) + 2) (2 * owX β (o + 15) (vtX β o y) K V + 1) else 0) else 0
def PRL (β τ : Sto) (o : Nat) (lx : Int → TL) (K V y : Int) : Prop := τ.I (o + 21) y = rwN β o y ∧ (∀ k, 0 ≤ k → k < β.I (o + 15) 7 → τ.I (o + 23) (601 * rwN β o y + k) = fvX β o lx K V y k) ∧ τ.I (o + 22) y = svX β o lx K V y ∧ (β.I (o + 3) y = 7 → ∃ pc tc, (0 ≤ pc ∧ pc + nL (lx y) ≤ τ.I o 12 ∧ 0 ≤ tc ∧ tc + kT (tmX β (β.I (o + 8) y) (lx y)) (mL (lx y)) ≤ τ.I o 13) ∧ TXG τ o y (tmX β (β.I (o + 8) y) (lx y)) (lx y) pc tc)
theorem PRL_fr {β τ υ : Sto} {o : Nat} {lx : Int → TL} {K V y r : Int} (h : PRL β τ o lx K V y) (hl : β.I (o + 3) y = 7 → 0 ≤ (lx y).1) (hr : rwN β o y < r) (hE : β.I (o + 15) 7 ≤ 601) (e21 : υ.I (o + 21) y = τ.I (o + 21) y) (e22 : υ.I (o + 22) y = τ.I (o + 22) y) (e23 : ∀ i, i < 601 * r → υ.I (o + 23) i = τ.I (o + 23) i) (e24 : υ.I (o + 24) y = τ.I (o + 24) y) (e25 : υ.I (o + 25) y = τ.I (o + 25) y) (e26 : ∀ i, i < τ.I o 12 → υ.I (o + 26) i = τ.I (o + 26) i) (e27 : ∀ i, i ≤ τ.I o 12 → υ.I (o + 27) i = τ.I (o + 27) i) (e28 : ∀ i, i < τ.I o 13 → υ.I (o + 28) i = τ.I (o + 28) i) (m12 : τ.I o 12 ≤ υ.I o 12) (m13 : τ.I o 13 ≤ υ.I o 13) : PRL β υ o lx K V y := by
  obtain ⟨a, b, c, d⟩ := h
  refine ⟨by rw [e21]; exact a, fun k k0 k1 => by rw [e23 _ (by omega)]; exact b k k0 k1, by rw [e22]; exact c, fun z => ?_⟩
  obtain ⟨pc, tc, ⟨p0, p1, t0, t1⟩, ⟨g1, g2⟩, g3, g4, g5⟩ := d z
  refine ⟨pc, tc, ⟨p0, by omega, t0, by omega⟩, ⟨by rw [e24]; exact g1, by rw [e25]; exact g2⟩, fun q x y => by rw [e26 _ (by omega)]; exact g3 q x y, fun q x y => by rw [e27 _ (by omega)]; exact g4 q x y, fun i u1 u2 w => ?_⟩
  have m := kT_mo (T := tmX β (β.I (o + 8) y) (lx y)) (a := i + 1) (b := mL (lx y)) (by omega) (by omega)
  have s := kT_s (T := tmX β (β.I (o + 8) y) (lx y)) u1
  rw [zb_t w] at s
  rw [e28 _ (by omega)]; exact g5 i u1 u2 w
theorem PRL_e {β τ υ : Sto} {o : Nat} {lx : Int → TL} {K V y : Int} (h : PRL β τ o lx K V y) (e : ∀ c i, (c = o ∧ (i = 12 ∨ i = 13)) ∨ (o + 21 ≤ c ∧ c ≤ o + 28) → υ.I c i = τ.I c i) : PRL β υ o lx K V y := by
  obtain ⟨a, b, c, d⟩ := h
  refine ⟨by rw [e _ _ (by omega)]; exact a, fun k k0 k1 => by rw [e _ _ (by omega)]; exact b k k0 k1, by rw [e _ _ (by omega)]; exact c, fun z => ?_⟩
  obtain ⟨pc, tc, ⟨p0, p1, t0, t1⟩, ⟨g1, g2⟩, g3, g4, g5⟩ := d z
  refine ⟨pc, tc, ⟨p0, by rw [e _ _ (by omega)]; exact p1, t0, by rw [e _ _ (by omega)]; exact t1⟩, ⟨by rw [e _ _ (by omega)]; exact g1, by rw [e _ _ (by omega)]; exact g2⟩, fun q x y => by rw [e _ _ (by omega)]; exact g3 q x y, fun q x y => by rw [e _ _ (by omega)]; exact g4 q x y, fun i x y w => by rw [e _ _ (by omega)]; exact g5 i x y w⟩
theorem rwN_s {σ : Sto} {o : Nat} {x : Int} (h : 0 ≤ x) : rwN σ o (x + 1) = rwN σ o x + zb (lfN σ o x) := cn_s _ x (x + 1) h rfl
theorem rwN_mo {σ : Sto} {o : Nat} {a b : Int} (h0 : 0 ≤ a) (h : a ≤ b) : rwN σ o a ≤ rwN σ o b := by
  obtain ⟨n, hn⟩ := Int.eq_ofNat_of_zero_le (show 0 ≤ b - a by omega)
  have e : b = a + n := by omega
  subst e
  clear hn h
  induction n with
  | zero => exact Int.le_of_eq (by congr 1; omega)
  | succ n ih =>
    have s := rwN_s (σ := σ) (o := o) (x := a + n) (by omega)
    rw [show a + ((n + 1 : Nat) : Int) = a + n + 1 by omega, s]
    rcases zb_cs (lfN σ o (a + n)) with z | z <;> omega
theorem rwN_in {σ : Sto} {o : Nat} {x : Int} (h : 0 ≤ x) : 0 ≤ rwN σ o x ∧ rwN σ o x ≤ x := by
  have := cn_in (lfN σ o) x
  unfold rwN; omega
theorem rwN_c {σ β : Sto} {o : Nat} (h : KCn (o + 15) σ β) : rwN β o = rwN σ o := by
  funext x
  unfold rwN
  have e : lfN β o = lfN σ o := by funext y; unfold lfN; rw [show β.I (o + 3) = σ.I (o + 3) from funext fun i => h.2 _ i (by unfold wsCn; omega)]
  rw [e]
def PBD (τ : Sto) (o : Nat) : Prop := bd_0_20 τ 12 250 ∧ bd_0_59 τ (o + 21) 200 ∧ bd_0_20000 τ (o + 23) 36060 ∧ bd_m1_15 τ (o + 32) 512 ∧ bd_0_500 τ (o + 26) 1000
def PRI (σ τ : Sto) (o : Nat) (lx : Int → TL) (K V x r : Int) : Prop := ∃ β, (KCn (o + 15) σ β ∧ CNT σ β (o + 15) (σ.I (o + 15) 7)) ∧ Ch (wsPr o) β τ ∧ (τ.I o 6 = r ∧ (0 ≤ τ.I o 12 ∧ τ.I o 12 ≤ 16 * rwN σ o x) ∧ (0 ≤ τ.I o 13 ∧ τ.I o 13 ≤ txN σ o lx x)) ∧ τ.I (o + 27) (τ.I o 12) = τ.I o 13 ∧ (∀ y, 0 ≤ y → y < x → lfN σ o y → PRL β τ o lx K V y) ∧ (∀ i, 0 ≤ i → i < 601 * σ.I (o + 1) 2 → τ.I (o + 29) i = -2) ∧ PBD τ o
section PRIS
variable {σ τ υ : Sto} {o : Nat} {lx : Int → TL} {K V x r r' : Int}
theorem PRI_m (h : PRI σ τ o lx K V x r) (h0 : 0 ≤ x) (hE : σ.I (o + 15) 7 ≤ 601) (hl : ∀ y, 0 ≤ y → y < x → σ.I (o + 3) y = 7 → 0 ≤ (lx y).1) (k : Ch (wsPr o) τ υ) (e6 : υ.I o 6 = r') (e12 : υ.I o 12 = τ.I o 12) (e13 : υ.I o 13 = τ.I o 13) (ey : ∀ c y, y < x → (o + 21 ≤ c ∧ c ≤ o + 25) → c ≠ o + 23 → υ.I c y = τ.I c y) (e23 : ∀ i, i < 601 * rwN σ o x → υ.I (o + 23) i = τ.I (o + 23) i) (e26 : ∀ c i, o + 26 ≤ c → c ≤ o + 29 → υ.I c i = τ.I c i) (hb : PBD υ o) : PRI σ υ o lx K V x r' := by
  obtain ⟨β, hβ, hc, hn, h27, hP, hk, _⟩ := h
  have rc := rwN_c hβ.1
  have k3 : β.I (o + 3) = σ.I (o + 3) := funext fun i => hβ.1.2 _ i (by unfold wsCn; omega)
  have k15 : β.I (o + 15) = σ.I (o + 15) := funext fun i => hβ.1.2 _ i (by unfold wsCn; omega)
  refine ⟨β, hβ, Ch.tr hc k, ⟨e6, by rw [e12]; exact hn.2.1, by rw [e13]; exact hn.2.2⟩, by rw [e12, e13, e26 _ _ (by omega) (by omega)]; exact h27, fun y y0 y1 yl => ?_, fun i a b => by rw [e26 _ _ (by omega) (by omega)]; exact hk i a b, hb⟩
  have s := rwN_s (σ := σ) (o := o) y0
  rw [zb_t yl] at s
  have m := rwN_mo (σ := σ) (o := o) (a := y + 1) (b := x) (by omega) (by omega)
  exact PRL_fr (r := rwN σ o x) (hP y y0 y1 yl) (fun z => hl y y0 y1 (by rw [← k3]; exact z)) (by rw [rc]; omega) (by rw [k15]; exact hE) (ey _ y y1 (by omega) (by omega)) (ey _ y y1 (by omega) (by omega)) e23 (ey _ y y1 (by omega) (by omega)) (ey _ y y1 (by omega) (by omega)) (fun i _ => e26 _ i (by omega) (by omega)) (fun i _ => e26 _ i (by omega) (by omega)) (fun i _ => e26 _ i (by omega) (by omega)) (by omega) (by omega)
theorem PRI_n (h : PRI σ τ o lx K V x r) (h0 : 0 ≤ x) (hn : ¬ lfN σ o x) : PRI σ τ o lx K V (x + 1) r := by
  obtain ⟨β, hβ, hc, hn', h27, hP, hk, hb⟩ := h
  have s := rwN_s (σ := σ) (o := o) h0
  rw [zb_f hn] at s
  have s2 : txN σ o lx (x + 1) = txN σ o lx x := smP_f _ _ _ _ h0 rfl (fun z => hn (by unfold lfN; rw [z]; decide))
  refine ⟨β, hβ, hc, by rw [s, s2, Int.add_zero]; exact hn', h27, fun y y0 y1 yl => ?_, hk, hb⟩
  rcases (show y < x ∨ y = x by omega) with z | z
  · exact hP y y0 z yl
  · rw [z] at yl; contradiction
theorem PRI_e (h : PRI σ τ o lx K V x r) (h0 : 0 ≤ x) (hE : σ.I (o + 15) 7 ≤ 601) (hl : ∀ y, 0 ≤ y → y < x → σ.I (o + 3) y = 7 → 0 ≤ (lx y).1) (hx : lfN σ o x) (k : Ch (wsPr o) τ υ) (e6 : υ.I o 6 = r) (b12 : τ.I o 12 ≤ υ.I o 12 ∧ υ.I o 12 ≤ τ.I o 12 + 16) (b13 : τ.I o 13 ≤ υ.I o 13 ∧ υ.I o 13 ≤ txN σ o lx (x + 1)) (h27 : υ.I (o + 27) (υ.I o 12) = υ.I o 13) (ey : ∀ c y, y < x → (o + 21 ≤ c ∧ c ≤ o + 25) → c ≠ o + 23 → υ.I c y = τ.I c y) (e23 : ∀ i, i < 601 * rwN σ o x → υ.I (o + 23) i = τ.I (o + 23) i) (e26 : ∀ i, i < τ.I o 12 → υ.I (o + 26) i = τ.I (o + 26) i) (e27 : ∀ i, i ≤ τ.I o 12 → υ.I (o + 27) i = τ.I (o + 27) i) (e28 : ∀ i, i < τ.I o 13 → υ.I (o + 28) i = τ.I (o + 28) i) (e29 : ∀ i, υ.I (o + 29) i = τ.I (o + 29) i) (hb : PBD υ o)
    (hN : ∀ β, KCn (o + 15) σ β → CNT σ β (o + 15) (σ.I (o + 15) 7) → Ch (wsPr o) β τ → PRL β υ o lx K V x) : PRI σ υ o lx K V (x + 1) r := by
  obtain ⟨β, hβ, hc, hn, h27', hP, hk, _⟩ := h
  have rc := rwN_c hβ.1
  have k3 : β.I (o + 3) = σ.I (o + 3) := funext fun i => hβ.1.2 _ i (by unfold wsCn; omega)
  have k15 : β.I (o + 15) = σ.I (o + 15) := funext fun i => hβ.1.2 _ i (by unfold wsCn; omega)
  have s := rwN_s (σ := σ) (o := o) h0
  rw [zb_t hx] at s
  refine ⟨β, hβ, Ch.tr hc k, ⟨e6, by omega, by omega⟩, h27, fun y y0 y1 yl => ?_, fun i a b => by rw [e29]; exact hk i a b, hb⟩
  rcases (show y < x ∨ y = x by omega) with z | z
  · have s := rwN_s (σ := σ) (o := o) y0
    rw [zb_t yl] at s
    have m := rwN_mo (σ := σ) (o := o) (a := y + 1) (b := x) (by omega) (by omega)
    exact PRL_fr (r := rwN σ o x) (hP y y0 z yl) (fun w => hl y y0 z (by rw [← k3]; exact w)) (by rw [rc]; omega) (by rw [k15]; exact hE) (ey _ y z (by omega) (by omega)) (ey _ y z (by omega) (by omega)) e23 (ey _ y z (by omega) (by omega)) (ey _ y z (by omega) (by omega)) e26 e27 e28 b12.1 b13.1
  · rw [z]; exact hN β hβ.1 hβ.2 hc
end PRIS
theorem foX_in {σ : Sto} {o : Nat} {f : Int} {l : TL} {sl V k : Int} (hV : 0 ≤ V) (hc : VOC σ V) (hD : 0 ≤ σ.I 0 20 - σ.I 0 31) : 0 ≤ foX σ o f l sl V k ∧ foX σ o f l sl V k ≤ 12000 := by
  have c2 := hc.2
  have a := smP_bd (p := fun j => σ.I 26 (σ.I 0 31 + j) = f) (g := fun j => mtV σ f l sl (σ.I 0 31 + j)) (b := 500) hD (fun j => mtV_in σ f l sl _) (by omega)
  obtain ⟨u, rfl⟩ := Int.eq_ofNat_of_zero_le hV
  have b := smP_cn (p := fun v => σ.I 27 v = k) (q := fun v => σ.I 27 v = k) (g := mtV σ f l sl) (b := 500) (fun v z => z) (fun v => mtV_in σ f l sl v) u
  have c := hc.1 k
  unfold foX
  split
  · split <;> omega
  · split <;> omega
theorem foX_out {σ : Sto} {o : Nat} {f : Int} {l : TL} {sl V k E : Int} (hV : 0 ≤ V) (h1 : ∀ v, 0 ≤ v → v < V → σ.I 27 v < E) (h2 : σ.I (o + 15) 8 ≠ 0 → σ.I 0 39 < E) (hk : E ≤ k) : foX σ o f l sl V k = 0 := by
  unfold foX
  split
  · split
    · exact smP_z hV (fun v a b c => by have := h1 v a b; omega)
    · rfl
  · rename_i w
    rw [if_neg (fun z => by have := h2 w; omega)]
end
section
/-! contracts: printed by tools/mk.py out of s98w_prepC.py -/
set_option maxRecDepth 100000
set_option maxHeartbeats 1200000
/-- what is asked of a leaf's row -/
def NDq (σ : Sto) (o : Nat) (lx : Int → TL) (x : Int) : Prop := σ.I (o + 3) x ≤ 12 ∧ (0 ≤ σ.I (o + 8) x ∧ σ.I (o + 8) x < σ.I 0 9) ∧ (0 ≤ σ.I (o + 11) x ∧ σ.I (o + 11) x ≤ 9) ∧ (σ.I (o + 3) x = 7 → (0 ≤ σ.I 17 (σ.I (o + 8) x) ∧ σ.I 17 (σ.I (o + 8) x) < σ.I 0 4) ∧ (0 ≤ σ.I (o + 9) x ∧ σ.I (o + 9) x ≤ σ.I (o + 10) x ∧ σ.I (o + 10) x ≤ 400) ∧ ¬ σ.I 16 (σ.I (o + 8) x) = 1 ∧ lx x = tk (anS σ (anC σ (σ.I 17 (σ.I (o + 8) x)))) 0 (σ.I (o + 2)) (σ.I (o + 9) x) (σ.I (o + 10) x) (σ.I (o + 9) x) 0 tl0) ∧ (σ.I (o + 3) x = 8 → 0 ≤ σ.I (o + 9) x ∧ σ.I (o + 9) x ≤ σ.I (o + 10) x ∧ σ.I (o + 10) x ≤ 400) ∧ (11 ≤ σ.I (o + 3) x → TNX σ o x) ∧ (σ.I (o + 3) x = 10 → ((-1000000000 ≤ σ.I (o + 12) x ∧ σ.I (o + 12) x ≤ 1000000000) ∧ (-1000000000 ≤ σ.I (o + 13) x ∧ σ.I (o + 13) x ≤ 1000000000) ∧ (0 ≤ σ.I (o + 14) x ∧ σ.I (o + 14) x ≤ 1000000000)) ∧ PTX σ (σ.I (o + 8) x))
theorem TNX_p {o : Nat} {β τ : Sto} {x : Int} (h : KPq o β τ) (ho : 86 ≤ o) (g : TNX β o x) : TNX τ o x := by
  unfold TNX at *
  rw [unp h (c := o + 8) (by omega), unp h (c := 0) (by omega), unp h (c := o + 9) (by omega), unp h (c := o + 10) (by omega), unp h (c := o + 11) (by omega), unp h (c := 16) (by omega), unp h (c := 17) (by omega)]
  exact g
theorem PTX_p {o : Nat} {β τ : Sto} {f : Int} (h : KPq o β τ) (ho : 86 ≤ o) (g : PTX β f) : PTX τ f := by
  unfold PTX at *
  rw [unp h (c := 26) (by omega), unp h (c := 30) (by omega), unp h (c := 0) (by omega)]
  exact g
theorem WOX_p {o : Nat} {β τ : Sto} (h : KPq o β τ) (ho : 86 ≤ o) (g : WOX β (o + 15)) : WOX τ (o + 15) := by
  unfold WOX at *
  rw [unp h (c := 42) (by omega), unp h (c := 43) (by omega), unp h (c := 0) (by omega), unp h (c := o + 15) (by omega), unp h (c := o + 15 + 1) (by omega)]
  exact g
theorem VFX_0 {σ : Sto} {o : Nat} (h : VFX σ o) : VFX σ o := h
theorem lx_p {o : Nat} {σ τ : Sto} {lx : Int → TL} {x : Int} (h : KPq o σ τ) (ho : 86 ≤ o ∧ o ≤ 160) (a : AN σ) (k0 : 0 ≤ σ.I 17 (σ.I (o + 8) x)) (k1 : σ.I 17 (σ.I (o + 8) x) < σ.I 0 4) (e : lx x = tk (anS σ (anC σ (σ.I 17 (σ.I (o + 8) x)))) 0 (σ.I (o + 2)) (σ.I (o + 9) x) (σ.I (o + 10) x) (σ.I (o + 9) x) 0 tl0) : lx x = tk (anS τ (anC τ (τ.I 17 (τ.I (o + 8) x)))) 0 (τ.I (o + 2)) (τ.I (o + 9) x) (τ.I (o + 10) x) (τ.I (o + 9) x) 0 tl0 := by
  have q := AN_g a k0 k1
  rw [unp h (c := 17) (by omega), unp h (c := o + 8) (by omega), anC_p h, unp h (c := o + 2) (by omega), unp h (c := o + 9) (by omega), unp h (c := o + 10) (by omega), anS_e (fun c x y => unp h (by omega)) (Prod.ext h.1.1 (Prod.ext h.1.2.1 h.1.2.2))]
  exact e
/-- a text leaf is prepared -/
theorem PRL_tx {σ β τ υ : Sto} {o : Nat} {lx : Int → TL} {K V x b c : Int} {a : Int} (hC : KCn (o + 15) σ β) (hβ : Ch (wsPr o) β τ) (ho : 86 ≤ o) (hk : σ.I (o + 3) x = 7) (hK : TKI (lx x) a b c) (r21 : τ.I (o + 21) x = rwN σ o x) (hz : ∀ k, 0 ≤ k → k < σ.I (o + 15) 7 → τ.I (o + 23) (601 * rwN σ o x + k) = 0) (hE : σ.I (o + 15) 7 ≤ 601) (z22 : τ.I (o + 22) x = 0) (r24 : τ.I (o + 24) x = τ.I o 12) (p12 : 0 ≤ τ.I o 12) (p13 : 0 ≤ τ.I o 13) (hV : 0 ≤ V) (hD : 0 ≤ σ.I 0 20 - σ.I 0 31)
    {y : Int} (hy : y = 1 ↔ ¬ bt32 (σ.I (o + 15) 1) (σ.I (o + 8) x)) (hE0 : TXE τ υ o x (tmX τ (τ.I (o + 8) x) (lx x)) (lx x)) (kk : KTe o x (τ.I (o + 21) x) (τ.I o 12) (τ.I o 13) τ υ)
    (h2 : (y = 0 ∨ nL (lx x) = 0) ∧ (∀ c i, c = o + 22 ∨ c = o + 23 → υ.I c i = τ.I c i) ∨ (y ≠ 0 ∧ 1 ≤ nL (lx x)) ∧ υ.I (o + 22) x = τ.I (o + 22) x + smX τ o (τ.I (o + 8) x) K V (lx x) (nL (lx x)) ∧ FDT τ υ o x V (τ.I o 13 + kT (tmX τ (τ.I (o + 8) x) (lx x)) (fqP (lx x).2.2.2.2.2 (mL (lx x)) 1))) (hy01 : y = 0 ∨ y = 1) : PRL β υ o lx K V x := by
  have kq : KPq o β τ := Ch.mono hβ (fun c i q => Or.inl q)
  have ks : ∀ d, d ≠ o + 17 → d ≠ o + 18 → β.I d = σ.I d := fun d p q => funext fun i => hC.2 _ i (by unfold wsCn; omega)
  have t8 : τ.I (o + 8) = β.I (o + 8) := unp kq (by omega)
  have k3 : β.I (o + 3) x = 7 := by rw [ks _ (by omega) (by omega)]; exact hk
  have hl := hK.1.1
  have hu := KTe_unc kk
  have hm := mL_in hl
  have hn := nL_in hl
  have r21' : υ.I (o + 21) x = τ.I (o + 21) x := kk.2 _ _ (by unfold wsTe; omega)
  have r24' : υ.I (o + 24) x = τ.I o 12 := (kk.2 _ _ (by unfold wsTe; omega)).trans r24
  have sh : shF β o (β.I (o + 8) x) = y := by
    unfold shF
    rw [ks (o + 15) (by omega) (by omega), ks (o + 8) (by omega) (by omega)]
    rcases hy01 with z | z
    · rw [z]; exact zb_f (fun w => by have := hy.mpr w; omega)
    · rw [z]; exact zb_t (hy.mp z)
  have hfo := fun k => congrFun (congrFun (congrFun (congrFun (congrFun (foX_p kq ho) (β.I (o + 8) x)) (lx x)) (β.I (o + 11) x)) V) k
  have t11 : τ.I (o + 11) = β.I (o + 11) := unp kq (by omega)
  have h17 : τ.I (o + 17) = β.I (o + 17) := funext fun i => hβ.2 _ i (by unfold wsPr; omega)
  have hD' : 0 ≤ τ.I 0 20 - τ.I 0 31 := by
    rw [unp kq (c := 0) (by omega), ks 0 (by omega) (by omega)]; exact hD
  unfold PRL
  rw [rwN_c hC]
  refine ⟨r21'.trans r21, fun k k0 k1 => ?_, ?_, fun _ => ⟨τ.I o 12, τ.I o 13, ⟨p12, ?_, p13, ?_⟩, ?_⟩⟩
  · rw [ks (o + 15) (by omega) (by omega)] at k1
    unfold fvX
    rw [sh, if_pos k3]
    rcases h2 with ⟨h3, h4⟩ | ⟨⟨h3, h4⟩, h5, h6⟩
    · rw [h4 _ _ (Or.inr rfl), hz k k0 k1]
      split
      · rename_i w
        rw [← hfo k]
        exact (foX_0 (by rcases h3 with z | z; (omega); (exact nL_pos (by omega))) hV hD').symm
      · rfl
    · have g := h6 k k0 (by omega)
      rw [r21] at g
      rw [g, hz k k0 k1, Int.zero_add, if_pos (show y = 1 by omega), show τ.I o 13 + kT (tmX τ (τ.I (o + 8) x) (lx x)) (fqP (lx x).2.2.2.2.2 (mL (lx x)) 1) - τ.I o 13 = kT (tmX τ (τ.I (o + 8) x) (lx x)) (fqP (lx x).2.2.2.2.2 (mL (lx x)) 1) by omega, FDT_fo hE0 hK r24' h4 hV hD' hu (by omega) rfl p13, ← hfo k, t8, t11]
  · unfold svX
    rw [sh, if_pos k3]
    rcases h2 with ⟨h3, h4⟩ | ⟨⟨h3, h4⟩, h5, h6⟩
    · rw [h4 _ _ (Or.inl rfl), z22]
      split
      · have n0 : nL (lx x) = 0 := by rcases h3 with z | z; (omega); (exact z)
        rw [n0]; exact (smP_0 _ _ _ (Int.le_refl _)).symm
      · rfl
    · rw [h5, z22, Int.zero_add, if_pos (show y = 1 by omega), smX_p kq ho h17, t8]
  · have w := hE0.1.2.1
    have e : nL (lx x) = nPl (lx x).2.2.2.2.2 (mL (lx x)) := rfl
    omega
  · have w := hE0.1.1
    rw [tmX_p kq ho, t8] at w
    omega
  · have w := TXE_G hE0 hl r24'
    rw [tmX_p kq ho, t8] at w
    exact w
/-- another leaf is prepared -/
theorem PRL_ot {σ β τ υ : Sto} {o : Nat} {lx : Int → TL} {K V x : Int} (hC : KCn (o + 15) σ β) (hβ : Ch (wsPr o) β τ) (ho : 86 ≤ o ∧ o ≤ 160) (hk : 8 ≤ σ.I (o + 3) x) (hA : 11 ≤ σ.I (o + 3) x → σ.I 16 (σ.I (o + 8) x) = 0 → 675 ≤ anC σ (σ.I 17 (σ.I (o + 8) x))) (r21 : τ.I (o + 21) x = rwN σ o x) (hz : ∀ k, 0 ≤ k → k < σ.I (o + 15) 7 → τ.I (o + 23) (601 * rwN σ o x + k) = 0) (hE : σ.I (o + 15) 7 ≤ 601) (z22 : τ.I (o + 22) x = 0)
    (hy : ¬ bt32 (σ.I (o + 15) 1) (σ.I (o + 8) x)) (h1 : MKD τ υ o x (otQ τ o x K V)) (h2 : υ.I (o + 22) x = otS τ o x K V) (k21 : υ.I (o + 21) x = τ.I (o + 21) x) : PRL β υ o lx K V x := by
  have kq : KPq o β τ := Ch.mono hβ (fun c i q => Or.inl q)
  have ks : ∀ d, d ≠ o + 17 → d ≠ o + 18 → β.I d = σ.I d := fun d p q => funext fun i => hC.2 _ i (by unfold wsCn; omega)
  have aC : anC β = anC σ := by funext k; unfold anC; rw [hC.1.1]
  have k3 : β.I (o + 3) x = σ.I (o + 3) x := congrFun (ks _ (by omega) (by omega)) x
  have sh : shF β o (β.I (o + 8) x) = 1 := by
    unfold shF
    rw [ks (o + 15) (by omega) (by omega), ks (o + 8) (by omega) (by omega)]
    exact zb_t hy
  have h17 : τ.I (o + 17) = β.I (o + 17) := funext fun i => hβ.2 _ i (by unfold wsPr; omega)
  unfold PRL
  rw [rwN_c hC]
  refine ⟨k21.trans r21, fun k k0 k1 => ?_, ?_, fun z => by omega⟩
  · rw [ks (o + 15) (by omega) (by omega)] at k1
    have g := h1 k k0 (by omega)
    rw [r21, hz k k0 k1] at g
    unfold fvX
    have n7 : ¬ β.I (o + 3) x = 7 := by omega
    rw [g, sh, if_pos rfl, if_neg n7, zb_iff (otQ_p kq ho x (fun a b => by rw [aC, ks 17 (by omega) (by omega), ks (o + 8) (by omega) (by omega)]; exact hA (by omega) (by rw [ks 16 (by omega) (by omega), ks (o + 8) (by omega) (by omega)] at b; exact b)) (by omega) K V k)]
    rcases zb_cs (otQ β o x K V k) with w | w
    · rw [w.2, if_pos rfl]
    · rw [w.2, if_neg (by decide)]
  · rw [h2]
    have n7 : ¬ β.I (o + 3) x = 7 := by omega
    unfold otS svX
    rw [sh, if_pos rfl, if_neg n7, z22, vtX_p kq ho.1, owX_p kq ho.1, h17, unp kq (c := o + 3) (by omega), unp kq (c := o + 10) (by omega), unp kq (c := o + 9) (by omega), unp kq (c := o + 8) (by omega)]
/-- a leaf of a field that is not seen -/
theorem PRL_no {σ β τ : Sto} {o : Nat} {lx : Int → TL} {K V x : Int} (hC : KCn (o + 15) σ β) (hβ : Ch (wsPr o) β τ) (hk : 8 ≤ σ.I (o + 3) x) (r21 : τ.I (o + 21) x = rwN σ o x) (hz : ∀ k, 0 ≤ k → k < σ.I (o + 15) 7 → τ.I (o + 23) (601 * rwN σ o x + k) = 0) (z22 : τ.I (o + 22) x = 0) (hy : bt32 (σ.I (o + 15) 1) (σ.I (o + 8) x)) : PRL β τ o lx K V x := by
  have ks : ∀ d, d ≠ o + 17 → d ≠ o + 18 → β.I d = σ.I d := fun d p q => funext fun i => hC.2 _ i (by unfold wsCn; omega)
  have k3 : β.I (o + 3) x = σ.I (o + 3) x := congrFun (ks _ (by omega) (by omega)) x
  have sh : shF β o (β.I (o + 8) x) = 0 := by
    unfold shF
    rw [ks (o + 15) (by omega) (by omega), ks (o + 8) (by omega) (by omega)]
    exact zb_f (fun w => w hy)
  unfold PRL
  rw [rwN_c hC]
  refine ⟨r21, fun k k0 k1 => ?_, ?_, fun z => by omega⟩
  · rw [ks (o + 15) (by omega) (by omega)] at k1
    unfold fvX; rw [sh, if_neg (by decide)]; exact hz k k0 k1
  · unfold svX; rw [sh, if_neg (by decide)]; exact z22
end
section
/-! contracts: printed by tools/mk.py out of s98x_prepS.py -/
set_option maxRecDepth 100000
set_option maxHeartbeats 1200000
theorem PBD_e {σ τ : Sto} {o : Nat} (h : PBD σ o) (e : ∀ c i, c = 12 ∨ c = o + 21 ∨ c = o + 23 ∨ c = o + 32 ∨ c = o + 26 → τ.I c i = σ.I c i) : PBD τ o := by
  obtain ⟨a, b, c, d, f⟩ := h
  exact ⟨bd_0_20_eq a (funext fun i => e _ i (by omega)), bd_0_59_eq b (funext fun i => e _ i (by omega)), bd_0_20000_eq c (funext fun i => e _ i (by omega)), bd_m1_15_eq d (funext fun i => e _ i (by omega)), bd_0_500_eq f (funext fun i => e _ i (by omega))⟩
def PR0 (σ τ : Sto) (o : Nat) (x : Int) : Prop := ∃ β, (KCn (o + 15) σ β ∧ CNT σ β (o + 15) (σ.I (o + 15) 7)) ∧ Ch (wsPr o) β τ ∧ (τ.I o 6 = 0 ∧ τ.I o 12 = 0 ∧ τ.I o 13 = 0 ∧ τ.I (o + 27) 0 = 0) ∧ (∀ i, 0 ≤ i → i < x → τ.I (o + 29) i = -2) ∧ PBD τ o
theorem PR0_s {σ τ υ : Sto} {o : Nat} {x : Int} (h : PR0 σ τ o x) (e : υ = τ.wI (o + 29) x (-2)) : PR0 σ υ o (x + 1) := by
  obtain ⟨β, hβ, hc, ⟨a, b, c, d⟩, f, g⟩ := h
  have k : ∀ c i, c ≠ o + 29 → υ.I c i = τ.I c i := fun c i q => by rw [e]; exact I_ne _ _ _ _ q
  refine ⟨β, hβ, Ch.tr hc (by rw [e]; exact Ch.wI Ch.rf (by unfold wsPr; omega)), ⟨by rw [k _ _ (by omega)]; exact a, by rw [k _ _ (by omega)]; exact b, by rw [k _ _ (by omega)]; exact c, by rw [k _ _ (by omega)]; exact d⟩, fun i p q => ?_, PBD_e g (fun c i q => k c i (by omega))⟩
  rcases (show i = x ∨ i ≠ x by omega) with z | z
  · rw [z, e, I_same]
  · rw [e, I_nj _ _ _ _ z]; exact f i p (by omega)
theorem PR0_I {σ τ : Sto} {o : Nat} {x : Int} {lx : Int → TL} {K V : Int} (h : PR0 σ τ o x) (hx : 601 * σ.I (o + 1) 2 ≤ x) : PRI σ τ o lx K V 0 (rwN σ o 0) := by
  obtain ⟨β, hβ, hc, ⟨a, b, c, d⟩, f, g⟩ := h
  have r0 : rwN σ o 0 = 0 := cn_0 _ _ (Int.le_refl _)
  have t0 : txN σ o lx 0 = 0 := smP_0 _ _ _ (Int.le_refl _)
  exact ⟨β, hβ, hc, ⟨by omega, by omega, by omega⟩, by rw [b, c]; exact d, fun y y0 y1 => by omega, fun i p q => f i p (by omega), g⟩

theorem PRI_b {σ τ : Sto} {o : Nat} {lx : Int → TL} {K V x r : Int} (h : PRI σ τ o lx K V x r) : PBD τ o := by obtain ⟨β, _, _, _, _, _, _, q⟩ := h; exact q
theorem PRI_v {σ τ : Sto} {o : Nat} {lx : Int → TL} {K V x r : Int} (h : PRI σ τ o lx K V x r) : τ.I o 6 = r ∧ (0 ≤ τ.I o 12 ∧ τ.I o 12 ≤ 16 * rwN σ o x) ∧ (0 ≤ τ.I o 13 ∧ τ.I o 13 ≤ txN σ o lx x) ∧ τ.I (o + 27) (τ.I o 12) = τ.I o 13 := by obtain ⟨β, _, _, q, p, _⟩ := h; exact ⟨q.1, q.2.1, q.2.2, p⟩
theorem PRI_h {σ τ : Sto} {o : Nat} {lx : Int → TL} {K V x r : Int} (h : PRI σ τ o lx K V x r) (ho : 86 ≤ o) {f : Int} (h0 : 0 ≤ f) (h1 : f < σ.I 0 9) : τ.I (o + 17) f = hvX σ (o + 15) f (σ.I (o + 15) 7) := by
  obtain ⟨β, q, c, _⟩ := h
  exact (c.2 (o + 17) f (by unfold wsPr; omega)).trans (q.2 f h0 h1).1

theorem txN_mo {σ : Sto} {o : Nat} {lx : Int → TL} {N : Int} (h : ∀ y, 0 ≤ y → y < N → σ.I (o + 3) y = 7 → 0 ≤ (lx y).1) : ∀ (n : Nat) (a : Int), 0 ≤ a → a + n ≤ N → txN σ o lx a ≤ txN σ o lx (a + n) := by
  intro n
  induction n with
  | zero => intro a _ _; exact Int.le_of_eq (by congr 1; omega)
  | succ n ih =>
    intro a h0 h1
    have i2 := ih a h0 (by omega)
    unfold txN at *
    by_cases z : σ.I (o + 3) (a + n) = 7
    · rw [smP_t (fun x => σ.I (o + 3) x = 7) (fun x => (lx x).1) (a + n) (a + ((n + 1 : Nat) : Int)) (by omega) (by omega) z]
      have := h (a + n) (by omega) (by omega) z
      omega
    · rw [smP_f (fun x => σ.I (o + 3) x = 7) (fun x => (lx x).1) (a + n) (a + ((n + 1 : Nat) : Int)) (by omega) (by omega) z]
      exact i2

theorem sp_X5_prepare {E : XE} {d : Nat} {σ : Sto} {lx : Int → TL} {K : Int} {V : Int} {o0 : Nat} (hd : 526 ≤ d) (hL : Lay σ) (ho0 : At5 σ o0) (p0 : o0 = 87 ∨ o0 = 121 ∨ o0 = 155) (p1 : 0 ≤ (σ.I (o0 + 1) 2) ∧ (σ.I (o0 + 1) 2) ≤ 119) (p2 : rwN σ o0 (σ.I (o0 + 1) 2) ≤ 60) (p3 : txN σ o0 lx (σ.I (o0 + 1) 2) ≤ 5000) (p4 : ∀ x, 0 ≤ x → x < (σ.I (o0 + 1) 2) → lfN σ o0 x → NDq σ o0 lx x) (p5 : 0 ≤ σ.I 0 9 ∧ σ.I 0 9 ≤ 12) (p6 : 0 ≤ σ.I (o0 + 15) 6 ∧ σ.I (o0 + 15) 6 ≤ (σ.I (o0 + 15) 7) ∧ (σ.I (o0 + 15) 7) ≤ 601) (p7 : OB σ 42 43) (p8 : bd_0_250 σ 32 6000) (p9 : VFX σ (o0 + 15)) (p10 : TC σ) (p11 : 0 ≤ σ.I 18 7 ∧ σ.I 18 7 < 36500) (p12 : ∀ s, 0 ≤ s → s < σ.I 18 7 → 0 ≤ σ.I 20 s ∧ σ.I 20 s < σ.I 0 9) (p13 : PT σ K) (p14 : PW σ V) (p15 : OBV σ K V) (p16 : TVL σ K V) (p17 : DRV σ) (p18 : 0 ≤ σ.I 0 39 ∧ σ.I 0 39 < 601) (p19 : bd_0_20 σ 21 36500) (p20 : AN σ) (p21 : ANX σ) (p22 : σ.I 0 4 ≤ 6) (p23 : bd_0_499 σ 39 24000) (p24 : ∀ v, 0 ≤ v → v < V → 0 ≤ σ.I 31 v ∧ 0 ≤ σ.I 32 v ∧ σ.I 31 v + σ.I 32 v ≤ 24000) (p25 : VOC σ V) (p26 : PBD σ o0) (p27 : ∀ t, 0 ≤ t → t < σ.I 18 7 → 0 ≤ owX σ (o0 + 15) t K V ∧ owX σ (o0 + 15) t K V ≤ hvX σ (o0 + 15) (σ.I 20 t) (σ.I (o0 + 15) 7)) (p28 : ∀ v, 0 ≤ v → v < V → σ.I 27 v < (σ.I (o0 + 15) 7)) (p29 : σ.I (o0 + 15) 8 ≠ 0 → σ.I 0 39 < (σ.I (o0 + 15) 7)) (p30 : owX σ (o0 + 15) (-1) K V = 0) (p31 : WOX σ (o0 + 15)) : CC E mX5_prepare d [aO o0] σ (RV (fun τ => (PRI σ τ o0 lx K V (σ.I (o0 + 1) 2) (rwN σ o0 (σ.I (o0 + 1) 2))) ∧ (KPq o0 σ τ))) := by sorry
end
section
/-! contracts: printed by tools/mk.py out of s98y_val.py -/
set_option maxRecDepth 100000
set_option maxHeartbeats 1200000
/-! what a question of the program is worth: its table is read to the end -/
section VNW
variable {G : Nat → Int → Int} {R : Int → Prop} {W : Int → Prop} {P : Int → Int} {N : Int} {Lf V V' : Int → Int → Int}
/-- a member that is read with fuel g, or none -/
def MBw (G : Nat → Int → Int) (R : Int → Prop) (g : Nat) (m : Int) : Prop := WFX G R g m
theorem vB_w {g : Nat} {x o : Int} (h1 : WFX G R g (G 1 x)) (hf : 4 ≤ G 0 x → G 0 x ≤ 5 → 0 ≤ G 1 x) (hV : ∀ m o, 0 ≤ m → WFX G R g m → V' m o = V m o) : vB G W P N Lf V' x o = vB G W P N Lf V x o := by
  have hs : ∀ m, WFX G R g m → 0 ≤ m → scW (tabS G) V' m o = scW (tabS G) V m o := fun m a b => by unfold scW; rw [hV m o b a]
  have e1 : ∀ o, alV (tabS G) V' o (G 1 x) 0 = alV (tabS G) V o (G 1 x) 0 := fun o => by
    have hs : ∀ m, WFX G R g m → 0 ≤ m → scW (tabS G) V' m o = scW (tabS G) V m o := fun m a b => by unfold scW; rw [hV m o b a]
    unfold alV
    refine rs_cg (I := fun s => WFX G R g s.1) (fun s s' a e => ?_) (fun s a => ?_) h1
    · have q := alS_n e; rw [q.2]; exact WFX_n a q.1
    · unfold alS
      by_cases z : s.1 < 0
      · rw [if_pos z, if_pos z]
      · rw [if_neg z, if_neg z, hV s.1 o (by omega) a, hs s.1 a (by omega)]
  have e2 : ∀ o, smV (tabS G) V' x o (G 1 x) 0 0 0 = smV (tabS G) V x o (G 1 x) 0 0 0 := fun o => by
    have hs : ∀ m, WFX G R g m → 0 ≤ m → scW (tabS G) V' m o = scW (tabS G) V m o := fun m a b => by unfold scW; rw [hV m o b a]
    unfold smV
    refine rs_cg (I := fun s => WFX G R g s.1) (fun s s' a e => ?_) (fun s a => ?_) h1
    · have q := smS_n e; rw [q.2]; exact WFX_n a q.1
    · unfold smS
      by_cases z : s.1 < 0
      · rw [if_pos z, if_pos z]
      · rw [if_neg z, if_neg z, hV s.1 o (by omega) a, hs s.1 a (by omega)]
  unfold vB
  by_cases c0 : zb (W o) = 0
  · rw [if_pos c0, if_pos c0]
  · rw [if_neg c0, if_neg c0]
    by_cases c1 : G 0 x ≤ 3
    · rw [if_pos c1, if_pos c1]
      unfold mbV
      rw [tb0, tb1, e1, e2]
    · rw [if_neg c1, if_neg c1]
      by_cases c4 : G 0 x = 4
      · rw [if_pos c4, if_pos c4]
        have hv : ∀ k, V' (G 1 x) k = V (G 1 x) k := fun k => hV _ k (hf (by omega) (by omega)) h1
        have e3 : (fun k => W k ∧ P k = o ∧ 0 ≤ V' (G 1 x) k) = (fun k => W k ∧ P k = o ∧ 0 ≤ V (G 1 x) k) := by funext k; rw [hv]
        rw [e3]
      · rw [if_neg c4, if_neg c4]
        by_cases c5 : G 0 x = 5
        · rw [if_pos c5, if_pos c5]
          have e4 : scW (tabS G) V' (G 1 x) (P o) = scW (tabS G) V (G 1 x) (P o) := by unfold scW; rw [hV _ (P o) (hf (by omega) (by omega)) h1]
          rw [e4]
        · rw [if_neg c5, if_neg c5]
theorem vN_w (hf : ∀ x, R x → 4 ≤ G 0 x → G 0 x ≤ 5 → 0 ≤ G 1 x) : ∀ (g : Nat) (x : Int), WFX G R g x → 0 ≤ x → ∀ f f' : Nat, g ≤ f → g ≤ f' → ∀ o, vN G W P N Lf f x o = vN G W P N Lf f' x o := by
  intro g
  induction g with
  | zero => intro x h; exact h.elim
  | succ g ih =>
    intro x h h0 f f' a b o
    obtain ⟨f, rfl⟩ : ∃ k, f = k + 1 := ⟨f - 1, by omega⟩
    obtain ⟨f', rfl⟩ : ∃ k, f' = k + 1 := ⟨f' - 1, by omega⟩
    obtain ⟨_, _, hr, h3, _⟩ := WFX_at h h0
    exact vB_w h3 (hf x hr) (fun m o c d => ih m d c f f' (by omega) (by omega) o)
theorem vN_eq (hf : ∀ x, R x → 4 ≤ G 0 x → G 0 x ≤ 5 → 0 ≤ G 1 x) {g : Nat} {x : Int} (h : WFX G R g x) (h0 : 0 ≤ x) (hg : g ≤ 200) (o : Int) : vN G W P N Lf 200 x o = vB G W P N Lf (vN G W P N Lf 200) x o := vN_w hf g x h h0 200 201 hg (by omega) o
theorem mb_in {T : Nat → Int → Int} {I : Int → Prop} {U : Int → Int → Int} {n o : Int} (h1 : I (T 1 n)) (h2 : ∀ m, I m → 0 ≤ m → I (T 2 m) ∧ 1 ≤ T 4 m) : mbV (tabS T) U n o = -1 ∨ (0 ≤ mbV (tabS T) U n o ∧ mbV (tabS T) U n o ≤ 1000000000000000) := by
  have sc : ∀ m, I m → 0 ≤ m → ¬ U m o < 0 → 0 ≤ scW (tabS T) U m o ∧ scW (tabS T) U m o ≤ 1000000000000000 := fun m a b c => by
    have q := prd_in (t := T 4 m) (s := U m o) (h2 m a b).2 (by omega)
    unfold scW; rw [if_neg c, tb4]; exact ⟨q.1, q.2.1⟩
  unfold mbV
  split
  · unfold alV
    refine rs_pi (P := fun r => r = -1 ∨ (0 ≤ r ∧ r ≤ 1000000000000000)) (I := fun s => I s.1 ∧ 0 ≤ s.2 ∧ s.2 ≤ 1000000000000000) (fun s s' a e => ?_) (fun s r a e => ?_) (Or.inl rfl) ⟨h1, Int.le_refl _, by show (0 : Int) ≤ _; omega⟩
    · have q := alS_n e
      refine ⟨by rw [q.2]; exact (h2 _ a.1 q.1).1, ?_⟩
      unfold alS at e
      rw [if_neg (by omega)] at e
      split at e
      · cases e
      · split at e
        · cases e; exact a.2
        · rename_i y1 y2
          cases e
          have y3 := sc s.1 a.1 q.1 y2
          show 0 ≤ min 1000000000000000 (s.2 + scW (tabS T) U s.1 o) ∧ min 1000000000000000 (s.2 + scW (tabS T) U s.1 o) ≤ _
          omega
    · unfold alS at e
      split at e
      · cases e; exact Or.inr a.2
      · split at e
        · cases e; exact Or.inl rfl
        · split at e <;> cases e
  · unfold smV
    refine rs_pi (P := fun r => r = -1 ∨ (0 ≤ r ∧ r ≤ 1000000000000000)) (I := fun s => I s.1 ∧ (0 ≤ s.2.2.1 ∧ s.2.2.1 ≤ 1000000000000000) ∧ 0 ≤ s.2.2.2 ∧ s.2.2.2 ≤ 1000000000000000) (fun s s' a e => ?_) (fun s r a e => ?_) (Or.inl rfl) ⟨h1, ⟨Int.le_refl _, by show (0 : Int) ≤ _; omega⟩, Int.le_refl _, by show (0 : Int) ≤ _; omega⟩
    · have q := smS_n e
      refine ⟨by rw [q.2]; exact (h2 _ a.1 q.1).1, ?_⟩
      unfold smS at e
      rw [if_neg (by omega)] at e
      split at e
      · cases e; exact a.2
      · rename_i y2
        cases e
        have y3 := sc s.1 a.1 q.1 y2
        have a2 := a.2
        show (0 ≤ min 1000000000000000 (s.2.2.1 + scW (tabS T) U s.1 o) ∧ min 1000000000000000 (s.2.2.1 + scW (tabS T) U s.1 o) ≤ _) ∧ 0 ≤ (if s.2.1 = 0 ∨ s.2.2.2 < scW (tabS T) U s.1 o then scW (tabS T) U s.1 o else s.2.2.2) ∧ (if s.2.1 = 0 ∨ s.2.2.2 < scW (tabS T) U s.1 o then scW (tabS T) U s.1 o else s.2.2.2) ≤ _
        refine ⟨by omega, ?_⟩
        split <;> omega
    · unfold smS at e
      split at e
      · cases e
        have a2 := a.2
        show (if (_ ∧ _) ∨ (_ ∧ _) then (if _ then s.2.2.2 else s.2.2.1) else -1) = -1 ∨ _
        split
        · split
          · exact Or.inr a2.2
          · exact Or.inr a2.1
        · exact Or.inl rfl
      · split at e <;> cases e
theorem vB_b {g : Nat} {x o : Int} {T : Int → Int} (h1 : WFX G R g (G 1 x)) (hr : ∀ x, R x → 1 ≤ G 4 x) (hf : 4 ≤ G 0 x → G 0 x ≤ 5 → 0 ≤ G 1 x) (hL : 7 ≤ G 0 x → W o → Lf x o = -1 ∨ (0 ≤ Lf x o ∧ Lf x o ≤ 1000000000000000)) : vB G W P N Lf V x o = -1 ∨ (0 ≤ vB G W P N Lf V x o ∧ vB G W P N Lf V x o ≤ 1000000000000000) := by
  unfold vB
  by_cases c0 : W o
  · rw [if_neg (by rw [zb_t c0]; decide)]
    split
    · exact mb_in (I := fun m => WFX G R g m) h1 (fun m a b => ⟨WFX_n a b, hr m (WFX_at a b).2.2.1⟩)
    · split
      · split
        · exact Or.inr (by decide)
        · exact Or.inl rfl
      · split
        · rename_i c1 c4 c5
          split
          · have q0 := hf (by omega) (by omega)
            unfold scW
            by_cases z : V (G 1 x) (P o) < 0
            · rw [if_pos z]; exact Or.inl rfl
            · rw [if_neg z, tb4]
              have q := prd_in (t := G 4 (G 1 x)) (s := V (G 1 x) (P o)) (hr _ (WFX_at h1 q0).2.2.1) (by omega)
              exact Or.inr ⟨q.1, q.2.1⟩
          · exact Or.inl rfl
        · split
          · exact Or.inr (by decide)
          · exact hL (by omega) c0
  · rw [if_pos (zb_f c0)]; exact Or.inl rfl
theorem WFX_up {R' : Int → Prop} {M : Nat} (h : ∀ (g : Nat) (x : Int), g ≤ M → WFX G R g x → 0 ≤ x → R' x) : ∀ (f : Nat) (x : Int), f ≤ M → WFX G R f x → WFX G R' f x := by
  intro f
  induction f with
  | zero => intro x _ a; exact a.elim
  | succ f ih =>
    intro x hf a
    have a' := a
    rcases a with a | ⟨a1, a2, a3, a4⟩
    · exact Or.inl a
    · exact Or.inr ⟨a1, h (f + 1) x hf a' a1.1, ih _ (by omega) a3, ih _ (by omega) a4⟩
end VNW
/-- a row of the program's table is well made -/
def RwX (σ : Sto) (o : Nat) (x : Int) : Prop := x < σ.I (o + 1) 2 ∧ (0 ≤ σ.I (o + 3) x ∧ σ.I (o + 3) x ≤ 12) ∧ (0 ≤ σ.I (o + 6) x ∧ σ.I (o + 6) x ≤ 2) ∧ (1 ≤ σ.I (o + 7) x ∧ σ.I (o + 7) x ≤ 10000000000000) ∧ (4 ≤ σ.I (o + 3) x → σ.I (o + 3) x ≤ 5 → 0 ≤ σ.I (o + 4) x) ∧ (σ.I (o + 3) x = 3 → 0 ≤ σ.I (o + 11) x ∧ σ.I (o + 11) x ≤ 1000)
/-- a question of the program is well made: root is its field 4 -/
def QWX (σ : Sto) (o : Nat) : Prop := (0 ≤ σ.I (o + 1) 4 ∧ WFX (GX σ o) (RwX σ o) 130 (σ.I (o + 1) 4)) ∧ (0 ≤ σ.I (o + 1) 2 ∧ σ.I (o + 1) 2 ≤ 119)
noncomputable def vXX (σ : Sto) (o : Nat) : Int → Int → Int := vN (GX σ o) (snW σ o) (σ.I 44) 600 (lfX σ o) 200
theorem lfX_in {σ : Sto} {o : Nat} {x k : Int} (h : LQX σ o x) (h7 : 7 ≤ σ.I (o + 3) x) (k0 : 0 ≤ k) (k1 : k < 601) (hs : snW σ o k) : lfX σ o x k = -1 ∨ (0 ≤ lfX σ o x k ∧ lfX σ o x k ≤ 140800000) := by
  obtain ⟨a, b, c, d, e⟩ := h
  obtain ⟨e1, e2, e3, e4⟩ := e k k0 k1 hs
  unfold lfX
  split
  · exact Or.inl rfl
  · rename_i n0
    split
    · split
      · exact Or.inr (by decide)
      · exact Or.inr ⟨b.1, by omega⟩
    · split
      · rename_i n8 n7
        have q := e2 n7 n0
        exact Or.inr (wgh_bd b (by omega) (by omega) (by omega) d)
      · exact Or.inr (by decide)
theorem WX_mk {σ : Sto} {o : Nat} (h : QWX σ o) (hl : ∀ x, 0 ≤ x → x < σ.I (o + 1) 2 → 7 ≤ σ.I (o + 3) x → LQX σ o x) : WX σ o (vXX σ o) 130 (σ.I (o + 1) 4) := by
  have hf : ∀ x, RwX σ o x → 4 ≤ GX σ o 0 x → GX σ o 0 x ≤ 5 → 0 ≤ GX σ o 1 x := fun x r => r.2.2.2.2.1
  have hr : ∀ x, RwX σ o x → 1 ≤ GX σ o 4 x := fun x r => r.2.2.2.1.1
  refine WFX_up (M := 130) (fun g x hg w h0 => ?_) 130 _ (Nat.le_refl _) h.1.2
  obtain ⟨_, _, r, w1, _⟩ := WFX_at w h0
  have ev := fun k => vN_eq (W := snW σ o) (P := σ.I 44) (N := 600) (Lf := lfX σ o) hf w h0 (by omega) k
  refine ⟨⟨fun k k0 k1 ks => ev k, r.2.1, r.2.2.1, r.2.2.2.1, r.2.2.2.2.1, r.2.2.2.2.2, fun k k0 k1 ks => ?_⟩, fun z => hl x h0 r.1 z, r.1, by have := h.2.2; omega⟩
  have q := vB_b (W := snW σ o) (P := σ.I 44) (N := 600) (Lf := lfX σ o) (V := vXX σ o) (o := k) (T := fun _ => 0) w1 hr (hf x r) (fun z s => by
    have l := lfX_in (hl x h0 r.1 z) z k0 k1 s
    rcases l with l | l
    · exact Or.inl l
    · exact Or.inr ⟨l.1, by omega⟩)
  have e : vXX σ o x k = vB (GX σ o) (snW σ o) (σ.I 44) 600 (lfX σ o) (vXX σ o) x k := ev k
  rw [e]; exact q
end
