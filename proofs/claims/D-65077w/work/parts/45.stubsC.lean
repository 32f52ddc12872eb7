section
/-! contracts: printed by tools/mk.py out of s45a_tokX0.py -/
set_option maxRecDepth 100000
set_option maxHeartbeats 1500000
/-! X's list of tokens at cell ot -/
def RWX (σ : Sto) (ot : Nat) (l : TL) (t : Int) : Prop := (σ.I (ot + 2) t = l.2.1 t ∧ 0 ≤ l.2.1 t ∧ l.2.1 t ≤ 20) ∧ (σ.I (ot + 3) t = l.2.2.2.1 t ∧ σ.I (ot + 4) t = l.2.2.2.2.1 t ∧ σ.I (ot + 5) t = l.2.2.2.2.2 t) ∧ ∀ k, 0 ≤ k → k < l.2.1 t → σ.I (ot + 1) (20 * t + k) = l.2.2.1 t k
def PRX (σ : Sto) (ot : Nat) (l : TL) : Prop := (0 ≤ l.1 ∧ l.1 ≤ 250) ∧ ∀ t, 0 ≤ t → t < l.1 → RWX σ ot l t
def TLX (σ : Sto) (ot : Nat) (l : TL) : Prop := σ.I ot 5 = l.1 ∧ PRX σ ot l
/-- the tokens s of a word behind the list l -/
def XW (σ : Sto) (ot : Nat) (l : TL) (s : TS) (st en po : Int) : Prop := (σ.I ot 5 = if l.1 + s.1 ≤ 250 then l.1 + s.1 else 251) ∧ PRX σ ot l ∧ 0 ≤ s.1 ∧ (l.1 + s.1 ≤ 250 → PRX σ ot (apT l s s.1 st en po))
section XWS
variable {σ τ : Sto} {ot o1 : Nat} {l : TL} {s : TS} {st en po n x2 : Int}
theorem RWX_l {t j : Int} (h : t < l.1) : RWX σ ot (apT l s j st en po) t ↔ RWX σ ot l t := by
  have hlt : ¬ l.1 ≤ t := by omega
  have e1 : (apT l s j st en po).2.1 t = l.2.1 t := if_neg hlt
  have e2 : (apT l s j st en po).2.2.1 t = l.2.2.1 t := if_neg hlt
  have e3 : (apT l s j st en po).2.2.2.1 t = l.2.2.2.1 t := if_neg hlt
  have e4 : (apT l s j st en po).2.2.2.2.1 t = l.2.2.2.2.1 t := if_neg hlt
  have e5 : (apT l s j st en po).2.2.2.2.2 t = l.2.2.2.2.2 t := if_neg hlt
  unfold RWX
  rw [e1, e2, e3, e4, e5]
theorem RWX_r {t j : Int} (h : l.1 ≤ t) : RWX σ ot (apT l s j st en po) t ↔ ((σ.I (ot + 2) t = s.2.1 (t - l.1) ∧ 0 ≤ s.2.1 (t - l.1) ∧ s.2.1 (t - l.1) ≤ 20) ∧ (σ.I (ot + 3) t = st ∧ σ.I (ot + 4) t = en ∧ σ.I (ot + 5) t = po) ∧ ∀ k, 0 ≤ k → k < s.2.1 (t - l.1) → σ.I (ot + 1) (20 * t + k) = s.2.2 (t - l.1) k) := by
  have e1 : (apT l s j st en po).2.1 t = s.2.1 (t - l.1) := if_pos h
  have e2 : (apT l s j st en po).2.2.1 t = s.2.2 (t - l.1) := if_pos h
  have e3 : (apT l s j st en po).2.2.2.1 t = st := if_pos h
  have e4 : (apT l s j st en po).2.2.2.2.1 t = en := if_pos h
  have e5 : (apT l s j st en po).2.2.2.2.2 t = po := if_pos h
  unfold RWX
  rw [e1, e2, e3, e4, e5]
theorem XW_0 (h : TLX σ ot l) : XW σ ot l eT0 st en po := by
  obtain ⟨h1, h2⟩ := h
  refine ⟨by rw [if_pos (show l.1 + eT0.1 ≤ 250 by show l.1 + 0 ≤ 250; have := h2.1.2; omega), h1]; show l.1 = l.1 + 0; omega, h2, Int.le_refl _, fun _ => ⟨by show 0 ≤ l.1 + 0 ∧ l.1 + 0 ≤ 250; have := h2.1; omega, fun t t0 t1 => ?_⟩⟩
  have t1' : t < l.1 + 0 := t1
  exact (RWX_l (by omega)).mpr (h2.2 t t0 (by omega))
theorem XW_c (h : XW σ ot l s st en po) (hc : σ.I ot 5 ≤ 250) : σ.I ot 5 = l.1 + s.1 ∧ l.1 + s.1 ≤ 250 := by
  have := h.1
  split at this
  · exact ⟨this, by assumption⟩
  · omega
theorem XW_has {A : Int → Int} (h : XW σ ot l s st en po) (hc : σ.I ot 5 ≤ 250) : exF (fun k => σ.I (ot + 2) k = n ∧ eqA (σ.I (ot + 1)) A (20 * k) x2 n) l.1 (σ.I ot 5) ↔ exN (fun t => s.2.1 t = n ∧ eqA (s.2.2 t) (fun j => A (x2 + j)) 0 0 n) s.1 := by
  obtain ⟨c1, c2⟩ := XW_c h hc
  have hp := (h.2.2.2 c2).2
  have hl := h.2.1.1.1
  rw [c1]
  constructor
  · rintro ⟨k, k0, k1, k2, k3⟩
    obtain ⟨⟨a1, a2, a3⟩, b, c⟩ := (RWX_r k0).mp (hp k (by omega) k1)
    refine ⟨k - l.1, by omega, by omega, by rw [← a1]; exact k2, fun j j0 j1 => ?_⟩
    have := k3 j j0 j1
    show s.2.2 (k - l.1) (0 + j) = A (x2 + (0 + j))
    rw [Int.zero_add, ← c j j0 (by omega)]
    exact this
  · rintro ⟨t, t0, t1, t2, t3⟩
    obtain ⟨⟨a1, a2, a3⟩, b, c⟩ := (RWX_r (show l.1 ≤ l.1 + t by omega)).mp (hp (l.1 + t) (by omega) (by show l.1 + t < l.1 + s.1; omega))
    rw [show l.1 + t - l.1 = t by omega] at a1 a2 a3 c
    refine ⟨l.1 + t, by omega, by omega, by rw [a1]; exact t2, fun j j0 j1 => ?_⟩
    have h3 : s.2.2 t (0 + j) = A (x2 + (0 + j)) := t3 j j0 j1
    rw [Int.zero_add] at h3
    show σ.I (ot + 1) (20 * (l.1 + t) + j) = A (x2 + j)
    rw [c j j0 (by omega)]; exact h3
theorem aT_has {r : Int → Int} (hx : exN (fun t => s.2.1 t = n ∧ eqA (s.2.2 t) r 0 0 n) s.1) : aT s n r = s := by unfold aT; exact if_pos (zb_t (show aTq s n _ from Or.inr hx))
theorem aT_new {r : Int → Int} (h250 : s.1 ≤ 250) (hx : ¬ exN (fun t => s.2.1 t = n ∧ eqA (s.2.2 t) r 0 0 n) s.1) : aT s n r = (s.1 + 1, up1 s.2.1 s.1 n, fun t => if t = s.1 then nrm n r else s.2.2 t) := by unfold aT; rw [if_neg (by rw [zb_f (fun z => z.elim (fun y => by omega) hx)]; omega)]
theorem aT_mono {r : Int → Int} : s.1 ≤ (aT s n r).1 := by
  unfold aT
  split
  · exact Int.le_refl _
  · show s.1 ≤ s.1 + 1; omega
/-- one more token -/
theorem XW_add {A : Int → Int} (h : XW σ ot l s st en po) (hc : σ.I ot 5 ≤ 250) (hn : 0 ≤ n ∧ n ≤ 20) (hx : ¬ exN (fun t => s.2.1 t = n ∧ eqA (s.2.2 t) (fun j => A (x2 + j)) 0 0 n) s.1)
    (e : τ.I = fun c i => if at2 c i ot 5 then σ.I ot 5 + 1 else if σ.I ot 5 < 250 then (if at2 c i (ot + 2) (σ.I ot 5) then n else if rg c i (ot + 1) (20 * σ.I ot 5) (20 * σ.I ot 5 + n) then A (x2 + (i - 20 * σ.I ot 5)) else if at2 c i (ot + 3) (σ.I ot 5) then st else if at2 c i (ot + 4) (σ.I ot 5) then en else if at2 c i (ot + 5) (σ.I ot 5) then po else σ.I c i) else σ.I c i) :
    XW τ ot l (aT s n (fun j => A (x2 + j))) st en po := by
  obtain ⟨c1, c2⟩ := XW_c h hc
  obtain ⟨h1, h2, h3, h4⟩ := h
  have hl := h2.1.1
  have hp := h4 c2
  have ev : ∀ c i, τ.I c i = _ := fun c i => congrFun (congrFun e c) i
  have v5 : τ.I ot 5 = l.1 + s.1 + 1 := by rw [ev, if_pos ⟨rfl, rfl⟩, c1]
  rw [aT_new (by omega) hx]
  have nat : ∀ k : Nat, 1 ≤ k → ¬ (ot + k = ot) := fun k hk => by omega
  by_cases full : σ.I ot 5 < 250
  · have q2 : ∀ t, τ.I (ot + 2) t = if t = l.1 + s.1 then n else σ.I (ot + 2) t := fun t => by
      rw [ev, if_neg (fun z => by have := z.1; omega), if_pos full]
      by_cases q : t = l.1 + s.1
      · rw [if_pos ⟨rfl, by omega⟩, if_pos q]
      · rw [if_neg (fun z => q (by have := z.2; omega)), if_neg (fun z => by have := z.1; omega), if_neg (fun z => by have := z.1; omega), if_neg (fun z => by have := z.1; omega), if_neg (fun z => by have := z.1; omega), if_neg q]
    have q3 : ∀ t, τ.I (ot + 3) t = if t = l.1 + s.1 then st else σ.I (ot + 3) t := fun t => by
      rw [ev, if_neg (fun z => by have := z.1; omega), if_pos full, if_neg (fun z => by have := z.1; omega), if_neg (fun z => by have := z.1; omega)]
      by_cases q : t = l.1 + s.1
      · rw [if_pos ⟨rfl, by omega⟩, if_pos q]
      · rw [if_neg (fun z => q (by have := z.2; omega)), if_neg (fun z => by have := z.1; omega), if_neg (fun z => by have := z.1; omega), if_neg q]
    have q4 : ∀ t, τ.I (ot + 4) t = if t = l.1 + s.1 then en else σ.I (ot + 4) t := fun t => by
      rw [ev, if_neg (fun z => by have := z.1; omega), if_pos full, if_neg (fun z => by have := z.1; omega), if_neg (fun z => by have := z.1; omega), if_neg (fun z => by have := z.1; omega)]
      by_cases q : t = l.1 + s.1
      · rw [if_pos ⟨rfl, by omega⟩, if_pos q]
      · rw [if_neg (fun z => q (by have := z.2; omega)), if_neg (fun z => by have := z.1; omega), if_neg q]
    have q5 : ∀ t, τ.I (ot + 5) t = if t = l.1 + s.1 then po else σ.I (ot + 5) t := fun t => by
      rw [ev, if_neg (fun z => by have := z.1; omega), if_pos full, if_neg (fun z => by have := z.1; omega), if_neg (fun z => by have := z.1; omega), if_neg (fun z => by have := z.1; omega), if_neg (fun z => by have := z.1; omega)]
      by_cases q : t = l.1 + s.1
      · rw [if_pos ⟨rfl, by omega⟩, if_pos q]
      · rw [if_neg (fun z => q (by have := z.2; omega)), if_neg q]
    have q1 : ∀ i, i < 20 * (l.1 + s.1) → τ.I (ot + 1) i = σ.I (ot + 1) i := fun i hi => by
      rw [ev, if_neg (fun z => by have := z.1; omega), if_pos full, if_neg (fun z => by have := z.1; omega), if_neg (fun z => by have := z.2.1; omega), if_neg (fun z => by have := z.1; omega), if_neg (fun z => by have := z.1; omega), if_neg (fun z => by have := z.1; omega)]
    have q0 : ∀ k, 0 ≤ k → k < n → τ.I (ot + 1) (20 * (l.1 + s.1) + k) = A (x2 + k) := fun k k0 k1 => by
      rw [ev, if_neg (fun z => by have := z.1; omega), if_pos full, if_neg (fun z => by have := z.1; omega), if_pos ⟨rfl, by omega, by omega⟩, c1]
      congr 1; omega
    have old : ∀ t, t < l.1 + s.1 → ∀ L : TL, RWX σ ot L t → RWX τ ot L t := fun t ht L hL => by
      obtain ⟨⟨a1, a2, a3⟩, ⟨b1, b2, b3⟩, d⟩ := hL
      refine ⟨⟨by rw [q2, if_neg (by omega)]; exact a1, a2, a3⟩, ⟨by rw [q3, if_neg (by omega)]; exact b1, by rw [q4, if_neg (by omega)]; exact b2, by rw [q5, if_neg (by omega)]; exact b3⟩, fun k k0 k1 => ?_⟩
      rw [q1 _ (by omega)]; exact d k k0 k1
    refine ⟨?_, ⟨h2.1, fun t t0 t1 => old t (by omega) l (h2.2 t t0 t1)⟩, by show 0 ≤ s.1 + 1; omega, fun _ => ⟨by show 0 ≤ l.1 + (s.1 + 1) ∧ l.1 + (s.1 + 1) ≤ 250; omega, fun t t0 t1 => ?_⟩⟩
    · rw [v5]; show _ = if l.1 + (s.1 + 1) ≤ 250 then l.1 + (s.1 + 1) else 251
      rw [if_pos (by omega)]; omega
    · have t1' : t < l.1 + (s.1 + 1) := t1
      by_cases tl : t < l.1
      · exact (RWX_l tl).mpr (old t (by omega) l (h2.2 t t0 tl))
      · rw [RWX_r (by omega)]
        show (τ.I (ot + 2) t = up1 s.2.1 s.1 n (t - l.1) ∧ 0 ≤ up1 s.2.1 s.1 n (t - l.1) ∧ up1 s.2.1 s.1 n (t - l.1) ≤ 20) ∧ _ ∧ ∀ k, 0 ≤ k → k < up1 s.2.1 s.1 n (t - l.1) → τ.I (ot + 1) (20 * t + k) = (if t - l.1 = s.1 then nrm n (fun j => A (x2 + j)) else s.2.2 (t - l.1)) k
        unfold up1
        by_cases te : t - l.1 = s.1
        · have tt : t = l.1 + s.1 := by omega
          rw [if_pos te, if_pos te]
          refine ⟨⟨by rw [q2, if_pos tt], hn⟩, ⟨by rw [q3, if_pos tt], by rw [q4, if_pos tt], by rw [q5, if_pos tt]⟩, fun k k0 k1 => ?_⟩
          rw [tt, q0 k k0 k1]
          unfold nrm
          rw [if_pos ⟨k0, k1⟩]
        · rw [if_neg te, if_neg te]
          obtain ⟨⟨a1, a2, a3⟩, ⟨b1, b2, b3⟩, d⟩ := (RWX_r (by omega)).mp (hp.2 t t0 (by show t < l.1 + s.1; omega))
          refine ⟨⟨by rw [q2, if_neg (by omega)]; exact a1, a2, a3⟩, ⟨by rw [q3, if_neg (by omega)]; exact b1, by rw [q4, if_neg (by omega)]; exact b2, by rw [q5, if_neg (by omega)]; exact b3⟩, fun k k0 k1 => ?_⟩
          rw [q1 _ (by omega)]; exact d k k0 k1
  · have same : ∀ c i, ¬ (c = ot ∧ i = 5) → τ.I c i = σ.I c i := fun c i q => by rw [ev, if_neg q, if_neg full]
    refine ⟨?_, ⟨h2.1, fun t t0 t1 => ?_⟩, by show 0 ≤ s.1 + 1; omega, fun z => ?_⟩
    · rw [v5]; show _ = if l.1 + (s.1 + 1) ≤ 250 then l.1 + (s.1 + 1) else 251
      rw [if_neg (by omega)]; omega
    · have hL := h2.2 t t0 t1
      unfold RWX at hL ⊢
      rw [same (ot + 2) t (by omega), same (ot + 3) t (by omega), same (ot + 4) t (by omega), same (ot + 5) t (by omega)]
      exact ⟨hL.1, hL.2.1, fun k k0 k1 => by rw [same (ot + 1) _ (by omega)]; exact hL.2.2 k k0 k1⟩
    · have z' : l.1 + (s.1 + 1) ≤ 250 := z
      omega
/-- more of the word, when the list is full -/
theorem XW_full {s' : TS} (h : XW σ ot l s st en po) (hf : 250 < σ.I ot 5) (hs : s.1 ≤ s'.1) : XW σ ot l s' st en po := by
  obtain ⟨h1, h2, h3, h4⟩ := h
  have hb : ¬ l.1 + s.1 ≤ 250 := fun z => by rw [if_pos z] at h1; omega
  rw [if_neg hb] at h1
  exact ⟨by rw [if_neg (by omega)]; exact h1, h2, by omega, fun z => absurd z (by omega)⟩
theorem XW_fr (h : XW σ ot l s st en po) (hk : ∀ c i, ot ≤ c → c ≤ ot + 5 → τ.I c i = σ.I c i) : XW τ ot l s st en po := by
  have hr : ∀ L t, RWX σ ot L t → RWX τ ot L t := fun L t hL => by
    unfold RWX at hL ⊢
    rw [hk (ot + 2) t (by omega) (by omega), hk (ot + 3) t (by omega) (by omega), hk (ot + 4) t (by omega) (by omega), hk (ot + 5) t (by omega) (by omega)]
    exact ⟨hL.1, hL.2.1, fun k k0 k1 => by rw [hk (ot + 1) _ (by omega) (by omega)]; exact hL.2.2 k k0 k1⟩
  obtain ⟨h1, h2, h3, h4⟩ := h
  exact ⟨by rw [hk ot 5 (by omega) (by omega)]; exact h1, ⟨h2.1, fun t a b => hr _ t (h2.2 t a b)⟩, h3, fun z => ⟨(h4 z).1, fun t a b => hr _ t ((h4 z).2 t a b)⟩⟩
theorem grN_mono {g : Int} {v : Int → Int} : ∀ (k j : Nat), k ≤ j → (grN g v s k).1 ≤ (grN g v s j).1 := by
  intro k j h
  induction h with
  | refl => exact Int.le_refl _
  | step _ ih => exact Int.le_trans ih aT_mono
theorem gr_mono {g : Int} {v : Int → Int} {k j : Int} (h : k ≤ j) : (gr g v s k).1 ≤ (gr g v s j).1 := by
  unfold gr; exact grN_mono _ _ (by omega)
theorem syN_mono {a : Int} {w : Int → Int} : ∀ (k j : Nat), k ≤ j → (syN σ a w n s k).1 ≤ (syN σ a w n s j).1 := by
  intro k j h
  induction h with
  | refl => exact Int.le_refl _
  | @step j _ ih =>
    refine Int.le_trans ih ?_
    show _ ≤ (if zb _ = 1 then aT (syN σ a w n s j) _ _ else syN σ a w n s j).1
    split
    · exact aT_mono
    · exact Int.le_refl _
theorem sy_mono {a : Int} {w : Int → Int} {k j : Int} (h : k ≤ j) : (sy σ a w n s k).1 ≤ (sy σ a w n s j).1 := by
  unfold sy; exact syN_mono _ _ (by omega)
end XWS
end
section
/-! contracts: printed by tools/mk.py out of s45b_tokX.py -/
set_option maxRecDepth 100000
set_option maxHeartbeats 1500000
/-- an analyser of X's as the model would have it (as its analyser 0) -/
def anS (σ : Sto) (o : Nat) : Sto := (fun c i => if c = 558 then σ.I o 0 else if c = 559 then σ.I o 1 else if c = 560 then σ.I o 2 else if c = 561 then σ.I (o + 1) 2 else if c = 562 then σ.I (o + 4) 2
  else if c = 564 then (if i < 20 then σ.I (o + 3) i else if i % 2 = 0 then σ.I (o + 6) ((i - 20) / 2) else σ.I (o + 9) ((i - 20) / 2))
  else if c = 563 then (if i < 400 then σ.I (o + 2) i else if i / 20 % 2 = 0 then σ.I (o + 5) (20 * ((i / 20 - 20) / 2) + i % 20) else σ.I (o + 8) (20 * ((i / 20 - 20) / 2) + i % 20)) else 0, σ.2)
section ANS
variable {σ : Sto} {o : Nat} {k j n : Int} {w : Int → Int}
theorem an_fold {a : Int} : (anS σ o).I 558 a = σ.I o 0 := rfl
theorem an_stem {a : Int} : (anS σ o).I 559 a = σ.I o 1 := rfl
theorem an_gram {a : Int} : (anS σ o).I 560 a = σ.I o 2 := rfl
theorem an_stc {a : Int} : (anS σ o).I 561 a = σ.I (o + 1) 2 := rfl
theorem an_syc {a : Int} : (anS σ o).I 562 a = σ.I (o + 4) 2 := rfl
theorem an_ts {t : Int} : (anS σ o).I 564 t = if t < 20 then σ.I (o + 3) t else if t % 2 = 0 then σ.I (o + 6) ((t - 20) / 2) else σ.I (o + 9) ((t - 20) / 2) := rfl
theorem an_tb {i : Int} : (anS σ o).I 563 i = if i < 400 then σ.I (o + 2) i else if i / 20 % 2 = 0 then σ.I (o + 5) (20 * ((i / 20 - 20) / 2) + i % 20) else σ.I (o + 8) (20 * ((i / 20 - 20) / 2) + i % 20) := rfl
theorem an_wsz (h0 : 0 ≤ k) : (anS σ o).I 564 (60 * 0 + 20 + 2 * k) = σ.I (o + 6) k := by
  rw [an_ts, if_neg (by omega), if_pos (by omega), show (60 * 0 + 20 + 2 * k - 20) / 2 = k by omega]
theorem an_ysz (h0 : 0 ≤ k) : (anS σ o).I 564 (60 * 0 + 20 + 2 * k + 1) = σ.I (o + 9) k := by
  rw [an_ts, if_neg (by omega), if_neg (by omega), show (60 * 0 + 20 + 2 * k + 1 - 20) / 2 = k by omega]
theorem an_wby (h0 : 0 ≤ k) (j0 : 0 ≤ j) (j1 : j < 20) : (anS σ o).I 563 (20 * (60 * 0 + 20 + 2 * k) + j) = σ.I (o + 5) (20 * k + j) := by
  rw [an_tb, if_neg (by omega), if_pos (by omega)]
  congr 1; omega
theorem an_yby (h0 : 0 ≤ k) (j0 : 0 ≤ j) (j1 : j < 20) : (anS σ o).I 563 (20 * (60 * 0 + 20 + 2 * k + 1) + j) = σ.I (o + 8) (20 * k + j) := by
  rw [an_tb, if_neg (by omega), if_neg (by omega)]
  congr 1; omega
theorem an_td (h0 : 0 ≤ k) (hs : 0 ≤ σ.I (o + 6) k ∧ σ.I (o + 6) k ≤ 20) : tdQ (anS σ o) w n (60 * 0 + 20 + 2 * k) ↔ (σ.I (o + 6) k = n ∧ eqA (σ.I (o + 5)) w (20 * k) 0 n) := by
  unfold tdQ
  rw [an_wsz h0]
  constructor
  · rintro ⟨a, b⟩
    exact ⟨a, fun j j0 j1 => by have q : (anS σ o).I 563 (20 * (60 * 0 + 20 + 2 * k) + j) = w (0 + j) := b j j0 j1; rw [an_wby h0 j0 (by omega)] at q; exact q⟩
  · rintro ⟨a, b⟩
    exact ⟨a, fun j j0 j1 => by show (anS σ o).I 563 (20 * (60 * 0 + 20 + 2 * k) + j) = w (0 + j); rw [an_wby h0 j0 (by omega)]; exact b j j0 j1⟩
end ANS
/-- which words are the word at hand, as bits -/
def SYB (σ : Sto) (o : Nat) (n y x : Int) : Prop := ∀ j, 0 ≤ j → j < 20 → (bt64 y j ↔ (j < x ∧ tdQ (anS σ o) (σ.I 2) n (60 * 0 + 20 + 2 * j)))
theorem SYB_0 {σ : Sto} {o : Nat} {n : Int} : SYB σ o n 0 0 := fun j j0 _ => ⟨fun h => absurd h (bt64_0 j), fun h => absurd h.1 (by omega)⟩
theorem SYB_t {σ : Sto} {o : Nat} {n y x : Int} (h : SYB σ o n y x) (hx : 0 ≤ x ∧ x < 20) (ht : tdQ (anS σ o) (σ.I 2) n (60 * 0 + 20 + 2 * x)) : SYB σ o n (b64or y (b64shl 1 x)) (x + 1) := by
  intro j j0 j1
  rw [bt64_or, bt64_1 (by omega) (by omega), h j j0 j1]
  constructor
  · rintro (⟨a, b⟩ | rfl)
    · exact ⟨by omega, b⟩
    · exact ⟨by omega, ht⟩
  · rintro ⟨a, b⟩
    by_cases q : j = x
    · exact Or.inr q
    · exact Or.inl ⟨by omega, b⟩
theorem SYB_f {σ : Sto} {o : Nat} {n y x : Int} (h : SYB σ o n y x) (ht : ¬ tdQ (anS σ o) (σ.I 2) n (60 * 0 + 20 + 2 * x)) : SYB σ o n y (x + 1) := by
  intro j j0 j1
  rw [h j j0 j1]
  constructor
  · rintro ⟨a, b⟩; exact ⟨by omega, b⟩
  · rintro ⟨a, b⟩
    by_cases q : j = x
    · rw [q] at b; exact absurd b ht
    · exact ⟨by omega, b⟩
def ANB (σ : Sto) (o : Nat) : Prop := (0 ≤ σ.I o 1 ∧ σ.I o 1 ≤ 2) ∧ (0 ≤ σ.I o 2 ∧ σ.I o 2 ≤ 5) ∧ (0 ≤ σ.I (o + 4) 2 ∧ σ.I (o + 4) 2 ≤ 20) ∧ ∀ k, 0 ≤ k → k < 20 → (0 ≤ σ.I (o + 6) k ∧ σ.I (o + 6) k ≤ 20) ∧ 0 ≤ σ.I (o + 9) k ∧ σ.I (o + 9) k ≤ 20
def wsXt (ot c : Nat) (i : Int) : Prop := c = 2 ∨ (ot ≤ c ∧ c ≤ ot + 5 ∧ i = i)
abbrev KXt (ot : Nat) (σ τ : Sto) : Prop := Ch (wsXt ot) σ τ
theorem KXt_rf {ot : Nat} {σ : Sto} : KXt ot σ σ := Ch.rf
theorem KXt_w {ot : Nat} {σ τ : Sto} {a : Nat} {i v : Int} (e : τ = σ.wI a i v) (h : wsXt ot a i) : KXt ot σ τ := by subst e; exact Ch.wI Ch.rf h
theorem KXt_rd {ot : Nat} {σ τ : Sto} {F : Nat → Int → Int} (r : τ.R = σ.R) (s : τ.sh = σ.sh) (n : τ.n = σ.n) (e : τ.I = F) (h : ∀ c i, ¬ wsXt ot c i → F c i = σ.I c i) : KXt ot σ τ := ⟨⟨r, s, n⟩, fun c i q => by rw [e]; exact h c i q⟩
theorem KXt_of_KXw {ot : Nat} {σ τ : Sto} (h : KXw σ τ) : KXt ot σ τ := Ch.mono h (fun c i z => Or.inl z.1)
/-- the list as it lies -/
def lX (σ : Sto) (ot : Nat) : TL := (σ.I ot 5, σ.I (ot + 2), fun t k => σ.I (ot + 1) (20 * t + k), σ.I (ot + 3), σ.I (ot + 4), σ.I (ot + 5))
theorem TLX_ex {σ : Sto} {ot : Nat} (h : 0 ≤ σ.I ot 5 ∧ σ.I ot 5 ≤ 250) (hb : ∀ t, 0 ≤ t → t < 250 → 0 ≤ σ.I (ot + 2) t ∧ σ.I (ot + 2) t ≤ 20) : TLX σ ot (lX σ ot) :=
  ⟨rfl, h, fun t t0 t1 => ⟨⟨rfl, hb t t0 (by have : t < σ.I ot 5 := t1; omega)⟩, ⟨rfl, rfl, rfl⟩, fun _ _ _ => rfl⟩⟩
/-- the tokens of a word so far -/
def XWA (σ τ : Sto) (ot : Nat) (s : TS) (st en po : Int) : Prop := ∀ l, TLX σ ot l → XW τ ot l s st en po
section XWAS
variable {σ τ ρ : Sto} {ot : Nat} {s s' : TS} {st en po n x2 : Int} {A : Int → Int}
theorem XWA_c (h : XWA σ τ ot s st en po) (hσ : TLX σ ot (lX σ ot)) : (σ.I ot 5 ≤ τ.I ot 5 ∧ τ.I ot 5 ≤ 251) ∧ 0 ≤ s.1 := by
  have h1 := h _ hσ
  have h2 : τ.I ot 5 = if σ.I ot 5 + s.1 ≤ 250 then σ.I ot 5 + s.1 else 251 := h1.1
  have h3 := h1.2.2.1
  have h4 := hσ.2.1.2
  have h5 : σ.I ot 5 ≤ 250 := h4
  split at h2 <;> omega
theorem XWA_has (h : XWA σ τ ot s st en po) (hσ : TLX σ ot (lX σ ot)) (hc : τ.I ot 5 ≤ 250) : exF (fun k => τ.I (ot + 2) k = n ∧ eqA (τ.I (ot + 1)) A (20 * k) x2 n) (σ.I ot 5) (τ.I ot 5) ↔ exN (fun t => s.2.1 t = n ∧ eqA (s.2.2 t) (fun j => A (x2 + j)) 0 0 n) s.1 := XW_has (h _ hσ) hc
theorem XWA_add (h : XWA σ τ ot s st en po) (hc : τ.I ot 5 ≤ 250) (hn : 0 ≤ n ∧ n ≤ 20) (hx : ¬ exN (fun t => s.2.1 t = n ∧ eqA (s.2.2 t) (fun j => A (x2 + j)) 0 0 n) s.1)
    (e : ρ.I = fun c i => if at2 c i ot 5 then τ.I ot 5 + 1 else if τ.I ot 5 < 250 then (if at2 c i (ot + 2) (τ.I ot 5) then n else if rg c i (ot + 1) (20 * τ.I ot 5) (20 * τ.I ot 5 + n) then A (x2 + (i - 20 * τ.I ot 5)) else if at2 c i (ot + 3) (τ.I ot 5) then st else if at2 c i (ot + 4) (τ.I ot 5) then en else if at2 c i (ot + 5) (τ.I ot 5) then po else τ.I c i) else τ.I c i) :
    XWA σ ρ ot (aT s n (fun j => A (x2 + j))) st en po := fun l hl => XW_add (h l hl) hc hn hx e
theorem XWA_full (h : XWA σ τ ot s st en po) (hf : 250 < τ.I ot 5) (hs : s.1 ≤ s'.1) : XWA σ τ ot s' st en po := fun l hl => XW_full (h l hl) hf hs
theorem XWA_0 (h : KXt ot σ τ) (hk : ∀ c i, ot ≤ c → c ≤ ot + 5 → τ.I c i = σ.I c i) : XWA σ τ ot eT0 st en po := fun l hl => XW_fr (XW_0 hl) hk
theorem XWA_e (h : XWA σ τ ot s st en po) (e : s = s') : XWA σ τ ot s' st en po := e ▸ h
end XWAS
end
section
/-! contracts: printed by tools/mk.py out of s45e_bulk.py -/
set_option maxRecDepth 100000
set_option maxHeartbeats 1500000
theorem sp_X0_exchangeGroups {E : XE} {d : Nat} {σ : Sto} {x1 : Int} {x2 : Int} (hd : 1 ≤ d) (hL : Lay σ)  (p0 : 0 ≤ x1 ∧ x1 < 6000) (p1 : 0 ≤ x2 ∧ x2 < 6000) : CC E mX0_exchangeGroups d [aO 0, aI (x1), aI (x2)] σ (RV (fun τ => RD σ τ (fun c i => if at2 c i 196 x1 then σ.I 196 x2 else if at2 c i 196 x2 then σ.I 196 x1 else if at2 c i 197 x1 then σ.I 197 x2 else if at2 c i 197 x2 then σ.I 197 x1 else if at2 c i 198 x1 then σ.I 198 x2 else if at2 c i 198 x2 then σ.I 198 x1 else σ.I c i))) := by sorry
/-- the order of two terms of X's, of two of the model's -/
def odX (σ : Sto) (s t : Int) : Int := od (σ.I 19) (20 * s) (σ.I 21 s) (σ.I 19) (20 * t) (σ.I 21 t) 0
def odM (σ : Sto) (s t : Int) : Int := od (σ.I 586) (20 * s) (σ.I 587 s) (σ.I 586) (20 * t) (σ.I 587 t) 0
def gbX (σ : Sto) (i j : Int) : Prop :=
  (σ.I 0 80 = 0 ∧ ((σ.I 196 i ≠ σ.I 196 j ∧ σ.I 196 i < σ.I 196 j) ∨ (σ.I 196 i = σ.I 196 j ∧ σ.I 198 i < σ.I 198 j))) ∨
  (σ.I 0 80 ≠ 0 ∧ ((σ.I 197 i ≠ σ.I 197 j ∧ σ.I 197 j < σ.I 197 i) ∨ (σ.I 197 i = σ.I 197 j ∧ odX σ (σ.I 196 i) (σ.I 196 j) < 0)))
def gbM (σ : Sto) (g h : Int) : Prop :=
  (σ.I 555 141 = 0 ∧ σ.I 659 g < σ.I 659 h) ∨
  (σ.I 555 141 ≠ 0 ∧ ((σ.I 656 g ≠ σ.I 656 h ∧ σ.I 656 h < σ.I 656 g) ∨ (σ.I 656 g = σ.I 656 h ∧ odM σ (σ.I 658 g) (σ.I 658 h) < 0)))
def lbM (σ : Sto) (a b : Int) : Prop :=
  (σ.I 665 a ≠ σ.I 665 b ∧ σ.I 665 a < σ.I 665 b) ∨ (σ.I 665 a = σ.I 665 b ∧ ((σ.I 663 a ≠ σ.I 663 b ∧ σ.I 663 b < σ.I 663 a) ∨ (σ.I 663 a = σ.I 663 b ∧ odM σ (σ.I 662 a) (σ.I 662 b) < 0)))
def hvM (σ : Sto) (a b : Int) : Prop :=
  (σ.I 670 a ≠ σ.I 670 b ∧ σ.I 670 b < σ.I 670 a) ∨ (σ.I 670 a = σ.I 670 b ∧ ((σ.I 666 a ≠ σ.I 666 b ∧ σ.I 666 a < σ.I 666 b) ∨ (σ.I 666 a = σ.I 666 b ∧ odM σ (σ.I 662 a) (σ.I 662 b) < 0)))
def tbX (σ : Sto) (t d c k : Int) : Prop :=
  (c ≠ σ.I 203 k ∧ c < σ.I 203 k) ∨ (c = σ.I 203 k ∧ ((d ≠ σ.I 202 k ∧ σ.I 202 k < d) ∨ (d = σ.I 202 k ∧ odX σ t (σ.I 201 k) < 0)))
def tfX (σ : Sto) (s t : Int) : Prop := (σ.I 20 s ≠ σ.I 20 t ∧ σ.I 20 s < σ.I 20 t) ∨ (σ.I 20 s = σ.I 20 t ∧ odX σ s t < 0)

theorem sp_X0_isGroupBefore {E : XE} {d : Nat} {σ : Sto} {x1 : Int} {x2 : Int} (hd : 4 ≤ d) (hL : Lay σ)  (p0 : 0 ≤ x1 ∧ x1 < 6000) (p1 : 0 ≤ x2 ∧ x2 < 6000) (p2 : bd_0_20 σ 21 36500) (p3 : σ.I 0 80 ≠ 0 → 0 ≤ σ.I 196 x1 ∧ σ.I 196 x1 < 36500 ∧ 0 ≤ σ.I 196 x2 ∧ σ.I 196 x2 < 36500) : CC E mX0_isGroupBefore d [aO 0, aI (x1), aI (x2)] σ (RZ σ (gbX σ x1 x2)) := by sorry
theorem sp_X9_isGroupBefore {E : XE} {d : Nat} {σ : Sto} {x1 : Int} {x2 : Int} (hd : 4 ≤ d) (hL : Lay σ)  (p0 : 0 ≤ x1 ∧ x1 < 6000) (p1 : 0 ≤ x2 ∧ x2 < 6000) (p2 : bd_0_20 σ 587 24000) (p3 : σ.I 555 141 ≠ 0 → 0 ≤ σ.I 658 x1 ∧ σ.I 658 x1 < 24000 ∧ 0 ≤ σ.I 658 x2 ∧ σ.I 658 x2 < 24000) : CC E mX9_isGroupBefore d [aO 555, aI (x1), aI (x2)] σ (RZ σ (gbM σ x1 x2)) := by sorry
theorem sp_X9_isListedBefore {E : XE} {d : Nat} {σ : Sto} {x1 : Int} {x2 : Int} (hd : 4 ≤ d) (hL : Lay σ)  (p0 : 0 ≤ x1 ∧ x1 < 24000) (p1 : 0 ≤ x2 ∧ x2 < 24000) (p2 : bd_0_20 σ 587 24000) (p3 : bd_0_23999 σ 662 24000) : CC E mX9_isListedBefore d [aO 555, aI (x1), aI (x2)] σ (RZ σ (lbM σ x1 x2)) := by sorry
theorem sp_X9_isHeavier {E : XE} {d : Nat} {σ : Sto} {x1 : Int} {x2 : Int} (hd : 4 ≤ d) (hL : Lay σ)  (p0 : 0 ≤ x1 ∧ x1 < 24000) (p1 : 0 ≤ x2 ∧ x2 < 24000) (p2 : bd_0_20 σ 587 24000) (p3 : bd_0_23999 σ 662 24000) : CC E mX9_isHeavier d [aO 555, aI (x1), aI (x2)] σ (RZ σ (hvM σ x1 x2)) := by sorry
theorem sp_X0_isToldBefore {E : XE} {d : Nat} {σ : Sto} {x1 : Int} {x2 : Int} {x3 : Int} {x4 : Int} (hd : 4 ≤ d) (hL : Lay σ)  (p0 : 0 ≤ x1 ∧ x1 < 36500) (p1 : inR x2) (p2 : inR x3) (p3 : 0 ≤ x4 ∧ x4 < 11) (p4 : bd_0_20 σ 21 36500) (p5 : 0 ≤ σ.I 201 x4 ∧ σ.I 201 x4 < 36500) : CC E mX0_isToldBefore d [aO 0, aI (x1), aI (x2), aI (x3), aI (x4)] σ (RZ σ (tbX σ x1 x2 x3 x4)) := by sorry
theorem sp_X0_isTermBefore {E : XE} {d : Nat} {σ : Sto} {x1 : Int} {x2 : Int} (hd : 4 ≤ d) (hL : Lay σ)  (p0 : 0 ≤ x1 ∧ x1 < 36500) (p1 : 0 ≤ x2 ∧ x2 < 36500) (p2 : bd_0_20 σ 21 36500) : CC E mX0_isTermBefore d [aO 0, aI (x1), aI (x2)] σ (RZ σ (tfX σ x1 x2)) := by sorry
theorem sp_X9_swap {E : XE} {d : Nat} {σ : Sto} {o0 : Nat} {n0 : Nat} {x1 : Int} {x2 : Int} (hd : 1 ≤ d) (hL : Lay σ) (ho0 : σ.sh o0 = (0, n0)) (p0 : 0 ≤ x1 ∧ x1 < n0) (p1 : 0 ≤ x2 ∧ x2 < n0) : CC E mX9_swap d [aO o0, aI (x1), aI (x2)] σ (RV (fun τ => RD σ τ (fun c i => if at2 c i o0 x1 then σ.I o0 x2 else if at2 c i o0 x2 then σ.I o0 x1 else σ.I c i))) := by sorry
theorem sp_X9_swapGroups {E : XE} {d : Nat} {σ : Sto} {x1 : Int} {x2 : Int} (hd : 2 ≤ d) (hL : Lay σ)  (p0 : 0 ≤ x1 ∧ x1 < 6000) (p1 : 0 ≤ x2 ∧ x2 < 6000) : CC E mX9_swapGroups d [aO 555, aI (x1), aI (x2)] σ (RV (fun τ => RD σ τ (fun c i => if at2 c i 656 x1 then σ.I 656 x2 else if at2 c i 656 x2 then σ.I 656 x1 else if at2 c i 657 x1 then σ.I 657 x2 else if at2 c i 657 x2 then σ.I 657 x1 else if at2 c i 658 x1 then σ.I 658 x2 else if at2 c i 658 x2 then σ.I 658 x1 else if at2 c i 659 x1 then σ.I 659 x2 else if at2 c i 659 x2 then σ.I 659 x1 else σ.I c i))) := by sorry
theorem sqr_in (d : Int) (h1 : -3000000 ≤ d) (h2 : d ≤ 3000000) : 0 ≤ d * d ∧ d * d ≤ 9000000000000 := by
  constructor
  · rcases Int.le_total 0 d with q | q
    · exact Int.mul_nonneg q q
    · have := Int.mul_nonneg (a := -d) (b := -d) (by omega) (by omega); rw [Int.neg_mul_neg] at this; exact this
  · rcases Int.le_total 0 d with q | q
    · have := Int.mul_le_mul h2 h2 q (by omega); omega
    · have := Int.mul_le_mul (a := -d) (b := -d) (c := 3000000) (d := 3000000) (by omega) (by omega) (by omega) (by omega); rw [Int.neg_mul_neg] at this; omega

theorem sp_X9_square {E : XE} {d : Nat} {σ : Sto} {x1 : Int} {x2 : Int} {x3 : Int} (hd : 1 ≤ d) (hL : Lay σ)  (p0 : 0 ≤ x1 ∧ x1 < 6000) (p1 : 0 ≤ x2 ∧ x2 < 4) (p2 : -1000 ≤ x3 ∧ x3 ≤ 1000) (p3 : -1000000 ≤ σ.I 584 (4 * x1 + x2) ∧ σ.I 584 (4 * x1 + x2) ≤ 1000000) : CC E mX9_square d [aO 555, aI (x1), aI (x2), aI (x3)] σ (RL σ ((σ.I 584 (4 * x1 + x2) - x3) * (σ.I 584 (4 * x1 + x2) - x3))) := by sorry
/-- tokens of the field in the whole world -/
noncomputable def mAT (σ : Sto) (f : Int) : Int := smP (fun o => σ.I 601 o = 1) (fun o => mTO σ f o) 601
theorem mTO_in (σ : Sto) (f o : Int) (h : OB σ 595 596) (hv : VT σ (σ.I 555 30)) (h0 : 0 ≤ o) (h1 : o < 601) (h2 : σ.I 595 o + σ.I 596 o ≤ σ.I 555 30) : mTO σ f o = 0 ∨ (0 < mTO σ f o ∧ mTO σ f o ≤ 6000) := by
  have hb := h o h0 h1
  have key : ∀ n : Nat, (n : Int) ≤ σ.I 596 o → 0 ≤ smPN (fun j => mV σ f (σ.I 595 o + j)) (fun j => tcM σ (σ.I 595 o + j)) n ∧ smPN (fun j => mV σ f (σ.I 595 o + j)) (fun j => tcM σ (σ.I 595 o + j)) n ≤ 250 * n := by
    intro n
    induction n with
    | zero => intro _; exact ⟨Int.le_refl _, Int.le_refl _⟩
    | succ n ih =>
      intro hn
      have h2 := ih (by omega)
      have h3 := hv (σ.I 595 o + n) (by omega) (by omega)
      show 0 ≤ smPN _ _ n + zb _ * tcM σ (σ.I 595 o + n) ∧ smPN _ _ n + zb _ * tcM σ (σ.I 595 o + n) ≤ _
      rcases zb_cs (mV σ f (σ.I 595 o + n)) with ⟨_, e⟩ | ⟨_, e⟩ <;> rw [e] <;> omega
  have := key (σ.I 596 o).toNat (by omega)
  unfold mTO smP
  omega

theorem sp_X9_allTokens {E : XE} {d : Nat} {σ : Sto} {x1 : Int} (hd : 3 ≤ d) (hL : Lay σ)  (p0 : 0 ≤ x1 ∧ x1 < 12) (p1 : OB σ 595 596) (p2 : VT σ (σ.I 555 30)) (p3 : σ.I 555 30 ≤ 6000) (p4 : WOB σ) : CC E mX9_allTokens d [aO 555, aI (x1)] σ (RL σ (mAT σ x1)) := by sorry
/-- byte k of n bytes of v -/
def byO (v n k : Int) : Int := sx8 (w32 (b64shr v (8 * n - 8 - 8 * k)))

theorem sp_X0_write {E : XE} {d : Nat} {σ : Sto} {y1 : Int} {x3 : Int} (hd : 1 ≤ d) (hL : Lay σ)  (p0 : 0 ≤ σ.I 0 101 ∧ σ.I 0 101 ≤ 100000000) (p1 : 1 ≤ x3 ∧ x3 ≤ 8) (p2 : inL y1) : CC E mX0_write d [aO 0, aL (y1), aI (x3)] σ (RV (fun τ => RD σ τ (fun c i => if c = 212 ∧ σ.I 0 101 ≤ i ∧ i < σ.I 0 101 + x3 ∧ i < 30000 then byO y1 x3 (i - σ.I 0 101) else if at2 c i 0 101 then σ.I 0 101 + x3 else σ.I c i))) := by sorry
end
section
/-! contracts: printed by tools/mk.py out of s45f_topk.py -/
set_option maxRecDepth 100000
set_option maxHeartbeats 1500000
/-! the first k of a set in its order -/
def STO (S : Int → Prop) (lt : Int → Int → Prop) : Prop := (∀ x, S x → ¬ lt x x) ∧ (∀ x y z, S x → S y → S z → lt x y → lt y z → lt x z) ∧ ∀ x y, S x → S y → x ≠ y → lt x y ∨ lt y x
def TopK (S : Int → Prop) (lt : Int → Int → Prop) (k n : Int) (f : Int → Int) : Prop := (0 ≤ n ∧ n ≤ k) ∧ (∀ i, 0 ≤ i → i < n → S (f i)) ∧ (∀ i j, 0 ≤ i → i < j → j < n → lt (f i) (f j)) ∧ ∀ x, S x → (∃ i, 0 ≤ i ∧ i < n ∧ f i = x) ∨ (n = k ∧ ∀ i, 0 ≤ i → i < n → lt (f i) x)
section TOPK
variable {S S' : Int → Prop} {lt lt' : Int → Int → Prop} {k n n' p x : Int} {f f' : Int → Int}
theorem STO.asym (h : STO S lt) {x y : Int} (hx : S x) (hy : S y) (h1 : lt x y) (h2 : lt y x) : False := h.1 x hx (h.2.1 x y x hx hy hx h1 h2)
theorem STO.mono (h : STO S lt) (hs : ∀ x, S' x → S x) : STO S' lt := ⟨fun x hx => h.1 x (hs x hx), fun x y z hx hy hz => h.2.1 x y z (hs x hx) (hs y hy) (hs z hz), fun x y hx hy => h.2.2 x y (hs x hx) (hs y hy)⟩
theorem TopK_half (h : TopK S lt k n f) (h' : TopK S lt k n' f') (ho : STO S lt) {i : Int} (h0 : 0 ≤ i) (h1 : i < n) (h2 : i < n') (hj : ∀ j, 0 ≤ j → j < i → f j = f' j) : ¬ lt (f i) (f' i) := by
  intro hl
  have sf := h.2.1 i h0 h1
  have sf' := h'.2.1 i h0 h2
  rcases h'.2.2.2 (f i) sf with ⟨j, j0, j1, e⟩ | ⟨_, q⟩
  · rcases (show j < i ∨ j = i ∨ i < j by omega) with c | c | c
    · have hl2 := h.2.2.1 j i j0 c h1
      rw [hj j j0 c, e] at hl2
      exact ho.1 _ sf hl2
    · subst c; rw [e] at hl; exact ho.1 _ sf hl
    · have hl2 := h'.2.2.1 i j h0 c j1
      rw [e] at hl2
      exact ho.asym sf sf' hl hl2
  · exact ho.asym sf sf' hl (q i h0 h2)
theorem TopK_eq (h : TopK S lt k n f) (h' : TopK S lt k n' f') (ho : STO S lt) : ∀ m : Nat, ∀ i, 0 ≤ i → i < (m : Int) → i < n → i < n' → f i = f' i := by
  intro m
  induction m with
  | zero => intro i h0 h1; omega
  | succ m ih =>
    intro i h0 h1 h2 h3
    have hj : ∀ j, 0 ≤ j → j < i → f j = f' j := fun j j0 j1 => ih j j0 (by omega) (by omega) (by omega)
    have a := TopK_half h h' ho h0 h2 h3 hj
    have b := TopK_half h' h ho h0 h3 h2 (fun j j0 j1 => (hj j j0 j1).symm)
    rcases Int.decEq (f i) (f' i) with q | q
    · exact absurd (ho.2.2 _ _ (h.2.1 i h0 h2) (h'.2.1 i h0 h3) q) (fun z => z.elim a b)
    · exact q
theorem TopK_le (h : TopK S lt k n f) (h' : TopK S lt k n' f') (ho : STO S lt) : n' ≤ n := by
  rcases Int.lt_or_le n n' with q | q
  · exfalso
    have n0 := h.1.1
    rcases h.2.2.2 (f' n) (h'.2.1 n n0 q) with ⟨j, j0, j1, e⟩ | ⟨e, _⟩
    · have e2 := TopK_eq h h' ho (n'.toNat) j j0 (by omega) j1 (by omega)
      have hl := h'.2.2.1 j n j0 j1 q
      rw [← e2, e] at hl
      exact ho.1 _ (h'.2.1 n n0 q) hl
    · have := h'.1.2; omega
  · exact q
theorem TopK_uniq (h : TopK S lt k n f) (h' : TopK S lt k n' f') (ho : STO S lt) : n = n' ∧ ∀ i, 0 ≤ i → i < n → f i = f' i := by
  have a := TopK_le h h' ho
  have b := TopK_le h' h ho
  exact ⟨by omega, fun i h0 h1 => TopK_eq h h' ho n.toNat i h0 (by omega) h1 (by omega)⟩
theorem TopK_0 (hs : ∀ x, ¬ S x) (hk : 0 ≤ k) : TopK S lt k 0 f := ⟨⟨Int.le_refl _, hk⟩, fun i a b => by omega, fun i j a b c => by omega, fun x hx => absurd hx (hs x)⟩
theorem TopK_cg (h : TopK S lt k n f) (hs : ∀ x, S' x ↔ S x) (hl : ∀ x y, S x → S y → (lt' x y ↔ lt x y)) (hf : ∀ i, 0 ≤ i → i < n → f' i = f i) : TopK S' lt' k n f' := by
  refine ⟨h.1, fun i a b => by rw [hf i a b, hs]; exact h.2.1 i a b, fun i j a b c => by rw [hf i a (by omega), hf j (by omega) c]; exact (hl _ _ (h.2.1 i a (by omega)) (h.2.1 j (by omega) c)).mpr (h.2.2.1 i j a b c), fun x hx => ?_⟩
  rcases h.2.2.2 x ((hs x).mp hx) with ⟨i, a, b, c⟩ | ⟨a, b⟩
  · exact Or.inl ⟨i, a, b, by rw [hf i a b]; exact c⟩
  · exact Or.inr ⟨a, fun i i0 i1 => by rw [hf i i0 i1]; exact (hl _ _ (h.2.1 i i0 i1) ((hs x).mp hx)).mpr (b i i0 i1)⟩
theorem TopK_ins (h : TopK S lt k n f) (hx : ¬ S x) (ho : STO (fun y => S y ∨ y = x) lt) (hp : 0 ≤ p ∧ p ≤ n) (h1 : ∀ i, p ≤ i → i < n → lt x (f i)) (h2 : 0 < p → ¬ lt x (f (p - 1))) (hk : 0 < k) (hn : n' = min k (n + 1)) (hf : ∀ i, 0 ≤ i → i < n' → f' i = if i < p then f i else if i = p then x else f (i - 1)) : TopK (fun y => S y ∨ y = x) lt k n' f' := by
  obtain ⟨⟨n0, nk⟩, hs, hl, hc⟩ := h
  have h3 : ∀ i, 0 ≤ i → i < p → lt (f i) x := by
    intro i i0 i1
    have e : lt (f (p - 1)) x := by
      have sp := hs (p - 1) (by omega) (by omega)
      rcases ho.2.2 x (f (p - 1)) (Or.inr rfl) (Or.inl sp) (fun z => hx (by rw [z]; exact sp)) with q | q
      · exact absurd q (h2 (by omega))
      · exact q
    rcases (show i = p - 1 ∨ i < p - 1 by omega) with q | q
    · rw [q]; exact e
    · exact ho.2.1 _ _ _ (Or.inl (hs i i0 (by omega))) (Or.inl (hs (p - 1) (by omega) (by omega))) (Or.inr rfl) (hl i (p - 1) i0 q (by omega)) e
  have fa : ∀ i, 0 ≤ i → i < n' → i < p → f' i = f i := fun i a b c => by rw [hf i a b, if_pos c]
  have fb : ∀ i, 0 ≤ i → i < n' → i = p → f' i = x := fun i a b c => by rw [hf i a b, if_neg (by omega), if_pos c]
  have fc : ∀ i, 0 ≤ i → i < n' → p < i → f' i = f (i - 1) := fun i a b c => by rw [hf i a b, if_neg (by omega), if_neg (by omega)]
  refine ⟨⟨by omega, by omega⟩, fun i a b => ?_, fun i j a b c => ?_, fun y hy => ?_⟩
  · rcases (show i < p ∨ i = p ∨ p < i by omega) with q | q | q
    · rw [fa i a b q]; exact Or.inl (hs i a (by omega))
    · rw [fb i a b q]; exact Or.inr rfl
    · rw [fc i a b q]; exact Or.inl (hs (i - 1) (by omega) (by omega))
  · rcases (show i < p ∨ i = p ∨ p < i by omega) with q | q | q <;> rcases (show j < p ∨ j = p ∨ p < j by omega) with r | r | r
    · rw [fa i a (by omega) q, fa j (by omega) c r]; exact hl i j a b (by omega)
    · rw [fa i a (by omega) q, fb j (by omega) c r]; exact h3 i a q
    · rw [fa i a (by omega) q, fc j (by omega) c r]; exact hl i (j - 1) a (by omega) (by omega)
    · omega
    · omega
    · rw [fb i a (by omega) q, fc j (by omega) c r]; exact h1 (j - 1) (by omega) (by omega)
    · omega
    · omega
    · rw [fc i a (by omega) q, fc j (by omega) c r]; exact hl (i - 1) (j - 1) (by omega) (by omega) (by omega)
  · rcases hy with hy | hy
    · rcases hc y hy with ⟨i, i0, i1, e⟩ | ⟨e, q⟩
      · rcases (show i < p ∨ p ≤ i by omega) with r | r
        · exact Or.inl ⟨i, i0, by omega, by rw [fa i i0 (by omega) r]; exact e⟩
        · rcases (show i + 1 < n' ∨ n' ≤ i + 1 by omega) with t | t
          · exact Or.inl ⟨i + 1, by omega, t, by rw [fc (i + 1) (by omega) t (by omega), show i + 1 - 1 = i by omega]; exact e⟩
          · refine Or.inr ⟨by omega, fun j j0 j1 => ?_⟩
            rw [← e]
            rcases (show j < p ∨ j = p ∨ p < j by omega) with u | u | u
            · rw [fa j j0 j1 u]; exact hl j i j0 (by omega) i1
            · rw [fb j j0 j1 u]; exact h1 i r i1
            · rw [fc j j0 j1 u]; exact hl (j - 1) i (by omega) (by omega) i1
      · refine Or.inr ⟨by omega, fun j j0 j1 => ?_⟩
        rcases (show j < p ∨ j = p ∨ p < j by omega) with u | u | u
        · rw [fa j j0 j1 u]; exact q j j0 (by omega)
        · rw [fb j j0 j1 u]; exact ho.2.1 _ _ _ (Or.inr rfl) (Or.inl (hs p hp.1 (by omega))) (Or.inl hy) (h1 p (Int.le_refl _) (by omega)) (q p hp.1 (by omega))
        · rw [fc j j0 j1 u]; exact q (j - 1) (by omega) (by omega)
    · rcases (show p < n' ∨ n' ≤ p by omega) with r | r
      · exact Or.inl ⟨p, hp.1, r, by rw [fb p hp.1 r rfl]; exact hy.symm⟩
      · refine Or.inr ⟨by omega, fun j j0 j1 => ?_⟩
        rw [fa j j0 j1 (by omega), hy]; exact h3 j j0 (by omega)
theorem TopK_cut (h : TopK S lt k n f) (hall : ∀ x, S x → ∃ i, 0 ≤ i ∧ i < n ∧ f i = x) {m : Int} (hm : 0 ≤ m) : TopK S lt m (min n m) f := by
  refine ⟨⟨by have := h.1.1; omega, by omega⟩, fun i a b => h.2.1 i a (by omega), fun i j a b c => h.2.2.1 i j a b (by omega), fun x hx => ?_⟩
  obtain ⟨i, i0, i1, e⟩ := hall x hx
  rcases (show i < min n m ∨ min n m ≤ i by omega) with q | q
  · exact Or.inl ⟨i, i0, q, e⟩
  · exact Or.inr ⟨by omega, fun j j0 j1 => by rw [← e]; exact h.2.2.1 j i j0 (by omega) i1⟩
/-- to another numbering -/
theorem TopK_map {g : Int → Int} (h : TopK S lt k n f) (h1 : ∀ x, S x → S' (g x)) (h2 : ∀ y, S' y → ∃ x, S x ∧ g x = y) (h3 : ∀ x y, S x → S y → lt x y → lt' (g x) (g y)) : TopK S' lt' k n (fun i => g (f i)) := by
  refine ⟨h.1, fun i a b => h1 _ (h.2.1 i a b), fun i j a b c => h3 _ _ (h.2.1 i a (by omega)) (h.2.1 j (by omega) c) (h.2.2.1 i j a b c), fun y hy => ?_⟩
  obtain ⟨x, hx, e⟩ := h2 y hy
  rcases h.2.2.2 x hx with ⟨i, a, b, c⟩ | ⟨a, b⟩
  · exact Or.inl ⟨i, a, b, by show g (f i) = y; rw [c]; exact e⟩
  · exact Or.inr ⟨a, fun i i0 i1 => by rw [← e]; exact h3 _ _ (h.2.1 i i0 i1) hx (b i i0 i1)⟩
theorem ip_b (q : Int → Prop) (n : Int) (h : 0 ≤ n) : (0 ≤ ip q n ∧ ip q n ≤ n) ∧ (∀ i, ip q n ≤ i → i < n → q i) ∧ (0 < ip q n → ¬ q (ip q n - 1)) := by
  obtain ⟨m, rfl⟩ : ∃ m : Nat, n = m := ⟨n.toNat, by omega⟩
  clear h
  induction m with
  | zero => rw [ip_0 q _ (by omega)]; exact ⟨by omega, fun i a b => by omega, fun z => by omega⟩
  | succ m ih =>
    by_cases c : q m
    · rw [ip_t q m _ (by omega) (by omega) c]
      refine ⟨by omega, fun i a b => ?_, ih.2.2⟩
      rcases (show i < (m : Int) ∨ i = m by omega) with r | r
      · exact ih.2.1 i a r
      · rw [r]; exact c
    · rw [ip_f q m _ (by omega) (by omega) c]
      exact ⟨by omega, fun i a b => by omega, fun _ => by rw [show ((m + 1 : Nat) : Int) - 1 = m by omega]; exact c⟩
end TOPK
end
section
/-! contracts: printed by tools/mk.py out of s45h_tell.py -/
set_option maxRecDepth 100000
set_option maxHeartbeats 1500000
/-- what analyse() tells -/
def SH1 (σ : Sto) (l : TL) (t : Int) : Prop := σ.I 575 (4 * t) = l.2.2.2.1 t ∧ σ.I 575 (4 * t + 1) = l.2.2.2.2.1 t ∧ σ.I 575 (4 * t + 2) = l.2.2.2.2.2 t ∧ σ.I 575 (4 * t + 3) = l.2.1 t ∧ ∀ k, 0 ≤ k → k < l.2.1 t → σ.I 576 (20 * t + k) = l.2.2.1 t k
def SHN (σ : Sto) (l : TL) (n : Int) : Prop := ∀ t, 0 ≤ t → t < n → SH1 σ l t
def wsSh (c : Nat) (i : Int) : Prop := wsB c i ∨ c = 575 ∨ c = 576 ∨ at2 c i 555 24 ∨ at2 c i 555 2
abbrev KSh (σ τ : Sto) : Prop := Ch wsSh σ τ
theorem KSh_rf {σ : Sto} : KSh σ σ := Ch.rf
theorem KSh_w {σ τ : Sto} {a : Nat} {i v : Int} (e : τ = σ.wI a i v) (h : wsSh a i) : KSh σ τ := by subst e; exact Ch.wI Ch.rf h
theorem KSh_of_KB {σ τ : Sto} (h : KB σ τ) : KSh σ τ := Ch.mono h (fun c i z => Or.inl z)
theorem KSh_tk {σ τ : Sto} (h : Ch (fun c i => at2 c i 555 2) σ τ) : KSh σ τ := Ch.mono h (fun c i z => Or.inr (Or.inr (Or.inr (Or.inr z))))
theorem tk_e {σ τ : Sto} (h : ∀ c, 558 ≤ c → c ≤ 564 → τ.I c = σ.I c) : tk τ = tk σ := by
  have h1 : tdQ τ = tdQ σ := by funext w n t; unfold tdQ; rw [h 563 (by omega) (by omega), h 564 (by omega) (by omega)]
  have h2 : isSt τ = isSt σ := by funext a w n; unfold isSt; rw [h1, h 561 (by omega) (by omega)]
  have h3 : syN τ = syN σ := by
    funext a w n s k
    induction k with
    | zero => rfl
    | succ k ih => unfold syN; rw [ih, h1, h 563 (by omega) (by omega), h 564 (by omega) (by omega)]
  have h4 : wT τ = wT σ := by funext a w n; unfold wT wT1 sy; rw [h3, h 560 (by omega) (by omega), h 559 (by omega) (by omega), h 562 (by omega) (by omega)]
  have h5 : wF τ = wF σ := by funext a A b n k; unfold wF; rw [h 558 (by omega) (by omega)]
  funext a A f to i p l
  unfold tk tkS
  rw [h2, h4, h5]

theorem sp_X9_analyse {E : XE} {d : Nat} {σ : Sto} {x1 : Int} (hd : 20 ≤ d) (hL : Lay σ)  (p0 : inR x1) (p1 : 0 ≤ σ.I 555 2 ∧ σ.I 555 2 ≤ 30000) (p2 : 0 ≤ σ.I 555 3 ∧ σ.I 555 3 ≤ 6) (p3 : AC σ) (p4 : bd_0_20 σ 573 300) : CC E mX9_analyse d [aO 555, aI (x1)] σ (RVI (fun y τ => ((¬ (0 ≤ x1 ∧ x1 < σ.I 555 3) ∧ y = -1 ∧ KSh σ τ ∧ τ.I 555 24 = σ.I 555 24 ∧ τ.I 575 = σ.I 575 ∧ τ.I 576 = σ.I 576 ∧ τ.I 555 2 = 0) ∨ ((0 ≤ x1 ∧ x1 < σ.I 555 3) ∧ y = (tk σ x1 (σ.I 557) 0 (σ.I 555 2) 0 0 tl0).1 ∧ KSh σ τ ∧ τ.I 555 24 = (tk σ x1 (σ.I 557) 0 (σ.I 555 2) 0 0 tl0).1 ∧ SHN τ (tk σ x1 (σ.I 557) 0 (σ.I 555 2) 0 0 tl0) (tk σ x1 (σ.I 557) 0 (σ.I 555 2) 0 0 tl0).1 ∧ τ.I 555 2 = 0)) ∧ (KSh σ τ) ∧ (bd_0_20 τ 573 300))) := by sorry
end
section
/-! contracts: printed by tools/mk.py out of s45j_textM.py -/
set_option maxRecDepth 100000
set_option maxHeartbeats 1500000
/-- the token of a WORD -/
def wdT (A : Int → Int) (fr n : Int) : TL := (1, fun _ => min n 20, fun _ k => A (fr + k), fun _ => 0, fun _ => n, fun _ => 0)
/-- the tokens of a value of a field -/
noncomputable def lT (σ : Sto) (f : Int) (A : Int → Int) (fr n : Int) : TL := if σ.I 577 f = 0 then tk σ (σ.I 578 f) A fr (fr + n) fr 0 tl0 else wdT A fr n
/-- what a value more writes, with v values, b bytes, t terms before it -/
def wsAM (v b t : Int) (c : Nat) (i : Int) : Prop := wsB c i ∨ ((c = 579 ∨ c = 580 ∨ c = 581 ∨ c = 582 ∨ c = 583) ∧ v ≤ i) ∨ (c = 585 ∧ b ≤ i) ∨ (c = 586 ∧ 20 * t ≤ i) ∨ ((c = 587 ∨ c = 588 ∨ c = 589 ∨ c = 590) ∧ t ≤ i) ∨ at2 c i 555 30 ∨ at2 c i 555 38 ∨ at2 c i 555 44
abbrev KAM (v b t : Int) (σ τ : Sto) : Prop := Ch (wsAM v b t) σ τ
theorem KAM_rf {v b t : Int} {σ : Sto} : KAM v b t σ σ := Ch.rf
theorem KAM_w {v b t : Int} {σ τ : Sto} {a : Nat} {i x : Int} (e : τ = σ.wI a i x) (h : wsAM v b t a i) : KAM v b t σ τ := by subst e; exact Ch.wI Ch.rf h
theorem KAM_rd {v b t : Int} {σ τ : Sto} {F : Nat → Int → Int} (r : τ.R = σ.R) (s : τ.sh = σ.sh) (n : τ.n = σ.n) (e : τ.I = F) (h : ∀ c i, ¬ wsAM v b t c i → F c i = σ.I c i) : KAM v b t σ τ := ⟨⟨r, s, n⟩, fun c i q => by rw [e]; exact h c i q⟩
theorem KAM_of_KB {v b t : Int} {σ τ : Sto} (h : KB σ τ) : KAM v b t σ τ := Ch.mono h (fun c i z => Or.inl z)
/-- row j of terms laid from t on is token j of a list -/
def LT1 (σ : Sto) (t : Int) (l : TL) (j : Int) : Prop := σ.I 587 (t + j) = l.2.1 j ∧ σ.I 588 (t + j) = l.2.2.2.1 j ∧ σ.I 589 (t + j) = l.2.2.2.2.1 j ∧ σ.I 590 (t + j) = l.2.2.2.2.2 j ∧ ∀ k, 0 ≤ k → k < l.2.1 j → σ.I 586 (20 * (t + j) + k) = l.2.2.1 j k
def LTN (σ : Sto) (t : Int) (l : TL) (n : Int) : Prop := ∀ j, 0 ≤ j → j < n → LT1 σ t l j
theorem LTN_lay {σ τ : Sto} {t n st en po : Int} {l : TL} {A : Int → Int} {x z : Int} (h : LTN σ t l n) (h0 : 0 ≤ n) (hl : ∀ j, 0 ≤ j → j < n → l.2.1 j ≤ 20)
    (e : τ.I = fun c i => if at2 c i 587 (t + n) then z else if rg c i 586 (20 * (t + n)) (20 * (t + n) + z) then A (x + (i - 20 * (t + n))) else if at2 c i 588 (t + n) then st else if at2 c i 589 (t + n) then en else if at2 c i 590 (t + n) then po else if at2 c i 555 44 then t + n + 1 else σ.I c i)
    (hz : z = l.2.1 n) (hs : st = l.2.2.2.1 n) (he : en = l.2.2.2.2.1 n) (hp : po = l.2.2.2.2.2 n) (hb : ∀ k, 0 ≤ k → k < z → A (x + k) = l.2.2.1 n k) : LTN τ t l (n + 1) := by
  intro j j0 j1
  unfold LT1
  rw [e]
  rcases (show j < n ∨ j = n by omega) with q | q
  · obtain ⟨a1, a2, a3, a4, a5⟩ := h j j0 q
    have hj := hl j j0 q
    refine ⟨?_, ?_, ?_, ?_, fun k k0 k1 => ?_⟩
    · grind
    · grind
    · grind
    · grind
    · have := a5 k k0 k1; grind
  · subst q
    refine ⟨?_, ?_, ?_, ?_, fun k k0 k1 => ?_⟩
    · grind
    · grind
    · grind
    · grind
    · have := hb k k0 (by omega); grind
/-- rows of terms from k on are as they were -/
def RSM (σ τ : Sto) (k : Int) : Prop := ∀ c i, 587 ≤ c → c ≤ 590 → k ≤ i → τ.I c i = σ.I c i
theorem RSM_tr {σ τ ρ : Sto} {a b k : Int} (h : RSM σ τ a) (g : RSM τ ρ b) (ha : a ≤ k) (hb : b ≤ k) : RSM σ ρ k := fun c i p q r => (g c i p q (by omega)).trans (h c i p q (by omega))
theorem RSM_lay {σ τ : Sto} {t n st en po : Int} {A : Int → Int} {x z : Int}
    (e : τ.I = fun c i => if at2 c i 587 (t + n) then z else if rg c i 586 (20 * (t + n)) (20 * (t + n) + z) then A (x + (i - 20 * (t + n))) else if at2 c i 588 (t + n) then st else if at2 c i 589 (t + n) then en else if at2 c i 590 (t + n) then po else if at2 c i 555 44 then t + n + 1 else σ.I c i) : RSM σ τ (t + n + 1) := by
  intro c i a b d
  rw [e]
  show (if at2 c i _ _ then _ else if rg c i _ _ _ then _ else if at2 c i _ _ then _ else if at2 c i _ _ then _ else if at2 c i _ _ then _ else if at2 c i _ _ then _ else _) = _
  rw [if_neg (by unfold at2; omega), if_neg (by unfold rg; omega), if_neg (by unfold at2; omega), if_neg (by unfold at2; omega), if_neg (by unfold at2; omega), if_neg (by unfold at2; omega)]
theorem LTN_fr {σ τ : Sto} {t n : Int} {l : TL} (h : LTN σ t l n) (e : ∀ c i, 586 ≤ c → c ≤ 590 → τ.I c i = σ.I c i) : LTN τ t l n := by
  intro j j0 j1
  obtain ⟨a1, a2, a3, a4, a5⟩ := h j j0 j1
  exact ⟨by rw [e _ _ (by decide) (by decide)]; exact a1, by rw [e _ _ (by decide) (by decide)]; exact a2, by rw [e _ _ (by decide) (by decide)]; exact a3, by rw [e _ _ (by decide) (by decide)]; exact a4, fun k k0 k1 => by rw [e _ _ (by decide) (by decide)]; exact a5 k k0 k1⟩
/-- a value more in the model: of field f, n bytes of A from fr on, tokens l -/
def TXM (σ τ : Sto) (f : Int) (A : Int → Int) (fr n : Int) (l : TL) : Prop :=
  KAM (σ.I 555 30) (σ.I 555 38) (σ.I 555 44) σ τ ∧ (τ.I 555 30 = σ.I 555 30 + 1 ∧ τ.I 555 38 = σ.I 555 38 + n ∧ τ.I 555 44 = σ.I 555 44 + l.1) ∧
  (τ.I 579 (σ.I 555 30) = f ∧ τ.I 580 (σ.I 555 30) = σ.I 555 38 ∧ τ.I 581 (σ.I 555 30) = n ∧ τ.I 582 (σ.I 555 30) = σ.I 555 44 ∧ τ.I 582 (σ.I 555 30 + 1) = σ.I 555 44 + l.1 ∧ τ.I 583 (σ.I 555 30) = 0) ∧
  alN (fun k => τ.I 585 (σ.I 555 38 + k) = A (fr + k)) n ∧ LTN τ (σ.I 555 44) l l.1 ∧ RSM σ τ (σ.I 555 44 + l.1)

theorem sp_X9_textOf {E : XE} {d : Nat} {σ : Sto} {x1 : Int} {o2 : Nat} {n2 : Nat} {x3 : Int} {x4 : Int} (hd : 20 ≤ d) (hL : Lay σ) (ho2 : σ.sh o2 = (1, n2)) (p0 : 0 ≤ σ.I 555 45 ∧ σ.I 555 45 ≤ σ.I 555 30) (p1 : σ.I 555 30 ≤ 6000 ∧ σ.I 555 30 ≤ σ.I 555 45 + 24) (p2 : 0 ≤ σ.I 555 38 ∧ σ.I 555 38 ≤ 60000) (p3 : 0 ≤ σ.I 555 44 ∧ σ.I 555 44 ≤ 24000) (p4 : inR x1) (p5 : o2 = 557) (p6 : 0 ≤ x3 ∧ 0 ≤ x4 ∧ x3 + x4 ≤ 30000) (p7 : 0 ≤ σ.I 555 27 ∧ σ.I 555 27 ≤ 12) (p8 : AC σ) (p9 : bd_0_20 σ 573 300) (p10 : bd_0_20 σ 587 24000) (p11 : (0 ≤ x1 ∧ x1 < σ.I 555 27 ∧ σ.I 577 x1 = 0) → 0 ≤ σ.I 578 x1 ∧ σ.I 578 x1 < 6) (p12 : x3 + x4 ≤ n2 ∧ (n2 : Int) ≤ 1000000) : CC E mX9_textOf d [aO 555, aI (x1), aO o2, aI (x3), aI (x4)] σ (RVI (fun y τ => ((¬ (((0 ≤ x1 ∧ x1 < σ.I 555 27 ∧ σ.I 577 x1 = 0) ∨ ((0 ≤ x1 ∧ x1 < σ.I 555 27 ∧ σ.I 577 x1 = 1) ∧ x4 ≠ 0)) ∧ x4 ≤ 1000) ∧ y = -1 ∧ τ = σ) ∨ ((((0 ≤ x1 ∧ x1 < σ.I 555 27 ∧ σ.I 577 x1 = 0) ∨ ((0 ≤ x1 ∧ x1 < σ.I 555 27 ∧ σ.I 577 x1 = 1) ∧ x4 ≠ 0)) ∧ x4 ≤ 1000) ∧ (σ.I 555 30 - σ.I 555 45 = 24 ∨ 60000 < σ.I 555 38 + x4 ∨ 24000 < σ.I 555 44 + (lT σ x1 (σ.I o2) x3 x4).1 ∨ σ.I 555 30 = 6000) ∧ y = -3 ∧ KB σ τ) ∨ ((((0 ≤ x1 ∧ x1 < σ.I 555 27 ∧ σ.I 577 x1 = 0) ∨ ((0 ≤ x1 ∧ x1 < σ.I 555 27 ∧ σ.I 577 x1 = 1) ∧ x4 ≠ 0)) ∧ x4 ≤ 1000) ∧ ¬ (σ.I 555 30 - σ.I 555 45 = 24 ∨ 60000 < σ.I 555 38 + x4 ∨ 24000 < σ.I 555 44 + (lT σ x1 (σ.I o2) x3 x4).1 ∨ σ.I 555 30 = 6000) ∧ y = σ.I 555 30 + 1 - σ.I 555 45 ∧ TXM σ τ x1 (σ.I o2) x3 x4 (lT σ x1 (σ.I o2) x3 x4))) ∧ (bd_0_20 τ 573 300) ∧ (bd_0_20 τ 587 24000))) := by sorry
end
section
/-! contracts: printed by tools/mk.py out of s45k_tkp.py -/
set_option maxRecDepth 100000
set_option maxHeartbeats 1500000
/-! what lists of tokens are like -/
theorem rs_iv {S R : Type} {d : R} {st : S → S ⊕ R} {I : S → Prop} {G : R → Prop} (h1 : ∀ s s', I s → st s = .inl s' → I s') (h2 : ∀ s r, I s → st s = .inr r → G r) (hd : G d) {s : S} (hs : I s) : G (rs d st s) := by
  have key : ∀ (k : Nat) (s : S) (r : R), I s → itN st k s = some r → G r := by
    intro k
    induction k with
    | zero => intro s r _ h; cases h
    | succ k ih =>
      intro s r hs h
      cases hq : st s with
      | inl s' => rw [itN_l hq] at h; exact ih s' r (h1 s s' hs hq) h
      | inr r' => rw [itN_r hq] at h; cases h; exact h2 s r hs hq
  unfold rs pickR
  by_cases he : ∃ r, ∃ k, itN st k s = some r
  · rw [dif_pos he]
    obtain ⟨k, hk⟩ := Classical.choose_spec he
    exact key k s _ hs hk
  · rw [dif_neg he]; exact hd
/-- tokens of a word: sizes, no two alike -/
def TSG (s : TS) : Prop := (0 ≤ s.1 ∧ s.1 ≤ 251) ∧ (∀ t, 0 ≤ t → t < s.1 → 0 ≤ s.2.1 t ∧ s.2.1 t ≤ 20) ∧ ∀ t u, 0 ≤ t → t < u → u < s.1 → ¬ (s.2.1 t = s.2.1 u ∧ eqA (s.2.2 t) (s.2.2 u) 0 0 (s.2.1 u))
theorem TSG_0 : TSG eT0 := ⟨⟨Int.le_refl _, by decide⟩, fun t a b => absurd b (by show ¬ t < 0; omega), fun t u a b c => absurd c (by show ¬ u < 0; omega)⟩
theorem TSG_a {s : TS} {n : Int} {r : Int → Int} (h : TSG s) (hn : 0 ≤ n ∧ n ≤ 20) : TSG (aT s n r) := by
  unfold aT
  by_cases q : aTq s n r
  · rw [if_pos (zb_t q)]; exact h
  · rw [if_neg (by rw [zb_f q]; omega)]
    have q1 : s.1 ≤ 250 := by
      rcases Int.lt_or_le 250 s.1 with z | z
      · exact absurd (Or.inl z) q
      · exact z
    have q2 : ¬ exN (fun t => s.2.1 t = n ∧ eqA (s.2.2 t) r 0 0 n) s.1 := fun z => q (Or.inr z)
    obtain ⟨⟨a1, a2⟩, b, c⟩ := h
    refine ⟨⟨by show 0 ≤ s.1 + 1; omega, by show s.1 + 1 ≤ 251; omega⟩, fun t t0 t1 => ?_, fun t u t0 tu u1 => ?_⟩
    · have t1' : t < s.1 + 1 := t1
      show 0 ≤ up1 s.2.1 s.1 n t ∧ up1 s.2.1 s.1 n t ≤ 20
      unfold up1
      by_cases z : t = s.1
      · rw [if_pos z]; exact hn
      · rw [if_neg z]; exact b t t0 (by omega)
    · have u1' : u < s.1 + 1 := u1
      show ¬ (up1 s.2.1 s.1 n t = up1 s.2.1 s.1 n u ∧ eqA (if t = s.1 then nrm n r else s.2.2 t) (if u = s.1 then nrm n r else s.2.2 u) 0 0 (up1 s.2.1 s.1 n u))
      unfold up1
      rw [if_neg (show ¬ t = s.1 by omega), if_neg (show ¬ t = s.1 by omega)]
      by_cases z : u = s.1
      · rw [if_pos z, if_pos z]
        rintro ⟨y1, y2⟩
        refine q2 ⟨t, t0, by omega, y1, fun k k0 k1 => ?_⟩
        have y3 : s.2.2 t (0 + k) = nrm n r (0 + k) := y2 k k0 k1
        have y4 : nrm n r (0 + k) = r (0 + k) := by unfold nrm; rw [if_pos (by omega)]
        exact y3.trans y4
      · rw [if_neg z, if_neg z]; exact c t u t0 tu (by omega)
theorem TSG_g {g : Int} {v : Int → Int} {s : TS} (h : TSG s) (hg : 0 ≤ g ∧ g ≤ 20) : ∀ k : Nat, TSG (grN g v s k) := by
  intro k
  induction k with
  | zero => exact h
  | succ k ih => exact TSG_a ih hg
/-- an analyser's rows are well made -/
def ARW (σ : Sto) (a : Int) : Prop := (0 ≤ σ.I 560 a ∧ σ.I 560 a ≤ 20) ∧ ∀ k, 0 ≤ k → k < σ.I 562 a → 0 ≤ σ.I 564 (60 * a + 20 + 2 * k + 1) ∧ σ.I 564 (60 * a + 20 + 2 * k + 1) ≤ 20
theorem TSG_y {σ : Sto} {a : Int} {w : Int → Int} {n : Int} {s : TS} (h : TSG s) (ha : ARW σ a) : ∀ k : Nat, (k : Int) ≤ σ.I 562 a ∨ k = 0 → TSG (syN σ a w n s k) := by
  intro k
  induction k with
  | zero => intro _; exact h
  | succ k ih =>
    intro hk
    have h1 := ih (Or.inl (by omega))
    have e := sy_e σ a w n s k ((k + 1 : Nat) : Int) (by omega) (by omega)
    unfold sy at e
    rw [show (((k + 1 : Nat) : Int)).toNat = k + 1 by omega, show ((k : Int)).toNat = k by omega] at e
    rw [e]
    by_cases q : zb (tdQ σ w n (60 * a + 20 + 2 * k)) = 1
    · rw [if_pos q]; exact TSG_a h1 (ha.2 k (by omega) (by omega))
    · rw [if_neg q]; exact h1
theorem TSG_w {σ : Sto} {a : Int} {w : Int → Int} {n : Int} (ha : ARW σ a) (hn : 0 ≤ n) : TSG (wT σ a w n) := by
  unfold wT sy
  refine TSG_y ?_ ha _ (by omega)
  unfold wT1
  have hb := stmL_b (w := w) (σ.I 559 a) hn
  split
  · exact TSG_a TSG_0 ⟨by omega, by omega⟩
  · exact TSG_g TSG_0 ha.1 _
/-- tokens of a text, as far as place i, word p -/
def TKI (l : TL) (f i p : Int) : Prop := (0 ≤ l.1 ∧ l.1 ≤ 250) ∧ (∀ j, 0 ≤ j → j < l.1 → (0 ≤ l.2.2.2.2.2 j ∧ l.2.2.2.2.2 j < p) ∧ 2 * l.2.2.2.2.2 j ≤ l.2.2.2.1 j ∧ l.2.2.2.1 j < l.2.2.2.2.1 j ∧ l.2.2.2.2.1 j ≤ i - f ∧ 0 ≤ l.2.1 j ∧ l.2.1 j ≤ 20) ∧
  ∀ j k, 0 ≤ j → j < k → k < l.1 → l.2.2.2.2.2 j ≤ l.2.2.2.2.2 k ∧ (l.2.2.2.2.2 j = l.2.2.2.2.2 k → (l.2.2.2.1 j = l.2.2.2.1 k ∧ l.2.2.2.2.1 j = l.2.2.2.2.1 k) ∧ ¬ (l.2.1 j = l.2.1 k ∧ eqA (l.2.2.1 j) (l.2.2.1 k) 0 0 (l.2.1 k))) ∧ (l.2.2.2.2.2 j < l.2.2.2.2.2 k → l.2.2.2.2.1 j ≤ l.2.2.2.1 k)
theorem TKI_mono {l : TL} {f i p i' p' : Int} (h : TKI l f i p) (hi : i ≤ i') (hp : p ≤ p') : TKI l f i' p' := ⟨h.1, fun j a b => by obtain ⟨q1, q2, q3, q4, q5⟩ := h.2.1 j a b; exact ⟨⟨q1.1, by omega⟩, q2, q3, by omega, q5⟩, h.2.2⟩
theorem TKI_ap {l : TL} {s : TS} {f i e p : Int} (h : TKI l f i p) (hs : TSG s) (hc : l.1 + s.1 ≤ 250) (hp : 0 ≤ p) (h2 : 2 * p ≤ i - f) (he : i < e) : TKI (apT l s s.1 (i - f) (e - f) p) f e (p + 1) := by
  obtain ⟨⟨n0, n1⟩, hr, hm⟩ := h
  obtain ⟨⟨s0, s1⟩, sz, sd⟩ := hs
  have q1 : ∀ j, (apT l s s.1 (i - f) (e - f) p).2.1 j = if l.1 ≤ j then s.2.1 (j - l.1) else l.2.1 j := fun _ => rfl
  have q2 : ∀ j, (apT l s s.1 (i - f) (e - f) p).2.2.1 j = if l.1 ≤ j then s.2.2 (j - l.1) else l.2.2.1 j := fun _ => rfl
  have q3 : ∀ j, (apT l s s.1 (i - f) (e - f) p).2.2.2.1 j = if l.1 ≤ j then i - f else l.2.2.2.1 j := fun _ => rfl
  have q4 : ∀ j, (apT l s s.1 (i - f) (e - f) p).2.2.2.2.1 j = if l.1 ≤ j then e - f else l.2.2.2.2.1 j := fun _ => rfl
  have q5 : ∀ j, (apT l s s.1 (i - f) (e - f) p).2.2.2.2.2 j = if l.1 ≤ j then p else l.2.2.2.2.2 j := fun _ => rfl
  have q0 : (apT l s s.1 (i - f) (e - f) p).1 = l.1 + s.1 := rfl
  refine ⟨⟨by rw [q0]; omega, by rw [q0]; omega⟩, fun j j0 j1 => ?_, fun j k j0 jk k1 => ?_⟩
  · rw [q0] at j1
    rw [q1, q3, q4, q5]
    by_cases c : l.1 ≤ j
    · rw [if_pos c, if_pos c, if_pos c, if_pos c]
      have := sz (j - l.1) (by omega) (by omega)
      exact ⟨⟨hp, by omega⟩, h2, by omega, by omega, this.1, this.2⟩
    · rw [if_neg c, if_neg c, if_neg c, if_neg c]
      obtain ⟨a1, a2, a3, a4, a5⟩ := hr j j0 (by omega)
      exact ⟨⟨a1.1, by omega⟩, a2, a3, by omega, a5⟩
  · rw [q0] at k1
    rw [q1, q1, q2, q2, q3, q3, q4, q4, q5, q5]
    by_cases c : l.1 ≤ j
    · have c2 : l.1 ≤ k := by omega
      rw [if_pos c, if_pos c, if_pos c, if_pos c, if_pos c, if_pos c2, if_pos c2, if_pos c2, if_pos c2, if_pos c2]
      exact ⟨Int.le_refl _, fun _ => ⟨⟨rfl, rfl⟩, sd (j - l.1) (k - l.1) (by omega) (by omega) (by omega)⟩, fun z => by omega⟩
    · rw [if_neg c, if_neg c, if_neg c, if_neg c, if_neg c]
      by_cases c2 : l.1 ≤ k
      · rw [if_pos c2, if_pos c2, if_pos c2, if_pos c2, if_pos c2]
        have := hr j j0 (by omega)
        exact ⟨by omega, fun z => by omega, fun _ => by omega⟩
      · rw [if_neg c2, if_neg c2, if_neg c2, if_neg c2, if_neg c2]
        exact hm j k j0 jk (by omega)
theorem tk_TKI {σ : Sto} {a : Int} {A : Int → Int} {f to : Int} (ha : ARW σ a) (h0 : 0 ≤ f) (ht : f ≤ to) : TKI (tk σ a A f to f 0 tl0) f to to := by
  unfold tk
  have hz : TKI tl0 f f 0 := ⟨⟨Int.le_refl _, by decide⟩, fun j a b => absurd b (by show ¬ j < 0; omega), fun j k a b c => absurd c (by show ¬ k < 0; omega)⟩
  have hz2 : TKI tl0 f to to := TKI_mono hz ht (by omega)
  refine rs_iv (st := tkS σ a A f to) (d := tl0) (I := fun s => (f ≤ s.1 ∧ s.1 ≤ to) ∧ 0 ≤ s.2.1 ∧ f + 2 * s.2.1 ≤ s.1 + 1 ∧ (f + 2 * s.2.1 = s.1 + 1 → to ≤ s.1 ∨ ¬ isLet (A s.1 % 256)) ∧ TKI s.2.2 f s.1 s.2.1) (G := fun l => TKI l f to to) ?_ ?_ hz2 ⟨⟨Int.le_refl _, ht⟩, Int.le_refl _, by show f + 2 * 0 ≤ f + 1; omega, fun z => by have z : f + 2 * 0 = f + 1 := z; omega, hz⟩
  · rintro ⟨i, p, l⟩ ⟨i', p', l'⟩ ⟨⟨b1, b2⟩, b3, b4, b5, b6⟩ hq
    have b1 : f ≤ i := b1
    have b2 : i ≤ to := b2
    have b3 : 0 ≤ p := b3
    have b4 : f + 2 * p ≤ i + 1 := b4
    unfold tkS at hq
    by_cases c1 : i < to
    · by_cases c2 : isLet (A i % 256)
      · have hw := we_b (A := A) (by omega) c1 c2
        have hb4 : f + 2 * p ≤ i := by
          rcases Int.lt_or_le i (f + 2 * p) with z | z
          · exact absurd (b5 (by show f + 2 * p = i + 1; omega)) (fun y => y.elim (fun x => by have x : to ≤ i := x; omega) (fun x => x c2))
          · exact z
        have hend : we A i to = to ∨ ¬ isLet (A (we A i to) % 256) := by
          unfold we
          rcases fsF_in (fun k => ¬ isLet (A k % 256)) i to with z | ⟨z1, z2, z3⟩
          · rw [if_pos z]; exact Or.inl rfl
          · rw [if_neg (by omega)]; exact Or.inr z3
        by_cases c3 : isSt σ a (wF σ a A i (we A i to - i)) (we A i to - i)
        · simp only [if_pos c1, if_pos (zb_t c2), if_pos (zb_t c3)] at hq
          cases hq
          exact ⟨⟨by show f ≤ we A i to; omega, hw.2⟩, by show 0 ≤ p + 1; omega, by show f + 2 * (p + 1) ≤ we A i to + 1; omega, fun _ => hend.elim (fun z => Or.inl (by show to ≤ we A i to; omega)) Or.inr, TKI_mono b6 (by show i ≤ we A i to; omega) (by show p ≤ p + 1; omega)⟩
        · simp only [if_pos c1, if_pos (zb_t c2), if_neg (show ¬ zb (isSt σ a (wF σ a A i (we A i to - i)) (we A i to - i)) = 1 by rw [zb_f c3]; omega)] at hq
          by_cases c4 : l.1 + (wT σ a (wF σ a A i (we A i to - i)) (we A i to - i)).1 ≤ 250
          · rw [if_pos c4] at hq
            cases hq
            refine ⟨⟨by show f ≤ we A i to; omega, hw.2⟩, by show 0 ≤ p + 1; omega, by show f + 2 * (p + 1) ≤ we A i to + 1; omega, fun _ => hend.elim (fun z => Or.inl (by show to ≤ we A i to; omega)) Or.inr, ?_⟩
            exact TKI_ap b6 (TSG_w ha (by omega)) c4 b3 (by omega) hw.1
          · rw [if_neg c4] at hq; cases hq
      · simp only [if_pos c1, if_neg (show ¬ zb (isLet (A i % 256)) = 1 by rw [zb_f c2]; omega)] at hq
        cases hq
        exact ⟨⟨by show f ≤ i + 1; omega, by show i + 1 ≤ to; omega⟩, b3, by show f + 2 * p ≤ i + 1 + 1; omega, fun z => by have z : f + 2 * p = i + 1 + 1 := z; omega, TKI_mono b6 (by show i ≤ i + 1; omega) (Int.le_refl _)⟩
    · simp only [if_neg c1] at hq; cases hq
  · rintro ⟨i, p, l⟩ r ⟨⟨b1, b2⟩, b3, b4, b5, b6⟩ hq
    have b2 : i ≤ to := b2
    have b4 : f + 2 * p ≤ i + 1 := b4
    have hl : r = l := by
      unfold tkS at hq
      by_cases c1 : i < to
      · by_cases c2 : isLet (A i % 256)
        · by_cases c3 : isSt σ a (wF σ a A i (we A i to - i)) (we A i to - i)
          · simp only [if_pos c1, if_pos (zb_t c2), if_pos (zb_t c3)] at hq; cases hq
          · simp only [if_pos c1, if_pos (zb_t c2), if_neg (show ¬ zb (isSt σ a (wF σ a A i (we A i to - i)) (we A i to - i)) = 1 by rw [zb_f c3]; omega)] at hq
            by_cases c4 : l.1 + (wT σ a (wF σ a A i (we A i to - i)) (we A i to - i)).1 ≤ 250
            · rw [if_pos c4] at hq; cases hq
            · rw [if_neg c4] at hq; cases hq; rfl
        · simp only [if_pos c1, if_neg (show ¬ zb (isLet (A i % 256)) = 1 by rw [zb_f c2]; omega)] at hq; cases hq
      · simp only [if_neg c1] at hq; cases hq; rfl
    subst hl
    refine TKI_mono b6 b2 ?_
    show p ≤ to
    omega
end
section
/-! contracts: printed by tools/mk.py out of s45l_come.py -/
set_option maxRecDepth 100000
set_option maxHeartbeats 1500000
/-- the terms' table grows: what was there stays -/
def TXT (σ τ : Sto) : Prop := σ.I 18 7 ≤ τ.I 18 7 ∧ (∀ t, 0 ≤ t → t < σ.I 18 7 → τ.I 20 t = σ.I 20 t ∧ τ.I 21 t = σ.I 21 t ∧ τ.I 22 t = σ.I 22 t ∧ τ.I 23 t = σ.I 23 t) ∧ (∀ i, i < 20 * σ.I 18 7 → τ.I 19 i = σ.I 19 i) ∧ ∀ t, σ.I 18 7 ≤ t → t < τ.I 18 7 → τ.I 22 t = -1 ∧ τ.I 23 t = -1
theorem TXT_rf {σ : Sto} : TXT σ σ := ⟨Int.le_refl _, fun _ _ _ => ⟨rfl, rfl, rfl, rfl⟩, fun _ _ => rfl, fun t a b => by omega⟩
theorem TXT_tr {σ τ ρ : Sto} (h : TXT σ τ) (g : TXT τ ρ) (h0 : 0 ≤ σ.I 18 7) : TXT σ ρ := by
  obtain ⟨h1, h2, h3, h4⟩ := h
  obtain ⟨g1, g2, g3, g4⟩ := g
  refine ⟨by omega, fun t a b => ?_, fun i a => (g3 i (by omega)).trans (h3 i a), fun t a b => ?_⟩
  · obtain ⟨p1, p2, p3, p4⟩ := h2 t a b
    obtain ⟨q1, q2, q3, q4⟩ := g2 t a (by omega)
    exact ⟨q1.trans p1, q2.trans p2, q3.trans p3, q4.trans p4⟩
  · rcases (show t < τ.I 18 7 ∨ τ.I 18 7 ≤ t by omega) with q | q
    · obtain ⟨_, _, q3, q4⟩ := g2 t (by omega) q
      rw [q3, q4]; exact h4 t a q
    · exact g4 t q b
theorem TXT_eq {σ τ : Sto} (h : ∀ c, 18 ≤ c → c ≤ 23 → τ.I c = σ.I c) : TXT σ τ := by
  refine ⟨by rw [h 18 (by omega) (by omega)]; exact Int.le_refl _, fun t _ _ => ?_, fun i _ => by rw [h 19 (by omega) (by omega)], fun t a b => by rw [h 18 (by omega) (by omega)] at b; omega⟩
  rw [h 20 (by omega) (by omega), h 21 (by omega) (by omega), h 22 (by omega) (by omega), h 23 (by omega) (by omega)]
  exact ⟨rfl, rfl, rfl, rfl⟩
/-- term t is a row of n bytes of field f -/
def rowX (σ : Sto) (t f n : Int) (r : Int → Int) : Prop := (0 ≤ t ∧ t < σ.I 18 7) ∧ σ.I 20 t = f ∧ σ.I 21 t = n ∧ ∀ k, 0 ≤ k → k < n → σ.I 19 (20 * t + k) = r k
theorem rowX_x {σ τ : Sto} {t f n : Int} {r : Int → Int} (h : TXT σ τ) (g : rowX σ t f n r) (hn : n ≤ 20) : rowX τ t f n r := by
  obtain ⟨h1, h2, h3, _⟩ := h
  obtain ⟨⟨g1, g2⟩, g3, g4, g5⟩ := g
  obtain ⟨q1, q2, _, _⟩ := h2 t g1 g2
  exact ⟨⟨g1, by omega⟩, q1.trans g3, q2.trans g4, fun k k0 k1 => (h3 _ (by omega)).trans (g5 k k0 k1)⟩
theorem rowX_r {σ : Sto} {t f n : Int} {r r' : Int → Int} (g : rowX σ t f n r) (h : ∀ k, 0 ≤ k → k < n → r k = r' k) : rowX σ t f n r' := ⟨g.1, g.2.1, g.2.2.1, fun k k0 k1 => (g.2.2.2 k k0 k1).trans (h k k0 k1)⟩
/-- no two terms are alike -/
def TU (σ : Sto) : Prop := ∀ s t, 0 ≤ s → s < t → t < σ.I 18 7 → ¬ (σ.I 20 s = σ.I 20 t ∧ σ.I 21 s = σ.I 21 t ∧ ∀ k, 0 ≤ k → k < σ.I 21 t → σ.I 19 (20 * s + k) = σ.I 19 (20 * t + k))
theorem TU_eq {σ τ : Sto} (h : TU σ) (e : ∀ c, 18 ≤ c → c ≤ 21 → τ.I c = σ.I c) : TU τ := by
  unfold TU
  rw [e 18 (by omega) (by omega), e 19 (by omega) (by omega), e 20 (by omega) (by omega), e 21 (by omega) (by omega)]
  exact h
theorem rowX_u {σ : Sto} {s t f n : Int} {r : Int → Int} (h : TU σ) (hs : rowX σ s f n r) (ht : rowX σ t f n r) : s = t := by
  rcases (show s < t ∨ s = t ∨ t < s by omega) with q | q | q
  · exact absurd ⟨hs.2.1.trans ht.2.1.symm, hs.2.2.1.trans ht.2.2.1.symm, fun k k0 k1 => (hs.2.2.2 k k0 (by rw [ht.2.2.1] at k1; exact k1)).trans (ht.2.2.2 k k0 (by rw [ht.2.2.1] at k1; exact k1)).symm⟩ (h s t hs.1.1 q ht.1.2)
  · exact q
  · exact absurd ⟨ht.2.1.trans hs.2.1.symm, ht.2.2.1.trans hs.2.2.1.symm, fun k k0 k1 => (ht.2.2.2 k k0 (by rw [hs.2.2.1] at k1; exact k1)).trans (hs.2.2.2 k k0 (by rw [hs.2.2.1] at k1; exact k1)).symm⟩ (h t s ht.1.1 q hs.1.2)
theorem ls_none {q : Int → Prop} {n : Int} (h : ls q n = -1) {s : Int} (h0 : 0 ≤ s) (h1 : s < n) : ¬ q s := by
  obtain ⟨m, rfl⟩ : ∃ m : Nat, n = m := ⟨n.toNat, by omega⟩
  induction m with
  | zero => omega
  | succ m ih =>
    by_cases c : q m
    · rw [ls_t q m _ (by omega) (by omega) c] at h; omega
    · rw [ls_f q m _ (by omega) (by omega) c] at h
      rcases (show s < (m : Int) ∨ s = m by omega) with z | z
      · exact ih h z
      · rw [z]; exact c
/-- terms that are new are of field f -/
def TXNF (σ τ : Sto) (f : Int) : Prop := ∀ t, σ.I 18 7 ≤ t → t < τ.I 18 7 → τ.I 20 t = f
theorem TXNF_e {σ τ : Sto} {f : Int} (e : ∀ c i, 18 ≤ c → c ≤ 25 → τ.I c i = σ.I c i) : TXNF σ τ f := fun t a b => by rw [e 18 7 (by decide) (by decide)] at b; omega
theorem TXNF_tr {σ τ ρ : Sto} {f : Int} (h : TXNF σ τ f) (x : TXT τ ρ) (g : TXNF τ ρ f) (h0 : 0 ≤ σ.I 18 7) : TXNF σ ρ f := fun t a b => by
  by_cases q : t < τ.I 18 7
  · exact (x.2.1 t (by omega) q).1.trans (h t a q)
  · exact g t (by omega) b
section COMEX
variable {σ τ : Sto} {f : Int} {A : Int → Int} {i n y : Int}
theorem come_x (hU : TU σ) (hn : 0 ≤ n ∧ n ≤ 20) (hC : 0 ≤ σ.I 18 7 ∧ σ.I 18 7 < 36499) (hz : bd_0_20 σ 21 36500) (hz2 : bd_0_12 σ 20 36500) (hf : 0 ≤ f ∧ f ≤ 12)
    (hy : y = if ls (tQ σ f A i n) (σ.I 18 7) = -1 then σ.I 18 7 else ls (tQ σ f A i n) (σ.I 18 7))
    (e : τ.I = fun c j => if ls (tQ σ f A i n) (σ.I 18 7) = -1 then (if rg c j 19 (20 * σ.I 18 7) (20 * σ.I 18 7 + n) then A (i + (j - 20 * σ.I 18 7)) else if at2 c j 20 (σ.I 18 7) then f else if at2 c j 21 (σ.I 18 7) then n else if at2 c j 22 (σ.I 18 7) then -1 else if at2 c j 23 (σ.I 18 7) then -1 else if at2 c j 24 (σ.I 18 7) then σ.I 25 (chO A i f n) else if at2 c j 25 (chO A i f n) then σ.I 18 7 else if at2 c j 18 7 then σ.I 18 7 + 1 else σ.I c j) else σ.I c j) :
    TXT σ τ ∧ TU τ ∧ rowX τ y f n (fun k => A (i + k)) ∧ τ.I 18 7 ≤ σ.I 18 7 + 1 ∧ bd_0_20 τ 21 36500 ∧ bd_0_12 τ 20 36500 ∧ ∀ c j, ¬ (19 ≤ c ∧ c ≤ 25) → ¬ at2 c j 18 7 → τ.I c j = σ.I c j := by
  by_cases c : ls (tQ σ f A i n) (σ.I 18 7) = -1
  · simp only [if_pos c] at e hy
    have e19 : ∀ j, τ.I 19 j = if 20 * σ.I 18 7 ≤ j ∧ j < 20 * σ.I 18 7 + n then A (i + (j - 20 * σ.I 18 7)) else σ.I 19 j := fun j => by rw [e]; grind
    have e20 : ∀ j, τ.I 20 j = if j = σ.I 18 7 then f else σ.I 20 j := fun j => by rw [e]; grind
    have e21 : ∀ j, τ.I 21 j = if j = σ.I 18 7 then n else σ.I 21 j := fun j => by rw [e]; grind
    have e22 : ∀ j, τ.I 22 j = if j = σ.I 18 7 then -1 else σ.I 22 j := fun j => by rw [e]; grind
    have e23 : ∀ j, τ.I 23 j = if j = σ.I 18 7 then -1 else σ.I 23 j := fun j => by rw [e]; grind
    have e18 : τ.I 18 7 = σ.I 18 7 + 1 := by rw [e]; grind
    have eo : ∀ c j, ¬ (19 ≤ c ∧ c ≤ 25) → ¬ at2 c j 18 7 → τ.I c j = σ.I c j := fun c j a b => by rw [e]; grind
    refine ⟨⟨by omega, fun t a b => ?_, fun j a => ?_, fun t a b => ?_⟩, fun s t a b d => ?_, ⟨⟨by omega, by omega⟩, ?_, ?_, fun k k0 k1 => ?_⟩, by omega, fun j a b => ?_, fun j a b => ?_, eo⟩
    · rw [e20, e21, e22, e23, if_neg (by omega), if_neg (by omega), if_neg (by omega), if_neg (by omega)]; exact ⟨rfl, rfl, rfl, rfl⟩
    · rw [e19, if_neg (by omega)]
    · rw [e22, e23, if_pos (by omega), if_pos (by omega)]; exact ⟨rfl, rfl⟩
    · rw [e18] at d
      have hs := hz s a (by omega)
      rw [e20, e21, if_neg (show ¬ s = σ.I 18 7 by omega), if_neg (show ¬ s = σ.I 18 7 by omega)]
      rcases (show t < σ.I 18 7 ∨ t = σ.I 18 7 by omega) with q | q
      · have ht := hz t (by omega) (by omega)
        rw [e20, e21, if_neg (by omega), if_neg (by omega)]
        rintro ⟨y1, y2, y3⟩
        refine hU s t a b q ⟨y1, y2, fun k k0 k1 => ?_⟩
        have := y3 k k0 k1
        rw [e19, e19, if_neg (by omega), if_neg (by omega)] at this
        exact this
      · rw [e20, e21, if_pos q, if_pos q]
        rintro ⟨y1, y2, y3⟩
        refine ls_none c a (by omega) ⟨⟨y1, y2⟩, fun k k0 k1 => ?_⟩
        have := y3 k k0 k1
        rw [e19, e19, if_neg (by omega), if_pos (by omega), q, show 20 * σ.I 18 7 + k - 20 * σ.I 18 7 = k by omega] at this
        exact this
    · rw [e20, hy, if_pos rfl]
    · rw [e21, hy, if_pos rfl]
    · rw [e19, hy, if_pos (by omega), show 20 * σ.I 18 7 + k - 20 * σ.I 18 7 = k by omega]
    · rw [e21]; have := hz j a b; split <;> omega
    · rw [e20]; have := hz2 j a b; split <;> omega
  · simp only [if_neg c] at e hy
    have e' : τ.I = σ.I := e
    have hin := ls_in (tQ σ f A i n) (σ.I 18 7)
    rcases hin with z | ⟨z1, z2, z3⟩
    · exact absurd z c
    · rw [← hy] at z1 z2 z3
      refine ⟨TXT_eq (fun c _ _ => by rw [e']), TU_eq hU (fun c _ _ => by rw [e']), ?_, by rw [e']; omega, ?_, ?_, fun c j _ _ => by rw [e']⟩
      · unfold rowX
        rw [e']
        exact ⟨⟨z1, z2⟩, z3.1.1, z3.1.2, fun k k0 k1 => z3.2 k k0 k1⟩
      · intro j a b; rw [e']; exact hz j a b
      · intro j a b; rw [e']; exact hz2 j a b
theorem come_f (e : τ.I = fun c j => if ls (tQ σ f A i n) (σ.I 18 7) = -1 then (if rg c j 19 (20 * σ.I 18 7) (20 * σ.I 18 7 + n) then A (i + (j - 20 * σ.I 18 7)) else if at2 c j 20 (σ.I 18 7) then f else if at2 c j 21 (σ.I 18 7) then n else if at2 c j 22 (σ.I 18 7) then -1 else if at2 c j 23 (σ.I 18 7) then -1 else if at2 c j 24 (σ.I 18 7) then σ.I 25 (chO A i f n) else if at2 c j 25 (chO A i f n) then σ.I 18 7 else if at2 c j 18 7 then σ.I 18 7 + 1 else σ.I c j) else σ.I c j) : TXNF σ τ f := by
  intro t a b
  by_cases c : ls (tQ σ f A i n) (σ.I 18 7) = -1
  · simp only [if_pos c] at e
    have e20 : τ.I 20 t = if t = σ.I 18 7 then f else σ.I 20 t := by rw [e]; grind
    have e18 : τ.I 18 7 = σ.I 18 7 + 1 := by rw [e]; grind
    rw [e20, if_pos (by omega)]
  · simp only [if_neg c] at e
    have e' : τ.I = σ.I := e
    rw [e'] at b
    omega
end COMEX
end
section
/-! contracts: printed by tools/mk.py out of s47_giveX.py -/
set_option maxRecDepth 100000
set_option maxHeartbeats 1500000
/-- what SearchHouse's giving of positions writes -/
def wsG (o : Nat) (c : Nat) (i : Int) : Prop := (c = o + 32 ∨ c = o + 33) ∧ i = i
abbrev KG (o : Nat) (σ τ : Sto) : Prop := Ch (wsG o) σ τ
theorem KG_rf {o : Nat} {σ : Sto} : KG o σ σ := Ch.rf
theorem KG_w {o : Nat} {σ τ : Sto} {a : Nat} {i v : Int} (e : τ = σ.wI a i v) (h : wsG o a i) : KG o σ τ := by subst e; exact Ch.wI Ch.rf h
/-- place p has a token at position y, as the bits say -/
def stX (σ : Sto) (o : Nat) (p y : Int) : Prop := (0 ≤ y ∧ y < 512) ∧ bt64 (σ.I (o + 31) (8 * p + y / 64)) (y % 64)
theorem stX_k {o : Nat} {σ τ : Sto} (h : KG o σ τ) : stX τ o = stX σ o := by
  funext p y
  unfold stX
  rw [Ch.at h (c := o + 31) (by unfold wsG; omega)]
theorem sh_b : ∀ n : Fin 512, ((Int32.ofInt (n.val : Int)).toInt64 &&& 63) = ((Int32.ofInt ((n.val : Int) % 64)).toInt64 &&& 63) := by decide +kernel
theorem b64shr_m {x y : Int} (h0 : 0 ≤ y) (h1 : y < 512) : b64shr x y = b64shr x (y % 64) := by
  unfold b64shr
  have e := sh_b ⟨y.toNat, by omega⟩
  simp only [ofNat_ofInt h0] at e
  rw [e]
theorem b64shl_m {x y : Int} (h0 : 0 ≤ y) (h1 : y < 512) : b64shl x y = b64shl x (y % 64) := by
  unfold b64shl
  have e := sh_b ⟨y.toNat, by omega⟩
  simp only [ofNat_ofInt h0] at e
  rw [e]
theorem shr6_b : ∀ n : Fin 512, b32shr (n.val : Int) 6 = (n.val : Int) / 64 := by decide +kernel
theorem shr6 {y : Int} (h0 : 0 ≤ y) (h1 : y < 512) : b32shr y 6 = y / 64 := by
  have e := shr6_b ⟨y.toNat, by omega⟩
  simp only [ofNat_ofInt h0] at e
  exact e
theorem bit_m {x y : Int} (hx : inL x) (h0 : 0 ≤ y) (h1 : y < 512) : b64and (b64shr x y) 1 = 1 ↔ bt64 x (y % 64) := by rw [b64shr_m h0 h1]; exact bt64_t hx (by omega)
/-- place 0's position counts as tried -/
def OZ (T T' : Int → Int) : Prop := ∀ z, T' z = 0 → T z = 0
theorem OZ_up {T T' : Int → Int} {y v : Int} (h : OZ T T') (hv : v ≠ 0) : OZ T (up1 T' y v) := fun z hz => by
  unfold up1 at hz
  split at hz
  · exact absurd hz hv
  · exact h z hz
def ZR (T R : Int → Int) : Prop := ∀ y, 0 ≤ y → y < 512 → T y = 0 → R y = 1

theorem sp_X5_isAt {E : XE} {d : Nat} {σ : Sto} {o0 : Nat} {x1 : Int} {x2 : Int} (hd : 1 ≤ d) (hL : Lay σ) (ho0 : At5 σ o0) (p0 : 0 ≤ x1 ∧ x1 < 16) (p1 : inR x2) : CC E mX5_isAt d [aO o0, aI (x1), aI (x2)] σ (RZ σ (stX σ o0 x1 x2)) := by sorry
abbrev RC_X5_give (E : XE) (k : Nat) : Prop := ∀ {d : Nat} {σ : Sto} {o0 : Nat} {x1 : Int} {x2 : Int} {x3 : Int} {x4 : Int}, k + 3 ≤ d → Lay σ → At5 σ o0 → (1 ≤ x2 ∧ x2 < 16) → (-9 ≤ x3 ∧ x3 ≤ 1000) → (0 ≤ x4 ∧ x4 ≤ 9) → (0 ≤ x1 ∧ x1 < 200) → (0 ≤ σ.I (o0 + 24) x1 ∧ σ.I (o0 + 24) x1 ≤ 984) → (bd_0_500 σ (o0 + 26) 1000) → (bd_m1_15 σ (o0 + 32) 512) → (ZR (σ.I (o0 + 32)) (σ.I (o0 + 33))) → (un (σ.I (o0 + 33)) 512 ≤ k) → CC E mX5_give d [aO o0, aI (x1), aI (x2), aI (x3), aI (x4)] σ (RVZ (fun y τ => (FP (stX σ o0) (fun p => σ.I (o0 + 26) (σ.I (o0 + 24) x1 + p)) x3 x4 x2 (max 0 (x3 + σ.I (o0 + 26) (σ.I (o0 + 24) x1 + x2))) (σ.I (o0 + 32)) (σ.I (o0 + 33)) (y, τ.I (o0 + 32), τ.I (o0 + 33))) ∧ (bd_m1_15 τ (o0 + 32) 512) ∧ (un (τ.I (o0 + 33)) 512 ≤ un (σ.I (o0 + 33)) 512) ∧ (ZR (τ.I (o0 + 32)) (τ.I (o0 + 33))) ∧ (OZ (σ.I (o0 + 32)) (τ.I (o0 + 32))) ∧ (KG o0 σ τ)))
theorem sp_X5_give {E : XE} {d : Nat} {σ : Sto} {k : Nat} {o0 : Nat} {x1 : Int} {x2 : Int} {x3 : Int} {x4 : Int} (hd : k + 3 ≤ d) (hL : Lay σ) (ho0 : At5 σ o0) (p0 : 1 ≤ x2 ∧ x2 < 16) (p1 : -9 ≤ x3 ∧ x3 ≤ 1000) (p2 : 0 ≤ x4 ∧ x4 ≤ 9) (p3 : 0 ≤ x1 ∧ x1 < 200) (p4 : 0 ≤ σ.I (o0 + 24) x1 ∧ σ.I (o0 + 24) x1 ≤ 984) (p5 : bd_0_500 σ (o0 + 26) 1000) (p6 : bd_m1_15 σ (o0 + 32) 512) (p7 : ZR (σ.I (o0 + 32)) (σ.I (o0 + 33))) (p8 : un (σ.I (o0 + 33)) 512 ≤ k) (p9 : ∀ j, j < k → RC_X5_give E j) : CC E mX5_give d [aO o0, aI (x1), aI (x2), aI (x3), aI (x4)] σ (RVZ (fun y τ => (FP (stX σ o0) (fun p => σ.I (o0 + 26) (σ.I (o0 + 24) x1 + p)) x3 x4 x2 (max 0 (x3 + σ.I (o0 + 26) (σ.I (o0 + 24) x1 + x2))) (σ.I (o0 + 32)) (σ.I (o0 + 33)) (y, τ.I (o0 + 32), τ.I (o0 + 33))) ∧ (bd_m1_15 τ (o0 + 32) 512) ∧ (un (τ.I (o0 + 33)) 512 ≤ un (σ.I (o0 + 33)) 512) ∧ (ZR (τ.I (o0 + 32)) (τ.I (o0 + 33))) ∧ (OZ (σ.I (o0 + 32)) (τ.I (o0 + 32))) ∧ (KG o0 σ τ))) := by sorry
theorem rc_X5_give {E : XE} : ∀ (k : Nat), RC_X5_give E k := by
  intro  k
  induction k using Nat.strongRecOn with
  | ind k ih =>
    intro d σ o0 x1 x2 x3 x4 hd hL ho0 p0 p1 p2 p3 p4 p5 p6 p7 p8
    exact sp_X5_give hd hL ho0 p0 p1 p2 p3 p4 p5 p6 p7 p8 ih
theorem sx_X5_give {E : XE} {d : Nat} {σ : Sto} {k : Nat} {o0 : Nat} {x1 : Int} {x2 : Int} {x3 : Int} {x4 : Int} (hd : k + 3 ≤ d) (hL : Lay σ) (ho0 : At5 σ o0) (p0 : 1 ≤ x2 ∧ x2 < 16) (p1 : -9 ≤ x3 ∧ x3 ≤ 1000) (p2 : 0 ≤ x4 ∧ x4 ≤ 9) (p3 : 0 ≤ x1 ∧ x1 < 200) (p4 : 0 ≤ σ.I (o0 + 24) x1 ∧ σ.I (o0 + 24) x1 ≤ 984) (p5 : bd_0_500 σ (o0 + 26) 1000) (p6 : bd_m1_15 σ (o0 + 32) 512) (p7 : ZR (σ.I (o0 + 32)) (σ.I (o0 + 33))) (p8 : un (σ.I (o0 + 33)) 512 ≤ k) : CC E mX5_give d [aO o0, aI (x1), aI (x2), aI (x3), aI (x4)] σ (RVZ (fun y τ => (FP (stX σ o0) (fun p => σ.I (o0 + 26) (σ.I (o0 + 24) x1 + p)) x3 x4 x2 (max 0 (x3 + σ.I (o0 + 26) (σ.I (o0 + 24) x1 + x2))) (σ.I (o0 + 32)) (σ.I (o0 + 33)) (y, τ.I (o0 + 32), τ.I (o0 + 33))) ∧ (bd_m1_15 τ (o0 + 32) 512) ∧ (un (τ.I (o0 + 33)) 512 ≤ un (σ.I (o0 + 33)) 512) ∧ (ZR (τ.I (o0 + 32)) (τ.I (o0 + 33))) ∧ (OZ (σ.I (o0 + 32)) (τ.I (o0 + 32))) ∧ (KG o0 σ τ))) := rc_X5_give k hd hL ho0 p0 p1 p2 p3 p4 p5 p6 p7 p8
end
section
/-! contracts: printed by tools/mk.py out of s47b_matchX.py -/
set_option maxRecDepth 100000
set_option maxHeartbeats 1500000
theorem fwN_sX {S : Int → Int → Prop} {PP : Int → Int} {w sl x0 : Int} {P Y : Int → Prop} (hY : ∀ p y, P p → S p y → Y y) {m : Nat} {p : Int} {T R : Int → Int} {r : FR} (hp : ∀ q, p ≤ q → q < p + (m + 1 : Nat) → P q) (h : T x0 = 0 ∧ ∀ z, Y z → 0 < T z → P (T z)) (hR : ∀ z, Y z → z ≠ x0 → R z = 0) (hr : FP S PP w sl p (max 0 (w + PP p)) T R r) :
    fwN S PP w sl (m + 1) p T = (if r.1 = 1 then fwN S PP w sl m (p + 1) r.2.1 else 0) ∧ (r.2.1 x0 = 0 ∧ ∀ z, Y z → 0 < r.2.1 z → P (r.2.1 z)) := by
  have hP : P p := hp p (by omega) (by omega)
  have ha : ALk P Y x0 T R T (fun _ => 0) := ⟨h.1, fun z hz => ⟨rfl, fun q => hR z hz q, h.2 z hz⟩⟩
  obtain ⟨r', hr', e1, e2⟩ := FP_cg hY (fun p y a => Iff.rfl) (fun p a => rfl) hP ha hr
  have hb := FP_cg (S := S) (S' := S) (PP := PP) (PP' := PP) hY (fun p y a => Iff.rfl) (fun p a => rfl) hP (ALk_sym ha h.1) hr'
  obtain ⟨r2, -, -, e3⟩ := hb
  refine ⟨?_, e2.1, fun z hz => (e2.2 z hz).2.2⟩
  show (if (fpV S PP w sl p (max 0 (w + PP p)) T (fun _ => 0)).1 = 1 then _ else 0) = _
  rw [fpV_at hr']
  by_cases c : r.1 = 1
  · rw [if_pos c, if_pos (e1.trans c)]
    exact (fwN_cg (S := S) (S' := S) (PP := PP) (PP' := PP) hY (fun p y a => Iff.rfl) (fun p a => rfl) m (p + 1) _ _ _ _ (fun q h1 h2 => hp q (by omega) (by omega)) e3.1 e2).symm
  · rw [if_neg c, if_neg (fun z => c (e1.symm.trans z))]
theorem fwX_begin {S : Int → Int → Prop} {PP T : Int → Int} {pl w sl x : Int} (hS : ∀ p y, S p y → 0 ≤ y ∧ y < 512) (h0 : T x = 0) (h1 : ∀ z, 0 ≤ z → z < 512 → z ≠ x → T z = -1) : fwN S PP w sl (pl - 1).toNat 1 T = fw S PP pl w sl x := by
  unfold fw
  refine fwN_cg (x0 := x) (P := fun p => 1 ≤ p ∧ p < pl) (Y := fun z => 0 ≤ z ∧ z < 512) (fun p y _ h => hS p y h) (fun _ _ _ => Iff.rfl) (fun _ _ => rfl) _ _ T (fun _ => 0) (t0 x) (fun _ => 0) (fun q a b => ⟨a, by omega⟩) (if_pos rfl) ⟨h0, fun z hz => ?_⟩
  unfold t0
  by_cases e : z = x
  · subst e; rw [if_pos rfl, h0]; exact ⟨rfl, fun _ => rfl, fun z => by omega⟩
  · rw [if_neg e, h1 z hz.1 hz.2 e]; exact ⟨rfl, fun _ => rfl, fun z => by omega⟩
def HPx (T : Int → Int) (x pl : Int) : Prop := T x = 0 ∧ ∀ z, (0 ≤ z ∧ z < 512) → 0 < T z → (1 ≤ T z ∧ T z < pl)
theorem fwX_step {S : Int → Int → Prop} {PP T R : Int → Int} {pl w sl x p : Int} {r : FR} (hS : ∀ p y, S p y → 0 ≤ y ∧ y < 512) (hp : 1 ≤ p ∧ p < pl) (h : HPx T x pl) (hR : ∀ z, 0 ≤ z → z < 512 → z ≠ x → R z = 0) (hr : FP S PP w sl p (max 0 (w + PP p)) T R r) :
    fwN S PP w sl (pl - p).toNat p T = (if r.1 = 1 then fwN S PP w sl (pl - (p + 1)).toNat (p + 1) r.2.1 else 0) ∧ HPx r.2.1 x pl := by
  have e : (pl - p).toNat = (pl - (p + 1)).toNat + 1 := by omega
  rw [e]
  exact fwN_sX (x0 := x) (P := fun p => 1 ≤ p ∧ p < pl) (Y := fun z => 0 ≤ z ∧ z < 512) (fun p y _ h => hS p y h) (fun q a b => ⟨by omega, by omega⟩) h (fun z hz => hR z hz.1 hz.2) hr

theorem sp_X5_has {E : XE} {d : Nat} {σ : Sto} {o0 : Nat} {x1 : Int} {x2 : Int} (hd : 1 ≤ d) (hL : Lay σ) (ho0 : At5 σ o0) (p0 : 0 ≤ x1 ∧ x1 < 1000) (p1 : 0 ≤ σ.I (o0 + 27) x1 ∧ σ.I (o0 + 27) x1 ≤ σ.I (o0 + 27) (x1 + 1) ∧ σ.I (o0 + 27) (x1 + 1) ≤ 6000) (p2 : inR x2) : CC E mX5_has d [aO o0, aI (x1), aI (x2)] σ (RZ σ (exF (fun k => σ.I (o0 + 28) k = x2) (σ.I (o0 + 27) x1) (σ.I (o0 + 27) (x1 + 1)))) := by sorry
def nk512 : Nat := 512
theorem stX_Y {σ : Sto} {o : Nat} (p y : Int) (h : stX σ o p y) : 0 ≤ y ∧ y < 512 := h.1
/-- only at x is the taker 0 -/
def O1 (T : Int → Int) (x : Int) : Prop := ∀ z, 0 ≤ z → z < 512 → T z = 0 → z = x

theorem sp_X5_matchesAt {E : XE} {d : Nat} {σ : Sto} {o0 : Nat} {x1 : Int} {x2 : Int} (hd : 520 ≤ d) (hL : Lay σ) (ho0 : At5 σ o0) (p0 : 0 ≤ x1 ∧ x1 < 200) (p1 : 0 ≤ x2 ∧ x2 < 512) (p2 : 0 ≤ (σ.I (o0 + 11) x1) ∧ (σ.I (o0 + 11) x1) ≤ 9) (p3 : 1 ≤ (σ.I (o0 + 25) x1) ∧ (σ.I (o0 + 25) x1) ≤ 16) (p4 : 0 ≤ σ.I (o0 + 24) x1 ∧ σ.I (o0 + 24) x1 ≤ 984) (p5 : bd_0_500 σ (o0 + 26) 1000) (p6 : bd_m1_15 σ (o0 + 32) 512) : CC E mX5_matchesAt d [aO o0, aI (x1), aI (x2)] σ (RVZ (fun y τ => (y = 1 ↔ mAt (stX σ o0) (fun p => σ.I (o0 + 26) (σ.I (o0 + 24) x1 + p)) (σ.I (o0 + 25) x1) (σ.I (o0 + 11) x1) x2) ∧ (bd_m1_15 τ (o0 + 32) 512) ∧ (KG o0 σ τ))) := by sorry
end
section
/-! contracts: printed by tools/mk.py out of s47c_matchesX.py -/
set_option maxRecDepth 100000
set_option maxHeartbeats 1500000
/-- what the matching of a value writes: bits, owners, tried -/
def wsH (o : Nat) (c : Nat) (i : Int) : Prop := (o + 31 ≤ c ∧ c ≤ o + 33) ∧ i = i
abbrev KH (o : Nat) (σ τ : Sto) : Prop := Ch (wsH o) σ τ
theorem KH_rf {o : Nat} {σ : Sto} : KH o σ σ := Ch.rf
theorem KH_w {o : Nat} {σ τ : Sto} {a : Nat} {i v : Int} (e : τ = σ.wI a i v) (h : wsH o a i) : KH o σ τ := by subst e; exact Ch.wI Ch.rf h
theorem KH_of_KG {o : Nat} {σ τ : Sto} (h : KG o σ τ) : KH o σ τ := Ch.mono h (fun c i q => by unfold wsG at q; unfold wsH; omega)
/-- term t is one of place p of node n -/
def lxQ (σ : Sto) (o : Nat) (n p t : Int) : Prop := exF (fun k => σ.I (o + 28) k = t) (σ.I (o + 27) (σ.I (o + 24) n + p)) (σ.I (o + 27) (σ.I (o + 24) n + p + 1))
/-- where the places' terms lie -/
def TMI (σ : Sto) (o : Nat) (n : Int) : Prop := ∀ p, 0 ≤ p → p < σ.I (o + 25) n → 0 ≤ σ.I (o + 27) (σ.I (o + 24) n + p) ∧ σ.I (o + 27) (σ.I (o + 24) n + p) ≤ σ.I (o + 27) (σ.I (o + 24) n + p + 1) ∧ σ.I (o + 27) (σ.I (o + 24) n + p + 1) ≤ 6000
def sxP (σ : Sto) (o : Nat) (n v m p x : Int) : Prop := exN (fun j => σ.I 39 (σ.I 31 v + j) = x ∧ lxQ σ o n p (σ.I 36 (σ.I 31 v + j))) m
def sxQ (σ : Sto) (o : Nat) (n v p x : Int) : Prop := sxP σ o n v (σ.I 32 v) p x
def BX (A : Int → Int) (pl : Int) (Q : Int → Int → Prop) : Prop := ∀ p y, 0 ≤ p → p < pl → 0 ≤ y → y < 512 → (bt64 (A (8 * p + y / 64)) (y % 64) ↔ Q p y)
theorem BX_iff {A : Int → Int} {pl : Int} {Q Q' : Int → Int → Prop} (h : BX A pl Q) (hq : ∀ p y, 0 ≤ p → p < pl → (Q p y ↔ Q' p y)) : BX A pl Q' := fun p y a b c e => (h p y a b c e).trans (hq p y a b)
theorem BX_set {A A' : Int → Int} {pl a b : Int} {Q Q' : Int → Int → Prop} (h : BX A pl Q) (ha : 0 ≤ a) (hb : 0 ≤ b) (hb2 : b < 512) (e : ∀ k, A' k = if k = 8 * a + b / 64 then b64or (A (8 * a + b / 64)) (b64shl 1 (b % 64)) else A k) (hq : ∀ p y, 0 ≤ p → p < pl → (Q' p y ↔ (Q p y ∨ (p = a ∧ y = b)))) : BX A' pl Q' := by
  intro p y p0 p1 y0 y1
  rw [e, hq p y p0 p1]
  by_cases c : 8 * p + y / 64 = 8 * a + b / 64
  · have hp : p = a := by omega
    have hy : y / 64 = b / 64 := by omega
    subst hp
    rw [if_pos c, bt64_or, bt64_1 (by omega) (by omega), ← hy, h p y p0 p1 y0 y1]
    constructor
    · rintro (z | z)
      · exact Or.inl z
      · exact Or.inr ⟨rfl, by omega⟩
    · rintro (z | z)
      · exact Or.inl z
      · exact Or.inr (by rw [z.2])
  · rw [if_neg c, h p y p0 p1 y0 y1]
    exact ⟨Or.inl, fun z => z.elim id (fun w => absurd (by rw [w.1, w.2]) c)⟩
theorem sxP_s {σ : Sto} {o : Nat} {n v m k p x : Int} (h : 0 ≤ m) (hk : k = m + 1) : sxP σ o n v k p x ↔ (sxP σ o n v m p x ∨ (σ.I 39 (σ.I 31 v + m) = x ∧ lxQ σ o n p (σ.I 36 (σ.I 31 v + m)))) := exN_s _ m k h hk
theorem sxP_0 {σ : Sto} {o : Nat} {n v m p x : Int} (h : m ≤ 0) : ¬ sxP σ o n v m p x := exN_0 _ m h

theorem sp_X5_matches {E : XE} {d : Nat} {σ : Sto} {o0 : Nat} {x1 : Int} {x2 : Int} (hd : 522 ≤ d) (hL : Lay σ) (ho0 : At5 σ o0) (p0 : 0 ≤ x1 ∧ x1 < 200) (p1 : 0 ≤ x2 ∧ x2 < 6000) (p2 : 0 ≤ (σ.I (o0 + 11) x1) ∧ (σ.I (o0 + 11) x1) ≤ 9) (p3 : 1 ≤ (σ.I (o0 + 25) x1) ∧ (σ.I (o0 + 25) x1) ≤ 16) (p4 : 0 ≤ σ.I (o0 + 24) x1 ∧ σ.I (o0 + 24) x1 ≤ 984) (p5 : bd_0_500 σ (o0 + 26) 1000) (p6 : bd_m1_15 σ (o0 + 32) 512) (p7 : 0 ≤ σ.I 31 x2 ∧ 0 ≤ σ.I 32 x2 ∧ σ.I 31 x2 + σ.I 32 x2 ≤ 24000) (p8 : bd_0_499 σ 39 24000) (p9 : TMI σ o0 x1) (p10 : o0 = 87 ∨ o0 = 121 ∨ o0 = 155) : CC E mX5_matches d [aO o0, aI (x1), aI (x2)] σ (RVI (fun y τ => (y = mtc (sxQ σ o0 x1 x2) (fun p => σ.I (o0 + 26) (σ.I (o0 + 24) x1 + p)) (σ.I (o0 + 25) x1) (σ.I (o0 + 11) x1)) ∧ (0 ≤ y ∧ y ≤ 512) ∧ (bd_m1_15 τ (o0 + 32) 512) ∧ (KH o0 σ τ))) := by sorry
end
section
/-! contracts: printed by tools/mk.py out of s47m_nodes.py -/
set_option maxRecDepth 100000
set_option maxHeartbeats 1500000
/-- what a node is worth for an object, as it stands in the model's rows: below 0 when it does not match -/
def vlA (σ : Sto) (n o : Int) : Int := if σ.I 621 (601 * n + o) = 1 then σ.I 622 (601 * n + o) else -1
/-- with its boost -/
def scW (σ : Sto) (W : Int → Int → Int) (m o : Int) : Int := if W m o < 0 then -1 else prd (σ.I 613 m) (W m o)
def smS (σ : Sto) (W : Int → Int → Int) (n o : Int) : Int × Int × Int × Int → (Int × Int × Int × Int) ⊕ Int := fun s =>
  if s.1 < 0 then .inr (if (σ.I 609 n = 3 ∧ σ.I 615 n ≤ s.2.1) ∨ (σ.I 609 n ≠ 3 ∧ 0 < s.2.1) then (if σ.I 609 n = 1 then s.2.2.2 else s.2.2.1) else -1)
  else if W s.1 o < 0 then .inl (σ.I 611 s.1, s.2)
  else .inl (σ.I 611 s.1, s.2.1 + 1, min 1000000000000000 (s.2.2.1 + scW σ W s.1 o), if s.2.1 = 0 ∨ s.2.2.2 < scW σ W s.1 o then scW σ W s.1 o else s.2.2.2)
/-- members of which some must match: k of them did, their sum u, the most t -/
noncomputable def smV (σ : Sto) (W : Int → Int → Int) (n o m k u t : Int) : Int := rs (-1) (smS σ W n o) (m, k, u, t)
def alS (σ : Sto) (W : Int → Int → Int) (o : Int) : Int × Int → (Int × Int) ⊕ Int := fun s =>
  if s.1 < 0 then .inr s.2
  else if (W s.1 o < 0 ∧ σ.I 612 s.1 = 0) ∨ (0 ≤ W s.1 o ∧ σ.I 612 s.1 = 1) then .inr (-1)
  else if W s.1 o < 0 then .inl (σ.I 611 s.1, s.2)
  else .inl (σ.I 611 s.1, min 1000000000000000 (s.2 + scW σ W s.1 o))
noncomputable def alV (σ : Sto) (W : Int → Int → Int) (o m u : Int) : Int := rs (-1) (alS σ W o) (m, u)
section MBV
variable {σ : Sto} {W : Int → Int → Int} {n o m k u t : Int}
theorem smV_end (h : m < 0) : smV σ W n o m k u t = if (σ.I 609 n = 3 ∧ σ.I 615 n ≤ k) ∨ (σ.I 609 n ≠ 3 ∧ 0 < k) then (if σ.I 609 n = 1 then t else u) else -1 := rs_e (by show (if m < 0 then _ else _) = _; rw [if_pos h])
theorem smV_no (h : 0 ≤ m) (hw : W m o < 0) : smV σ W n o m k u t = smV σ W n o (σ.I 611 m) k u t := rs_s (by show (if m < 0 then _ else _) = _; rw [if_neg (by omega), if_pos hw])
theorem smV_yes (h : 0 ≤ m) (hw : 0 ≤ W m o) : smV σ W n o m k u t = smV σ W n o (σ.I 611 m) (k + 1) (min 1000000000000000 (u + scW σ W m o)) (if k = 0 ∨ t < scW σ W m o then scW σ W m o else t) := rs_s (by show (if m < 0 then _ else if W m o < 0 then _ else _) = _; rw [if_neg (by omega), if_neg (by omega)])
theorem alV_end (h : m < 0) : alV σ W o m u = u := rs_e (by show (if m < 0 then _ else _) = _; rw [if_pos h])
theorem alV_out (h : 0 ≤ m) (hw : (W m o < 0 ∧ σ.I 612 m = 0) ∨ (0 ≤ W m o ∧ σ.I 612 m = 1)) : alV σ W o m u = -1 := rs_e (by show (if m < 0 then _ else _) = _; rw [if_neg (by omega), if_pos hw])
theorem alV_no (h : 0 ≤ m) (hw : W m o < 0) (hs : σ.I 612 m ≠ 0) : alV σ W o m u = alV σ W o (σ.I 611 m) u := rs_s (by show (if m < 0 then _ else if (W m o < 0 ∧ _) ∨ (0 ≤ W m o ∧ _) then _ else if W m o < 0 then _ else _) = _; rw [if_neg (by omega), if_neg (fun z => z.elim (fun y => hs y.2) (fun y => by omega)), if_pos hw])
theorem alV_yes (h : 0 ≤ m) (hw : 0 ≤ W m o) (hs : σ.I 612 m ≠ 1) : alV σ W o m u = alV σ W o (σ.I 611 m) (min 1000000000000000 (u + scW σ W m o)) := rs_s (by show (if m < 0 then _ else if (W m o < 0 ∧ _) ∨ (0 ≤ W m o ∧ _) then _ else if W m o < 0 then _ else _) = _; rw [if_neg (by omega), if_neg (fun z => z.elim (fun y => by omega) (fun y => hs y.2)), if_neg (by omega)])
end MBV
/-- the members' worth -/
noncomputable def mbV (σ : Sto) (W : Int → Int → Int) (n o : Int) : Int := if σ.I 609 n = 2 then alV σ W o (σ.I 610 n) 0 else smV σ W n o (σ.I 610 n) 0 0 0
/-- the table is a tree: pa tells the node above -/
def TP (σ : Sto) (pa : Int → Int) : Prop := ∀ n, 0 ≤ n → n < σ.I 555 80 → (σ.I 610 n = -1 ∨ (0 ≤ σ.I 610 n ∧ σ.I 610 n < n ∧ pa (σ.I 610 n) = n)) ∧ (σ.I 611 n = -1 ∨ (n < σ.I 611 n ∧ σ.I 611 n < σ.I 555 80 ∧ pa (σ.I 611 n) = pa n)) ∧ n < pa n ∧ (0 ≤ σ.I 612 n ∧ σ.I 612 n ≤ 2) ∧ (4 ≤ σ.I 609 n → σ.I 609 n ≤ 5 → 0 ≤ σ.I 610 n)
theorem TP_at {σ : Sto} {pa : Int → Int} {n : Int} (h : TP σ pa) (h0 : 0 ≤ n) (h1 : n < σ.I 555 80) : (σ.I 610 n = -1 ∨ (0 ≤ σ.I 610 n ∧ σ.I 610 n < n ∧ pa (σ.I 610 n) = n)) ∧ (σ.I 611 n = -1 ∨ (n < σ.I 611 n ∧ σ.I 611 n < σ.I 555 80 ∧ pa (σ.I 611 n) = pa n)) ∧ n < pa n ∧ (0 ≤ σ.I 612 n ∧ σ.I 612 n ≤ 2) ∧ (4 ≤ σ.I 609 n → σ.I 609 n ≤ 5 → 0 ≤ σ.I 610 n) := h n h0 h1
theorem mem_b {m n : Int} {P : Prop} (h : 0 ≤ m) (hm : m = -1 ∨ (0 ≤ m ∧ m < n ∧ P)) : m < n ∧ P := hm.elim (fun z => absurd h (by rw [z]; decide)) (fun z => z.2)
theorem idx_b {m o : Int} (h0 : 0 ≤ m) (h1 : m < 130) (h2 : 0 ≤ o) (h3 : o < 601) : 0 ≤ 601 * m + o ∧ 601 * m + o < 78130 := by omega
def mum (n m : Int) : Nat := if m < 0 then 0 else (n - m).toNat

theorem sp_X9_workMembers {E : XE} {d : Nat} {σ : Sto} {pa : Int → Int} {x1 : Int} {x2 : Int} (hd : 2 ≤ d) (hL : Lay σ)  (p0 : 0 ≤ x1 ∧ x1 < σ.I 555 80) (p1 : σ.I 555 80 ≤ 130) (p2 : 0 ≤ x2 ∧ x2 < 601) (p3 : σ.I 609 x1 ≤ 3) (p4 : TW σ) (p5 : TP σ pa) (p6 : bd_0_1000000000000000 σ 622 78130) : CC E mX9_workMembers d [aO 555, aI (x1), aI (x2)] σ (RV (fun τ => (RD σ τ (fun c i => if at2 c i 621 (601 * x1 + x2) then if 0 ≤ (mbV σ (vlA σ) x1 x2) then 1 else 0 else if at2 c i 622 (601 * x1 + x2) then if 0 ≤ (mbV σ (vlA σ) x1 x2) then (mbV σ (vlA σ) x1 x2) else 0 else σ.I c i)))) := by sorry
end
section
/-! contracts: printed by tools/mk.py out of s47n_val.py -/
set_option maxRecDepth 100000
set_option maxHeartbeats 1500000
/-! what nodes are worth, by their table: columns 0 kind 1 first 2 next 3 sign 4 times 6 how many -/
theorem rs_cg {S R : Type} {d : R} {st st' : S → S ⊕ R} {I : S → Prop} (h1 : ∀ s s', I s → st s = .inl s' → I s') (h2 : ∀ s, I s → st' s = st s) {s : S} (hs : I s) : rs d st' s = rs d st s := by
  have key : ∀ (k : Nat) (s : S), I s → itN st' k s = itN st k s := by
    intro k
    induction k with
    | zero => intro s _; rfl
    | succ k ih =>
      intro s hs
      cases hq : st s with
      | inl s' => rw [itN_l hq, itN_l ((h2 s hs).trans hq)]; exact ih s' (h1 s s' hs hq)
      | inr r => rw [itN_r hq, itN_r ((h2 s hs).trans hq)]
  unfold rs
  congr 1
  funext r
  apply propext
  constructor
  · rintro ⟨k, hk⟩; exact ⟨k, by rw [← key k s hs]; exact hk⟩
  · rintro ⟨k, hk⟩; exact ⟨k, by rw [key k s hs]; exact hk⟩
/-- two loops in step -/
theorem rs_rel {S S' R : Type} {d : R} {st : S → S ⊕ R} {st' : S' → S' ⊕ R} {I : S → S' → Prop} (h1 : ∀ s s', I s s' → (∃ r, st s = .inr r ∧ st' s' = .inr r) ∨ ∃ u u', st s = .inl u ∧ st' s' = .inl u' ∧ I u u') {s : S} {s' : S'} (hs : I s s') : rs d st' s' = rs d st s := by
  have key : ∀ (k : Nat) (s : S) (s' : S'), I s s' → itN st' k s' = itN st k s := by
    intro k
    induction k with
    | zero => intro s s' _; rfl
    | succ k ih =>
      intro s s' hs
      rcases h1 s s' hs with ⟨r, e1, e2⟩ | ⟨u, u', e1, e2, e3⟩
      · rw [itN_r e1, itN_r e2]
      · rw [itN_l e1, itN_l e2]; exact ih u u' e3
  unfold rs
  congr 1
  funext r
  apply propext
  constructor
  · rintro ⟨k, hk⟩; exact ⟨k, by rw [← key k s s' hs]; exact hk⟩
  · rintro ⟨k, hk⟩; exact ⟨k, by rw [key k s s' hs]; exact hk⟩
def tabS (T : Nat → Int → Int) : Sto := (fun c i => if c = 609 then T 0 i else if c = 610 then T 1 i else if c = 611 then T 2 i else if c = 612 then T 3 i else if c = 613 then T 4 i else if c = 615 then T 6 i else 0, fun _ _ => none, fun _ => (99, 0), 0)
section VAL
variable {T G : Nat → Int → Int}
theorem tb0 {i : Int} : (tabS T).I 609 i = T 0 i := rfl
theorem tb1 {i : Int} : (tabS T).I 610 i = T 1 i := rfl
theorem tb2 {i : Int} : (tabS T).I 611 i = T 2 i := rfl
theorem tb3 {i : Int} : (tabS T).I 612 i = T 3 i := rfl
theorem tb4 {i : Int} : (tabS T).I 613 i = T 4 i := rfl
theorem tb6 {i : Int} : (tabS T).I 615 i = T 6 i := rfl
/-- what a node is worth for an object, out of what others are -/
noncomputable def vB (T : Nat → Int → Int) (W : Int → Prop) (P : Int → Int) (N : Int) (Lf V : Int → Int → Int) (n o : Int) : Int :=
  if zb (W o) = 0 then -1 else if T 0 n ≤ 3 then mbV (tabS T) V n o
  else if T 0 n = 4 then (if zb (exN (fun k => W k ∧ P k = o ∧ 0 ≤ V (T 1 n) k) N) = 1 then 64 else -1)
  else if T 0 n = 5 then (if zb (0 ≤ P o ∧ W (P o)) = 1 then scW (tabS T) V (T 1 n) (P o) else -1)
  else if T 0 n = 6 then 64 else Lf n o
noncomputable def vN (T : Nat → Int → Int) (W : Int → Prop) (P : Int → Int) (N : Int) (Lf : Int → Int → Int) : Nat → Int → Int → Int
  | 0 => fun _ _ => -1
  | f + 1 => vB T W P N Lf (vN T W P N Lf f)
/-- nodes k of T and x of G are alike, with all that hangs below and beside -/
def rwR (T G : Nat → Int → Int) (k x : Int) : Prop := G 0 x = T 0 k ∧ G 3 x = T 3 k ∧ G 4 x = T 4 k ∧ (T 0 k = 3 → G 6 x = T 6 k)
def prN (T G : Nat → Int → Int) : Nat → Int → Int → Prop
  | 0, _, _ => False
  | f + 1, k, x => (k = -1 ∧ x = -1) ∨ ((0 ≤ k ∧ 0 ≤ x ∧ x < 200) ∧ rwR T G k x ∧ prN T G f (T 1 k) (G 1 x) ∧ prN T G f (T 2 k) (G 2 x))
def CHL (T G : Nat → Int → Int) (k x : Int) : Prop := ∃ f, prN T G f k x
theorem prN_m {f : Nat} : ∀ {k x : Int}, prN T G f k x → prN T G (f + 1) k x := by
  induction f with
  | zero => intro k x h; exact h.elim
  | succ f ih =>
    intro k x h
    rcases h with h | ⟨h1, h2, h3, h4⟩
    · exact Or.inl h
    · exact Or.inr ⟨h1, h2, ih h3, ih h4⟩
theorem prN_le {f g : Nat} (hg : f ≤ g) {k x : Int} (h : prN T G f k x) : prN T G g k x := by
  induction hg with
  | refl => exact h
  | step _ ih => exact prN_m ih
theorem CHL_cases {k x : Int} (h : CHL T G k x) : (k = -1 ∧ x = -1) ∨ ((0 ≤ k ∧ 0 ≤ x ∧ x < 200) ∧ rwR T G k x ∧ CHL T G (T 1 k) (G 1 x) ∧ CHL T G (T 2 k) (G 2 x)) := by
  obtain ⟨f, hf⟩ := h
  cases f with
  | zero => exact hf.elim
  | succ f =>
    rcases hf with h | ⟨h1, h2, h3, h4⟩
    · exact Or.inl h
    · exact Or.inr ⟨h1, h2, ⟨f, h3⟩, ⟨f, h4⟩⟩
theorem CHL_nil : CHL T G (-1) (-1) := ⟨1, Or.inl ⟨rfl, rfl⟩⟩
theorem CHL_cons {k x : Int} (h1 : 0 ≤ k ∧ 0 ≤ x ∧ x < 200) (h2 : rwR T G k x) (h3 : CHL T G (T 1 k) (G 1 x)) (h4 : CHL T G (T 2 k) (G 2 x)) : CHL T G k x := by
  obtain ⟨f, hf⟩ := h3
  obtain ⟨g, hg⟩ := h4
  exact ⟨max f g + 1, Or.inr ⟨h1, h2, prN_le (by omega) hf, prN_le (by omega) hg⟩⟩
/-- members come before the node above -/
def TPt (T : Nat → Int → Int) (nc : Int) (pa : Int → Int) : Prop := ∀ n, 0 ≤ n → n < nc → (T 1 n = -1 ∨ (0 ≤ T 1 n ∧ T 1 n < n ∧ pa (T 1 n) = n)) ∧ (T 2 n = -1 ∨ (n < T 2 n ∧ T 2 n < nc ∧ pa (T 2 n) = pa n)) ∧ n < pa n ∧ (0 ≤ T 3 n ∧ T 3 n ≤ 2) ∧ (4 ≤ T 0 n → T 0 n ≤ 5 → 0 ≤ T 1 n)
variable {nc : Int} {pa : Int → Int}
/-- a member of n, or none -/
def MBt (n : Int) (pa : Int → Int) (m : Int) : Prop := m = -1 ∨ (0 ≤ m ∧ m < n ∧ pa m = n)
theorem MBt_n {n m : Int} (h : TPt T nc pa) (hn : n < nc) (hm : MBt n pa m) (h0 : 0 ≤ m) : MBt n pa (T 2 m) := by
  rcases hm with z | ⟨a, b, c⟩
  · omega
  · rcases (h m a (by omega)).2.1 with z | ⟨z1, z2, z3⟩
    · exact Or.inl z
    · have q := (h (T 2 m) (by omega) z2).2.2.1
      exact Or.inr ⟨by omega, by rw [z3, c] at q; exact q, z3.trans c⟩
theorem scW_r {V V' : Int → Int → Int} {k x o : Int} (hr : rwR T G k x) (hv : V' x o = V k o) : scW (tabS G) V' x o = scW (tabS T) V k o := by
  unfold scW
  rw [hv, tb4, tb4, hr.2.2.1]
theorem smV_r {V V' : Int → Int → Int} {n y o : Int} (h : TPt T nc pa) (hn : n < nc) (hr : rwR T G n y) (hV : ∀ k x, CHL T G k x → 0 ≤ k → k < n → V' x o = V k o) {m x c u t : Int} (hm : MBt n pa m) (hc : CHL T G m x) : smV (tabS G) V' y o x c u t = smV (tabS T) V n o m c u t := by
  unfold smV
  refine rs_rel (I := fun s s' => MBt n pa s.1 ∧ CHL T G s.1 s'.1 ∧ s'.2 = s.2) ?_ ⟨hm, hc, rfl⟩
  rintro ⟨m, c, u, t⟩ ⟨x, c', u', t'⟩ ⟨h1, h2, h3⟩
  have h1 : MBt n pa m := h1
  have h2 : CHL T G m x := h2
  cases h3
  rcases CHL_cases h2 with ⟨z1, z2⟩ | ⟨z1, z2, z3, z4⟩
  · left
    refine ⟨if (T 0 n = 3 ∧ T 6 n ≤ c) ∨ (T 0 n ≠ 3 ∧ 0 < c) then (if T 0 n = 1 then t else u) else -1, ?_, ?_⟩
    · show (if m < 0 then _ else _) = _; rw [if_pos (by omega)]; rfl
    · show (if x < 0 then _ else _) = _; rw [if_pos (by omega)]
      show (Sum.inr _ : _ ⊕ Int) = Sum.inr _
      congr 1
      show (if (G 0 y = 3 ∧ G 6 y ≤ c) ∨ (G 0 y ≠ 3 ∧ 0 < c) then (if G 0 y = 1 then t else u) else -1) = _
      rw [hr.1]
      by_cases q : T 0 n = 3
      · rw [hr.2.2.2 q]
      · have a1 : ¬ (T 0 n = 3 ∧ G 6 y ≤ c) := fun z => q z.1
        have a2 : ¬ (T 0 n = 3 ∧ T 6 n ≤ c) := fun z => q z.1
        simp only [q, false_and]
  · right
    have hmn : m < n := by rcases h1 with z | z; (omega); (exact z.2.1)
    have hv := hV m x h2 z1.1 hmn
    by_cases q : V m o < 0
    · refine ⟨(T 2 m, c, u, t), (G 2 x, c, u, t), ?_, ?_, MBt_n h hn h1 z1.1, z4, rfl⟩
      · show (if m < 0 then _ else if V m o < 0 then _ else _) = _; rw [if_neg (by omega), if_pos q]; rfl
      · show (if x < 0 then _ else if V' x o < 0 then _ else _) = _; rw [if_neg (by omega), if_pos (by rw [hv]; exact q)]; rfl
    · refine ⟨(T 2 m, c + 1, min 1000000000000000 (u + scW (tabS T) V m o), if c = 0 ∨ t < scW (tabS T) V m o then scW (tabS T) V m o else t), (G 2 x, c + 1, min 1000000000000000 (u + scW (tabS T) V m o), if c = 0 ∨ t < scW (tabS T) V m o then scW (tabS T) V m o else t), ?_, ?_, MBt_n h hn h1 z1.1, z4, rfl⟩
      · show (if m < 0 then _ else if V m o < 0 then _ else _) = _; rw [if_neg (by omega), if_neg q]; rfl
      · show (if x < 0 then _ else if V' x o < 0 then _ else Sum.inl (_, _, min 1000000000000000 (u + scW (tabS G) V' x o), if c = 0 ∨ t < scW (tabS G) V' x o then scW (tabS G) V' x o else t)) = _
        rw [if_neg (by omega), if_neg (by rw [hv]; exact q), scW_r z2 hv]; rfl
theorem alV_r {V V' : Int → Int → Int} {n o : Int} (h : TPt T nc pa) (hn : n < nc) (hV : ∀ k x, CHL T G k x → 0 ≤ k → k < n → V' x o = V k o) {m x u : Int} (hm : MBt n pa m) (hc : CHL T G m x) : alV (tabS G) V' o x u = alV (tabS T) V o m u := by
  unfold alV
  refine rs_rel (I := fun s s' => MBt n pa s.1 ∧ CHL T G s.1 s'.1 ∧ s'.2 = s.2) ?_ ⟨hm, hc, rfl⟩
  rintro ⟨m, u⟩ ⟨x, u'⟩ ⟨h1, h2, h3⟩
  have h1 : MBt n pa m := h1
  have h2 : CHL T G m x := h2
  cases h3
  rcases CHL_cases h2 with ⟨z1, z2⟩ | ⟨z1, z2, z3, z4⟩
  · left
    refine ⟨u, ?_, ?_⟩
    · show (if m < 0 then _ else _) = _; rw [if_pos (by omega)]
    · show (if x < 0 then _ else _) = _; rw [if_pos (by omega)]
  · have hmn : m < n := by rcases h1 with z | z; (omega); (exact z.2.1)
    have hv := hV m x h2 z1.1 hmn
    by_cases q : (V m o < 0 ∧ T 3 m = 0) ∨ (0 ≤ V m o ∧ T 3 m = 1)
    · left
      refine ⟨-1, ?_, ?_⟩
      · show (if m < 0 then _ else if (V m o < 0 ∧ T 3 m = 0) ∨ (0 ≤ V m o ∧ T 3 m = 1) then _ else _) = _; rw [if_neg (by omega), if_pos q]
      · show (if x < 0 then _ else if (V' x o < 0 ∧ G 3 x = 0) ∨ (0 ≤ V' x o ∧ G 3 x = 1) then _ else _) = _; rw [if_neg (by omega), if_pos (by rw [hv, z2.2.1]; exact q)]
    · right
      by_cases q2 : V m o < 0
      · refine ⟨(T 2 m, u), (G 2 x, u), ?_, ?_, MBt_n h hn h1 z1.1, z4, rfl⟩
        · show (if m < 0 then _ else if (V m o < 0 ∧ T 3 m = 0) ∨ (0 ≤ V m o ∧ T 3 m = 1) then _ else if V m o < 0 then _ else _) = _; rw [if_neg (by omega), if_neg q, if_pos q2]; rfl
        · show (if x < 0 then _ else if (V' x o < 0 ∧ G 3 x = 0) ∨ (0 ≤ V' x o ∧ G 3 x = 1) then _ else if V' x o < 0 then _ else _) = _; rw [if_neg (by omega), if_neg (by rw [hv, z2.2.1]; exact q), if_pos (by rw [hv]; exact q2)]; rfl
      · refine ⟨(T 2 m, min 1000000000000000 (u + scW (tabS T) V m o)), (G 2 x, min 1000000000000000 (u + scW (tabS T) V m o)), ?_, ?_, MBt_n h hn h1 z1.1, z4, rfl⟩
        · show (if m < 0 then _ else if (V m o < 0 ∧ T 3 m = 0) ∨ (0 ≤ V m o ∧ T 3 m = 1) then _ else if V m o < 0 then _ else _) = _; rw [if_neg (by omega), if_neg q, if_neg q2]; rfl
        · show (if x < 0 then _ else if (V' x o < 0 ∧ G 3 x = 0) ∨ (0 ≤ V' x o ∧ G 3 x = 1) then _ else if V' x o < 0 then _ else Sum.inl (_, min 1000000000000000 (u + scW (tabS G) V' x o))) = _; rw [if_neg (by omega), if_neg (by rw [hv, z2.2.1]; exact q), if_neg (by rw [hv]; exact q2), scW_r z2 hv]; rfl
theorem vB_r {W : Int → Prop} {P : Int → Int} {N : Int} {Lf Lg V V' : Int → Int → Int} {n y o : Int} (h : TPt T nc pa) (h0 : 0 ≤ n) (hn : n < nc) (hr : rwR T G n y) (hc : CHL T G (T 1 n) (G 1 y)) (hV : ∀ k x o, CHL T G k x → 0 ≤ k → k < n → V' x o = V k o) (hL : 7 ≤ T 0 n → W o → Lg y o = Lf n o) : vB G W P N Lg V' y o = vB T W P N Lf V n o := by
  have hm : MBt n pa (T 1 n) := (h n h0 hn).1
  unfold vB
  rw [hr.1]
  by_cases c0 : W o
  · have c0' : ¬ zb (W o) = 0 := by rw [zb_t c0]; omega
    rw [if_neg c0', if_neg c0']
    by_cases c1 : T 0 n ≤ 3
    · rw [if_pos c1, if_pos c1]
      unfold mbV
      rw [tb0, tb0, tb1, tb1, hr.1, alV_r h hn (fun k x => hV k x o) hm hc, smV_r h hn hr (fun k x => hV k x o) hm hc]
    · rw [if_neg c1, if_neg c1]
      by_cases c4 : T 0 n = 4 ∨ T 0 n = 5
      · have hf := (h n h0 hn).2.2.2.2 (by omega) (by omega)
        have hlt : T 1 n < n := by rcases hm with z | z; (omega); (exact z.2.1)
        have hv : ∀ o, V' (G 1 y) o = V (T 1 n) o := fun o => hV _ _ o hc hf hlt
        have hrr : rwR T G (T 1 n) (G 1 y) := by
          rcases CHL_cases hc with z | z
          · omega
          · exact z.2.1
        have e1 : (fun k => W k ∧ P k = o ∧ 0 ≤ V' (G 1 y) k) = (fun k => W k ∧ P k = o ∧ 0 ≤ V (T 1 n) k) := by funext k; rw [hv]
        rw [e1, scW_r hrr (hv (P o))]
        by_cases c5 : T 0 n = 4
        · rw [if_pos c5, if_pos c5]
        · rw [if_neg c5, if_neg c5, if_pos (show T 0 n = 5 by omega), if_pos (show T 0 n = 5 by omega)]
      · rw [if_neg (show ¬ T 0 n = 4 by omega), if_neg (show ¬ T 0 n = 4 by omega), if_neg (show ¬ T 0 n = 5 by omega), if_neg (show ¬ T 0 n = 5 by omega)]
        by_cases c6 : T 0 n = 6
        · rw [if_pos c6, if_pos c6]
        · rw [if_neg c6, if_neg c6]; exact hL (by omega) c0
  · rw [if_pos (zb_f c0), if_pos (zb_f c0)]
theorem vN_r {W : Int → Prop} {P : Int → Int} {N : Int} {Lf Lg : Int → Int → Int} (h : TPt T nc pa) (hL : ∀ k x o, CHL T G k x → 0 ≤ k → k < nc → 7 ≤ T 0 k → W o → Lg x o = Lf k o) : ∀ (m : Nat) (n y o : Int) (f g : Nat), 0 ≤ n → n < (m : Int) → n < nc → n < (f : Int) → n < (g : Int) → CHL T G n y → vN G W P N Lg g y o = vN T W P N Lf f n o := by
  intro m
  induction m with
  | zero => intro n y o f g h0 h1; omega
  | succ m ih =>
    intro n y o f g h0 h1 h2 h3 h4 hc
    rcases CHL_cases hc with z | ⟨z1, z2, z3, z4⟩
    · omega
    · obtain ⟨f, rfl⟩ : ∃ f', f = f' + 1 := ⟨f - 1, by omega⟩
      obtain ⟨g, rfl⟩ : ∃ g', g = g' + 1 := ⟨g - 1, by omega⟩
      exact vB_r h h0 h2 z2 z3 (fun k x o hk k0 k1 => ih k x o f g k0 (by omega) (by omega) (by omega) (by omega) hk) (fun a b => hL n y o hc h0 h2 a b)
end VAL
end
section
/-! contracts: printed by tools/mk.py out of s47o_places.py -/
set_option maxRecDepth 100000
set_option maxHeartbeats 1500000
/-! the places of a text's tokens -/
def rkN (p : Int → Int) : Nat → Int
  | 0 => 0
  | j + 1 => rkN p j + (if p ((j : Int) + 1) = p j then 0 else 1)
def rk (p : Int → Int) (j : Int) : Int := rkN p j.toNat
theorem rk_0 {p : Int → Int} {j : Int} (h : j ≤ 0) : rk p j = 0 := by unfold rk; rw [show j.toNat = 0 by omega]; rfl
theorem rk_s {p : Int → Int} {j m : Int} (h : 0 ≤ j) (hm : m = j + 1) : rk p m = rk p j + (if p m = p j then 0 else 1) := by
  unfold rk
  rw [show m.toNat = j.toNat + 1 by omega]
  show rkN p j.toNat + (if p ((j.toNat : Int) + 1) = p (j.toNat : Int) then 0 else 1) = _
  rw [show ((j.toNat : Nat) : Int) = j by omega, hm]
theorem rk_b (p : Int → Int) (n : Nat) : 0 ≤ rkN p n ∧ rkN p n ≤ n := by
  induction n with
  | zero => exact ⟨Int.le_refl _, Int.le_refl _⟩
  | succ n ih => unfold rkN; split <;> omega
theorem rk_in {p : Int → Int} {j : Int} : 0 ≤ rk p j ∧ (0 ≤ j → rk p j ≤ j) := by
  have := rk_b p j.toNat
  unfold rk
  exact ⟨this.1, fun h => by omega⟩
theorem rk_mo {p : Int → Int} {i j : Int} (h0 : 0 ≤ i) (h : i ≤ j) : rk p i ≤ rk p j := by
  obtain ⟨n, rfl⟩ : ∃ n : Nat, j = i + n := ⟨(j - i).toNat, by omega⟩
  clear h
  induction n with
  | zero => rw [show i + ((0 : Nat) : Int) = i by omega]; exact Int.le_refl _
  | succ n ih =>
    have := rk_s (p := p) (j := i + n) (m := i + ((n + 1 : Nat) : Int)) (by omega) (by omega)
    rw [this]; split <;> omega
theorem fsF_no {q : Int → Prop} {n j : Int} (h0 : 0 ≤ j) (h1 : j < n) (hj : q j) : fsF q 0 n ≠ -1 := by
  have key : ∀ (m : Nat) (i : Int), 0 ≤ i → i ≤ j → (j - i).toNat = m → fsF q i n ≠ -1 := by
    intro m
    induction m with
    | zero => intro i a b c; have e : i = j := by omega
              rw [e, fsF_t q j n h1 hj]; omega
    | succ m ih =>
      intro i a b c
      by_cases z : q i
      · rw [fsF_t q i n (by omega) z]; omega
      · rw [fsF_f q i (i + 1) n (by omega) rfl z]; exact ih (i + 1) (by omega) (by omega) (by omega)
  exact key _ 0 (Int.le_refl _) h0 rfl
theorem fsF_is {q : Int → Prop} {n j : Int} (h0 : 0 ≤ j) (h1 : j < n) (hj : q j) (hn : ∀ i, 0 ≤ i → i < j → ¬ q i) : fsF q 0 n = j := by
  have key : ∀ (m : Nat) (i : Int), 0 ≤ i → i ≤ j → (j - i).toNat = m → fsF q i n = j := by
    intro m
    induction m with
    | zero => intro i a b c; have e : i = j := by omega
              rw [e]; exact fsF_t q j n h1 hj
    | succ m ih => intro i a b c; rw [fsF_f q i (i + 1) n (by omega) rfl (hn i a (by omega))]; exact ih (i + 1) (by omega) (by omega) (by omega)
  exact key _ 0 (Int.le_refl _) h0 rfl
theorem rk_first {p : Int → Int} {n j : Int} (h0 : 0 ≤ j) (h1 : j < n) (hp : j = 0 ∨ p j ≠ p (j - 1)) : fsF (fun i => rk p i = rk p j) 0 n = j := by
  refine fsF_is h0 h1 rfl (fun i a b z => ?_)
  have z : rk p i = rk p j := z
  rcases hp with q | q
  · omega
  · have h2 := rk_mo (p := p) a (show i ≤ j - 1 by omega)
    have h3 := rk_s (p := p) (j := j - 1) (m := j) (by omega) (by omega)
    rw [if_neg q] at h3
    omega
/-- how many places the first j tokens have; where place q stands, behind the first one -/
def nPl (p : Int → Int) (j : Int) : Int := if j ≤ 0 then 0 else rk p (j - 1) + 1
noncomputable def pPl (p : Int → Int) (n q : Int) : Int := p (fsF (fun i => rk p i = q) 0 n) - p 0
/-- how many tokens count: those of the first 16 places -/
noncomputable def mPl (p : Int → Int) (n : Int) : Int := if fsF (fun i => rk p i = 16) 0 n = -1 then n else fsF (fun i => rk p i = 16) 0 n
theorem nPl_s {p : Int → Int} {j m : Int} (h : 0 ≤ j) (hm : m = j + 1) : nPl p m = rk p j + 1 := by unfold nPl; rw [if_neg (by omega), show m - 1 = j by omega]
theorem nPl_e {p : Int → Int} {j : Int} (h : 0 < j) : nPl p j = rk p (j - 1) + 1 := by unfold nPl; rw [if_neg (by omega)]
theorem mPl_all {p : Int → Int} {n : Int} (h0 : 0 ≤ n) (h : nPl p n ≤ 16) : mPl p n = n := by
  unfold mPl
  rcases fsF_in (fun i => rk p i = 16) 0 n with z | ⟨z1, z2, z3⟩
  · rw [if_pos z]
  · exfalso
    have z3 : rk p (fsF (fun i => rk p i = 16) 0 n) = 16 := z3
    have := rk_mo (p := p) z1 (show fsF (fun i => rk p i = 16) 0 n ≤ n - 1 by omega)
    rw [nPl_e (by omega)] at h
    omega
theorem mPl_at {p : Int → Int} {n j : Int} (h0 : 0 < j) (h1 : j < n) (hn : nPl p j = 16) (hp : p j ≠ p (j - 1)) : mPl p n = j := by
  have e : rk p j = 16 := by
    rw [nPl_e h0] at hn
    rw [rk_s (p := p) (j := j - 1) (m := j) (by omega) (by omega), if_neg hp]; omega
  have := rk_first (p := p) (n := n) (j := j) (by omega) h1 (Or.inr hp)
  unfold mPl
  rw [e] at this
  rw [this, if_neg (by omega)]
theorem rk_eq {p : Int → Int} {i j : Int} (h0 : 0 ≤ i) (h : i ≤ j) (e : rk p i = rk p j) : p i = p j := by
  obtain ⟨n, rfl⟩ : ∃ n : Nat, j = i + n := ⟨(j - i).toNat, by omega⟩
  clear h
  induction n with
  | zero => rw [show i + ((0 : Nat) : Int) = i by omega]
  | succ n ih =>
    have h1 := rk_s (p := p) (j := i + n) (m := i + ((n + 1 : Nat) : Int)) (by omega) (by omega)
    have h2 := rk_mo (p := p) h0 (show i ≤ i + n by omega)
    by_cases q : p (i + ((n + 1 : Nat) : Int)) = p (i + n)
    · rw [if_pos q] at h1
      rw [q]
      exact ih (by omega)
    · rw [if_neg q] at h1
      omega
theorem pPl_at {p : Int → Int} {n j : Int} (h0 : 0 ≤ j) (h1 : j < n) : pPl p n (rk p j) = p j - p 0 := by
  unfold pPl
  rcases fsF_in (fun i => rk p i = rk p j) 0 n with z | ⟨z1, z2, z3⟩
  · exact absurd z (fsF_no h0 h1 rfl)
  · have z3 : rk p (fsF (fun i => rk p i = rk p j) 0 n) = rk p j := z3
    rcases Int.le_total (fsF (fun i => rk p i = rk p j) 0 n) j with q | q
    · rw [rk_eq z1 q z3]
    · rw [rk_eq h0 q z3.symm]
def wsPl (x k : Int) (c : Nat) (i : Int) : Prop := wsB c i ∨ (c = 628 ∧ 20 * k ≤ i) ∨ ((c = 629 ∨ c = 630) ∧ k ≤ i) ∨ ((c = 631 ∨ c = 632) ∧ i = x) ∨ c = 633 ∨ (c = 648 ∧ 16 * x ≤ i ∧ i < 16 * x + 16) ∨ at2 c i 555 105 ∨ at2 c i 555 108
abbrev KPl (x k : Int) (σ τ : Sto) : Prop := Ch (wsPl x k) σ τ
theorem KPl_rf {x k : Int} {σ : Sto} : KPl x k σ σ := Ch.rf
theorem KPl_w {x k : Int} {σ τ : Sto} {a : Nat} {i v : Int} (e : τ = σ.wI a i v) (h : wsPl x k a i) : KPl x k σ τ := by subst e; exact Ch.wI Ch.rf h
theorem KPl_of_KB {x k : Int} {σ τ : Sto} (h : KB σ τ) : KPl x k σ τ := Ch.mono h (fun c i q => Or.inl q)
/-- token j of a list lies in the pool at k + j -/
def PL1 (σ : Sto) (k : Int) (l : TL) (j : Int) : Prop := σ.I 629 (k + j) = l.2.1 j ∧ σ.I 630 (k + j) = rk l.2.2.2.2.2 j ∧ ∀ i, 0 ≤ i → i < l.2.1 j → σ.I 628 (20 * (k + j) + i) = l.2.2.1 j i
def PLN (σ : Sto) (k : Int) (l : TL) (n : Int) : Prop := ∀ j, 0 ≤ j → j < n → PL1 σ k l j
def PPN (σ : Sto) (c : Nat) (b : Int) (l : TL) (n : Int) : Prop := ∀ q, 0 ≤ q → q < n → σ.I c (b + q) = pPl l.2.2.2.2.2 l.1 q

theorem pl_step {τ υ : Sto} {k n a v m r z : Int} {l : TL} (e : υ.I = fun c i => if at2 c i 630 (k + n) then r else if at2 c i 629 (k + n) then z else if at2 c i 555 108 then m else if at2 c i 633 a then v else τ.I c i) :
    (∀ c i, c ≠ 630 → c ≠ 629 → c ≠ 633 → ¬ at2 c i 555 108 → υ.I c i = τ.I c i) ∧ υ.I 555 108 = m ∧ (PLN τ k l n → PLN υ k l n) ∧ υ.I 629 (k + n) = z ∧ υ.I 630 (k + n) = r ∧ υ.I 633 a = v ∧ (∀ i, i ≠ a → υ.I 633 i = τ.I 633 i) := by
  have hk : ∀ c i, c ≠ 630 → c ≠ 629 → c ≠ 633 → ¬ at2 c i 555 108 → υ.I c i = τ.I c i := by
    intro c i a1 a2 a3 a4
    rw [e]
    show (if at2 c i _ _ then _ else if at2 c i _ _ then _ else if at2 c i _ _ then _ else if at2 c i _ _ then _ else _) = _
    rw [if_neg (fun q => a1 q.1), if_neg (fun q => a2 q.1), if_neg a4, if_neg (fun q => a3 q.1)]
  refine ⟨hk, by rw [e]; grind, fun h j j0 j1 => ?_, by rw [e]; grind, by rw [e]; grind, by rw [e]; grind, fun i hi => by rw [e]; grind⟩
  obtain ⟨h1, h2, h3⟩ := h j j0 j1
  refine ⟨?_, ?_, fun i a b => ?_⟩
  · rw [e]; grind
  · rw [e]; grind
  · rw [hk _ _ (by decide) (by decide) (by decide) (fun q => absurd q.1 (by decide))]; exact h3 i a b
theorem pl_bd {τ υ : Sto} {k n a v m r z : Int} (e : υ.I = fun c i => if at2 c i 630 (k + n) then r else if at2 c i 629 (k + n) then z else if at2 c i 555 108 then m else if at2 c i 633 a then v else τ.I c i) (hr : 0 ≤ r ∧ r ≤ 15) (hz : 0 ≤ z ∧ z ≤ 20) (hv : 0 ≤ v ∧ v ≤ 500) (g1 : bd_0_15 τ 630 6000) (g2 : bd_0_20 τ 629 6000) (g3 : bd_0_500 τ 633 16) : bd_0_15 υ 630 6000 ∧ bd_0_20 υ 629 6000 ∧ bd_0_500 υ 633 16 := by
  refine ⟨fun i x y => ?_, fun i x y => ?_, fun i x y => ?_⟩
  · have := g1 i x y; rw [e]; grind
  · have := g2 i x y; rw [e]; grind
  · have := g3 i x y; rw [e]; grind
theorem PPN_same {τ υ : Sto} {l : TL} {n : Int} (h : PPN τ 633 0 l (nPl l.2.2.2.2.2 n)) (h0 : 0 < n) (hp : l.2.2.2.2.2 n = l.2.2.2.2.2 (n - 1)) (e : ∀ i, υ.I 633 i = τ.I 633 i) : nPl l.2.2.2.2.2 (n + 1) = nPl l.2.2.2.2.2 n ∧ rk l.2.2.2.2.2 n + 1 = nPl l.2.2.2.2.2 n ∧ PPN υ 633 0 l (nPl l.2.2.2.2.2 (n + 1)) := by
  have h1 := nPl_s (p := l.2.2.2.2.2) (j := n) (m := n + 1) (by omega) rfl
  have h2 := nPl_e (p := l.2.2.2.2.2) h0
  have h3 := rk_s (p := l.2.2.2.2.2) (j := n - 1) (m := n) (by omega) (by omega)
  rw [if_pos hp] at h3
  have h4 : nPl l.2.2.2.2.2 (n + 1) = nPl l.2.2.2.2.2 n := by omega
  refine ⟨h4, by omega, ?_⟩
  rw [h4]
  intro q a b
  rw [e]; exact h q a b
theorem PPN_new {τ υ : Sto} {l : TL} {n : Int} (h : PPN τ 633 0 l (nPl l.2.2.2.2.2 n)) (h0 : 0 ≤ n) (h1 : n < l.1) (hp : n = 0 ∨ l.2.2.2.2.2 n ≠ l.2.2.2.2.2 (n - 1)) (e : ∀ i, i ≠ nPl l.2.2.2.2.2 n → υ.I 633 i = τ.I 633 i) (e2 : υ.I 633 (nPl l.2.2.2.2.2 n) = l.2.2.2.2.2 n - l.2.2.2.2.2 0) : nPl l.2.2.2.2.2 (n + 1) = nPl l.2.2.2.2.2 n + 1 ∧ rk l.2.2.2.2.2 n = nPl l.2.2.2.2.2 n ∧ PPN υ 633 0 l (nPl l.2.2.2.2.2 (n + 1)) := by
  have hr : rk l.2.2.2.2.2 n = nPl l.2.2.2.2.2 n := by
    rcases hp with q | q
    · subst q; rw [rk_0 (Int.le_refl _)]; rfl
    · by_cases z : n = 0
      · subst z; rw [rk_0 (Int.le_refl _)]; rfl
      · rw [nPl_e (by omega), rk_s (p := l.2.2.2.2.2) (j := n - 1) (m := n) (by omega) (by omega), if_neg q]
  have h2 := nPl_s (p := l.2.2.2.2.2) (j := n) (m := n + 1) (by omega) rfl
  refine ⟨by omega, hr, ?_⟩
  intro q a b
  rcases (show q < nPl l.2.2.2.2.2 n ∨ q = nPl l.2.2.2.2.2 n by omega) with z | z
  · rw [e _ (by omega)]; exact h q a z
  · subst z
    rw [show (0 : Int) + nPl l.2.2.2.2.2 n = nPl l.2.2.2.2.2 n by omega, e2, ← hr, pPl_at h0 h1]
theorem nPl_b {p : Int → Int} {n : Int} : 0 ≤ nPl p n ∧ (0 < n → 0 < nPl p n) ∧ (n ≤ 0 → nPl p n = 0) := by
  unfold nPl
  have := rk_in (p := p) (j := n - 1)
  split <;> omega
theorem PPN_last {τ : Sto} {l : TL} {n : Int} (h : PPN τ 633 0 l (nPl l.2.2.2.2.2 n)) (h0 : 0 < n) (h1 : n ≤ l.1) : τ.I 633 (nPl l.2.2.2.2.2 n - 1) = l.2.2.2.2.2 (n - 1) - l.2.2.2.2.2 0 := by
  have h2 := nPl_e (p := l.2.2.2.2.2) h0
  have h3 := rk_in (p := l.2.2.2.2.2) (j := n - 1)
  have := h (nPl l.2.2.2.2.2 n - 1) (by omega) (by omega)
  rw [show (0 : Int) + (nPl l.2.2.2.2.2 n - 1) = nPl l.2.2.2.2.2 n - 1 by omega] at this
  rw [this, show nPl l.2.2.2.2.2 n - 1 = rk l.2.2.2.2.2 (n - 1) by omega, pPl_at (by omega) (by omega)]

theorem SRC_n {σ : Sto} (hL : Lay σ) (h : SRC σ) : (((σ.sh (src σ)).2 : Nat) : Int) ≤ 1000000 := by
  rcases (show src σ = 557 ∨ src σ = 603 ∨ src σ = 604 ∨ src σ = 605 ∨ src σ = 606 ∨ src σ = 607 ∨ src σ = 640 by have := h.1.2.2; omega) with z | z | z | z | z | z | z
  · rw [z, s_557 hL]; decide
  · rw [z, s_603 hL]; decide
  · rw [z, s_604 hL]; decide
  · rw [z, s_605 hL]; decide
  · rw [z, s_606 hL]; decide
  · rw [z, s_607 hL]; decide
  · rw [z, s_640 hL]; decide

theorem sp_X9_takePlaces {E : XE} {d : Nat} {σ : Sto} {l : TL} {x1 : Int} (hd : 18 ≤ d) (hL : Lay σ)  (p0 : 0 ≤ x1 ∧ x1 < σ.I 555 80) (p1 : σ.I 555 80 ≤ 130) (p2 : SRC σ) (p3 : TN σ x1) (p4 : σ.I 609 x1 = 7) (p5 : 0 ≤ (σ.I 555 105) ∧ (σ.I 555 105) + l.1 ≤ 6000) (p6 : AC σ) (p7 : ARW σ (σ.I 578 (σ.I 614 x1))) (p8 : bd_0_20 σ 573 300) (p9 : l = (tk σ (σ.I 578 (σ.I 614 x1)) (σ.I (src σ)) (σ.I 555 75 + σ.I 615 x1) (σ.I 555 75 + σ.I 616 x1) (σ.I 555 75 + σ.I 615 x1) 0 tl0)) (p10 : bd_0_15 σ 630 6000) (p11 : bd_0_20 σ 629 6000) (p12 : bd_0_500 σ 633 16) : CC E mX9_takePlaces d [aO 555, aI (x1)] σ (RV (fun τ => (τ.I 631 x1 = (σ.I 555 105) ∧ τ.I 632 x1 = (σ.I 555 105) + (mPl l.2.2.2.2.2 l.1) ∧ τ.I 555 105 = (σ.I 555 105) + (mPl l.2.2.2.2.2 l.1)) ∧ (τ.I 555 108 = (nPl l.2.2.2.2.2 (mPl l.2.2.2.2.2 l.1)) ∧ 0 ≤ (nPl l.2.2.2.2.2 (mPl l.2.2.2.2.2 l.1)) ∧ (nPl l.2.2.2.2.2 (mPl l.2.2.2.2.2 l.1)) ≤ 16 ∧ 0 ≤ (mPl l.2.2.2.2.2 l.1) ∧ (mPl l.2.2.2.2.2 l.1) ≤ l.1) ∧ (PLN τ (σ.I 555 105) l (mPl l.2.2.2.2.2 l.1)) ∧ (PPN τ 633 0 l (nPl l.2.2.2.2.2 (mPl l.2.2.2.2.2 l.1))) ∧ (PPN τ 648 (16 * x1) l (nPl l.2.2.2.2.2 (mPl l.2.2.2.2.2 l.1))) ∧ (bd_0_20 τ 573 300) ∧ (bd_0_15 τ 630 6000) ∧ (bd_0_20 τ 629 6000) ∧ (bd_0_500 τ 633 16) ∧ (KPl x1 (σ.I 555 105) σ τ))) := by sorry
end
section
/-! contracts: printed by tools/mk.py out of s47p_workM.py -/
set_option maxRecDepth 100000
set_option maxHeartbeats 1500000
def bd_m1_599 (σ : Sto) (a : Nat) (n : Int) : Prop := ∀ i, 0 ≤ i → i < n → (-1) ≤ σ.I a i ∧ σ.I a i ≤ 599
theorem bd_m1_599_at {σ : Sto} {a : Nat} {n i : Int} (h : bd_m1_599 σ a n) (h0 : 0 ≤ i) (h1 : i < n) : σ.I a i = (-1) ∨ ((-1) < σ.I a i ∧ σ.I a i ≤ 599) := by have := h i h0 h1; omega
theorem bd_m1_599_eq {σ τ : Sto} {a : Nat} {n : Int} (h : bd_m1_599 σ a n) (e : τ.I a = σ.I a) : bd_m1_599 τ a n := by unfold bd_m1_599; rw [e]; exact h
/-- the row of a node is empty -/
def CLR (σ : Sto) (n : Int) : Prop := ∀ o, 0 ≤ o → o < 601 → σ.I 621 (601 * n + o) = 0 ∧ σ.I 622 (601 * n + o) = 0
theorem CLR_at {σ : Sto} {n i : Int} (h : CLR σ n) (h0 : 601 * n ≤ i) (h1 : i < 601 * n + 601) : σ.I 621 i = 0 ∧ σ.I 622 i = 0 := by
  have := h (i - 601 * n) (by omega) (by omega)
  rw [show 601 * n + (i - 601 * n) = i by omega] at this; exact this
theorem CLR_m {σ : Sto} {n i : Int} (h : CLR σ n) (h0 : 601 * n ≤ i) (h1 : i < 601 * n + 601) : σ.I 621 i = 0 := (CLR_at h h0 h1).1
theorem CLR_s {σ : Sto} {n i : Int} (h : CLR σ n) (h0 : 601 * n ≤ i) (h1 : i < 601 * n + 601) : σ.I 622 i = 0 := (CLR_at h h0 h1).2
/-- what PARENT and CHILD are worth -/
noncomputable def paV (σ : Sto) (n p m : Int) : Int := zb (σ.I 601 p = 1 ∧ exN (fun k => σ.I 601 k = 1 ∧ σ.I 591 k = p ∧ σ.I 621 (601 * σ.I 610 n + k) = 1) m)
def chC (σ : Sto) (n o : Int) : Prop := σ.I 601 o = 1 ∧ 0 ≤ σ.I 591 o ∧ σ.I 601 (σ.I 591 o) = 1 ∧ σ.I 621 (601 * σ.I 610 n + σ.I 591 o) = 1
theorem paV_0 {σ : Sto} {n p m : Int} (h : m ≤ 0) : paV σ n p m = 0 := zb_f (fun z => exN_0 _ _ h z.2)
theorem paV_s {σ : Sto} {n p m k : Int} (h : 0 ≤ m) (hk : k = m + 1) : (paV σ n p k = 1 ∨ paV σ n p k = 0) ∧ (paV σ n p k = 1 ↔ paV σ n p m = 1 ∨ (σ.I 601 p = 1 ∧ σ.I 601 m = 1 ∧ σ.I 591 m = p ∧ σ.I 621 (601 * σ.I 610 n + m) = 1)) := by
  refine ⟨?_, ?_⟩
  · have := zb_in (σ.I 601 p = 1 ∧ exN (fun k => σ.I 601 k = 1 ∧ σ.I 591 k = p ∧ σ.I 621 (601 * σ.I 610 n + k) = 1) k); unfold paV; omega
  · unfold paV
    rw [zb_1, zb_1, exN_s _ m k h hk]
    constructor
    · rintro ⟨a, b | b⟩
      · exact Or.inl ⟨a, b⟩
      · exact Or.inr ⟨a, b⟩
    · rintro (⟨a, b⟩ | ⟨a, b⟩)
      · exact ⟨a, Or.inl b⟩
      · exact ⟨a, Or.inr b⟩
theorem paV_in (σ : Sto) (n p m : Int) : paV σ n p m = 0 ∨ paV σ n p m = 1 := by
  have := zb_in (σ.I 601 p = 1 ∧ exN (fun k => σ.I 601 k = 1 ∧ σ.I 591 k = p ∧ σ.I 621 (601 * σ.I 610 n + k) = 1) m); unfold paV; omega

theorem sp_X9_workParent {E : XE} {d : Nat} {σ : Sto} {x1 : Int} (hd : 3 ≤ d) (hL : Lay σ)  (p0 : 0 ≤ x1 ∧ x1 < σ.I 555 80) (p1 : σ.I 555 80 ≤ 130) (p2 : σ.I 609 x1 = 4) (p3 : CLR σ x1) (p4 : 0 ≤ σ.I 610 x1 ∧ σ.I 610 x1 < x1) (p5 : bd_m1_599 σ 591 601) (p6 : bd_0_1 σ 621 78130) (p7 : bd_0_1 σ 601 601) : CC E mX9_workParent d [aO 555, aI (x1)] σ (RV (fun τ => (RD σ τ (fun c i => if rg c i 621 (601 * x1) (601 * x1 + 601) then paV σ x1 (i - 601 * x1) 600 else if rg c i 622 (601 * x1) (601 * x1 + 601) then if paV σ x1 (i - 601 * x1) 600 = 1 then 64 else 0 else σ.I c i)))) := by sorry
/-- the row of a node as far as object n; beyond it is empty -/
def ROW (σ : Sto) (x n : Int) (V : Int → Int) : Prop := (∀ o, 0 ≤ o → o < n → σ.I 621 (601 * x + o) = (if 0 ≤ V o then 1 else 0) ∧ σ.I 622 (601 * x + o) = (if 0 ≤ V o then V o else 0)) ∧ ∀ o, n ≤ o → o < 601 → σ.I 621 (601 * x + o) = 0 ∧ σ.I 622 (601 * x + o) = 0
theorem ROW_0 {σ : Sto} {x : Int} {V : Int → Int} (h : CLR σ x) : ROW σ x 0 V := ⟨fun o a b => by omega, fun o a b => h o a b⟩
theorem ROW_skip {σ : Sto} {x n : Int} {V : Int → Int} (h : ROW σ x n V) (hn : 0 ≤ n ∧ n < 601) (hv : V n < 0) : ROW σ x (n + 1) V := by
  refine ⟨fun o a b => ?_, fun o a b => h.2 o (by omega) b⟩
  rcases (show o < n ∨ o = n by omega) with q | q
  · exact h.1 o a q
  · subst q
    rw [if_neg (by omega), if_neg (by omega)]
    exact h.2 o (Int.le_refl _) hn.2
theorem ROW_set {τ υ : Sto} {x n b s : Int} {V : Int → Int} (h : ROW τ x n V) (e : υ.I = fun c i => if at2 c i 621 (601 * x + n) then b else if at2 c i 622 (601 * x + n) then (if b = 1 then s else 0) else τ.I c i) (hb : 0 ≤ b ∧ b ≤ 1) (h1 : b = 1 → V n = s ∧ 0 ≤ s) (h0 : b = 0 → V n < 0) : ROW υ x (n + 1) V := by
  refine ⟨fun o a c => ?_, fun o a c => ?_⟩
  · rcases (show o < n ∨ o = n by omega) with q | q
    · obtain ⟨g1, g2⟩ := h.1 o a q
      rw [e]
      refine ⟨?_, ?_⟩ <;> grind
    · subst q
      rw [e]
      rcases (show b = 1 ∨ b = 0 by omega) with z | z
      · obtain ⟨q1, q2⟩ := h1 z
        refine ⟨?_, ?_⟩ <;> grind
      · have q1 := h0 z
        refine ⟨?_, ?_⟩ <;> grind
  · obtain ⟨g1, g2⟩ := h.2 o (by omega) c
    rw [e]
    refine ⟨?_, ?_⟩ <;> grind
theorem ROW_fr {σ τ : Sto} {x n : Int} {V : Int → Int} (h : ROW σ x n V) (h0 : 0 ≤ n) (e : ∀ o, 0 ≤ o → o < 601 → τ.I 621 (601 * x + o) = σ.I 621 (601 * x + o) ∧ τ.I 622 (601 * x + o) = σ.I 622 (601 * x + o)) (hn : n ≤ 601) : ROW τ x n V :=
  ⟨fun o a b => by rw [(e o a (by omega)).1, (e o a (by omega)).2]; exact h.1 o a b, fun o a b => by rw [(e o (by omega) b).1, (e o (by omega) b).2]; exact h.2 o a b⟩
theorem ROW_vl {σ : Sto} {x o : Int} {V : Int → Int} (h : ROW σ x 601 V) (h0 : 0 ≤ o) (h1 : o < 601) (hv : V o = -1 ∨ 0 ≤ V o) : vlA σ x o = V o := by
  obtain ⟨a, b⟩ := h.1 o h0 h1
  unfold vlA
  rcases hv with z | z
  · have a' : σ.I 621 (601 * x + o) = 0 := by rw [a, if_neg (by omega)]
    rw [a', if_neg (by decide), z]
  · rw [a, b, if_pos z, if_pos rfl, if_pos z]
/-- what the working out of a row writes -/
def wsRw (x : Int) (c : Nat) (i : Int) : Prop := (c = 621 ∨ c = 622) ∧ 601 * x ≤ i ∧ i < 601 * x + 601
abbrev KRw (x : Int) (σ τ : Sto) : Prop := Ch (wsRw x) σ τ
theorem KRw_rf {x : Int} {σ : Sto} : KRw x σ σ := Ch.rf
theorem KRw_rd {x : Int} {σ τ : Sto} {F : Nat → Int → Int} (r : τ.R = σ.R) (s : τ.sh = σ.sh) (n : τ.n = σ.n) (e : τ.I = F) (h : ∀ c i, ¬ wsRw x c i → F c i = σ.I c i) : KRw x σ τ := ⟨⟨r, s, n⟩, fun c i q => by rw [e]; exact h c i q⟩
theorem KM_of_KRw {x : Int} {σ τ : Sto} (h : KRw x σ τ) : KM σ τ := Ch.mono h (fun c i q => by unfold wsRw at q; unfold wsM; omega)
theorem scW_y {σ : Sto} {m o : Int} (h : σ.I 621 (601 * m + o) = 1) (h0 : 0 ≤ σ.I 622 (601 * m + o)) : scW σ (vlA σ) m o = prd (σ.I 613 m) (σ.I 622 (601 * m + o)) := by
  have e : vlA σ m o = σ.I 622 (601 * m + o) := if_pos h
  unfold scW; rw [e, if_neg (by omega)]
theorem scW_n {σ : Sto} {m o : Int} (h : ¬ σ.I 621 (601 * m + o) = 1) : scW σ (vlA σ) m o = -1 := by
  have e : vlA σ m o = -1 := if_neg h
  unfold scW; rw [e, if_pos (by decide)]
/-- what CHILD is worth: what the object above is, with its boost -/
noncomputable def chV (σ : Sto) (n o : Int) : Int := if zb (σ.I 601 o = 1 ∧ 0 ≤ σ.I 591 o ∧ σ.I 601 (σ.I 591 o) = 1) = 1 then scW σ (vlA σ) (σ.I 610 n) (σ.I 591 o) else -1
theorem chV_no {σ : Sto} {n o : Int} (h : ¬ (σ.I 601 o = 1 ∧ 0 ≤ σ.I 591 o ∧ σ.I 601 (σ.I 591 o) = 1)) : chV σ n o < 0 := by unfold chV; rw [if_neg (fun z => h (zb_1.mp z))]; omega
theorem chV_yes {σ : Sto} {n o : Int} (h1 : σ.I 601 o = 1) (h2 : 0 ≤ σ.I 591 o) (h3 : σ.I 601 (σ.I 591 o) = 1) : chV σ n o = scW σ (vlA σ) (σ.I 610 n) (σ.I 591 o) := by unfold chV; rw [if_pos (zb_t ⟨h1, h2, h3⟩)]
theorem mHT_k {σ τ : Sto} (h : KM σ τ) : mHT τ = mHT σ := by
  funext f A i n o
  unfold mHT mVT mV tcM mT
  rw [km_595 h, km_596 h, km_579 h, km_602 h, km_582 h, km_586 h, km_587 h]
theorem mHV_k {σ τ : Sto} (h : KM σ τ) : mHV τ = mHV σ := by
  funext f o
  unfold mHV mV
  rw [km_595 h, km_596 h, km_579 h, km_602 h]
theorem WOB_k {σ τ : Sto} (h : KM σ τ) (g : WOB σ) : WOB τ := by
  unfold WOB
  rw [km_601 h, km_595 h, km_596 h, kmf_30 h]; exact g

theorem sp_X9_workChild {E : XE} {d : Nat} {σ : Sto} {x1 : Int} (hd : 3 ≤ d) (hL : Lay σ)  (p0 : 0 ≤ x1 ∧ x1 < σ.I 555 80) (p1 : σ.I 555 80 ≤ 130) (p2 : σ.I 609 x1 = 5) (p3 : CLR σ x1) (p4 : 0 ≤ σ.I 610 x1 ∧ σ.I 610 x1 < x1) (p5 : bd_m1_599 σ 591 601) (p6 : bd_0_1 σ 621 78130) (p7 : bd_0_1 σ 601 601) (p8 : bd_0_1000000000000000 σ 622 78130) (p9 : TW σ) (p10 : σ.I 601 600 = 1 → σ.I 591 600 = -1) : CC E mX9_workChild d [aO 555, aI (x1)] σ (RV (fun τ => (ROW τ x1 601 (chV σ x1)) ∧ (KRw x1 σ τ))) := by sorry
theorem lgN_in (p q : Int) : ∀ (k : Nat) (e : Int), e ≤ lgN p q k e ∧ lgN p q k e ≤ e + k := by
  intro k
  induction k with
  | zero => intro e; exact ⟨Int.le_refl _, by show e ≤ e + ((0 : Nat) : Int); omega⟩
  | succ k ih =>
    intro e
    show e ≤ (if b64shl q (e + 1) ≤ p then lgN p q k (e + 1) else e) ∧ (if b64shl q (e + 1) ≤ p then lgN p q k (e + 1) else e) ≤ _
    have := ih (e + 1)
    split <;> omega
theorem lgAN_i2 {m e : Int} (h0 : 0 ≤ e) (h1 : e ≤ 20) : ∀ k : Nat, 0 ≤ lgAN m e k ∧ lgAN m e k + 1 ≤ 21 * (2 ^ k : Nat) := by
  intro k
  induction k with
  | zero => exact ⟨h0, by show e + 1 ≤ 21 * 1; omega⟩
  | succ k ih =>
    show 0 ≤ (if 2147483648 ≤ b64shr (lgMN m k * lgMN m k) 30 then 2 * lgAN m e k + 1 else 2 * lgAN m e k) ∧ (if 2147483648 ≤ b64shr (lgMN m k * lgMN m k) 30 then 2 * lgAN m e k + 1 else 2 * lgAN m e k) + 1 ≤ _
    rw [Nat.pow_succ]
    by_cases z : 2147483648 ≤ b64shr (lgMN m k * lgMN m k) 30
    · rw [if_pos z]; omega
    · rw [if_neg z]; omega
theorem lgR_in (p q : Int) : 0 ≤ lgR p q ∧ lgR p q ≤ 5376 := by
  have h1 := lgN_in p q 20 0
  have h2 : lg p q 0 = lgN p q 20 0 := rfl
  have h3 := lgAN_i2 (m := td (b64shl p 30) (b64shl q (lg p q 0))) (e := lg p q 0) (by omega) (by omega) 8
  have h4 : lgR p q = lgAN (td (b64shl p 30) (b64shl q (lg p q 0))) (lg p q 0) 8 := rfl
  have h5 : (2 ^ 8 : Nat) = 256 := by decide
  rw [h5] at h3
  omega
/-- VALUE: the term as far as it goes, and what it is worth -/
def vaZ (σ : Sto) (n : Int) : Int := min (σ.I 616 n - σ.I 615 n) 20
noncomputable def vaS (σ : Sto) (n : Int) : Int := if σ.I 555 98 = 2 then 64 else lgR (2 * cn (fun o => σ.I 601 o = 1 ∧ mHV σ (σ.I 614 n) o) 601 + 2) (2 * cn (fun o => σ.I 601 o = 1 ∧ mHT σ (σ.I 614 n) (σ.I (src σ)) (σ.I 555 75 + σ.I 615 n) (vaZ σ n) o) 601 + 1)
noncomputable def vaV (σ : Sto) (n o : Int) : Int := if zb (σ.I 601 o = 1 ∧ 0 < vaZ σ n ∧ mHT σ (σ.I 614 n) (σ.I (src σ)) (σ.I 555 75 + σ.I 615 n) (vaZ σ n) o) = 1 then vaS σ n else -1
theorem vaV_no {σ : Sto} {n o : Int} (h : ¬ (σ.I 601 o = 1 ∧ 0 < vaZ σ n ∧ mHT σ (σ.I 614 n) (σ.I (src σ)) (σ.I 555 75 + σ.I 615 n) (vaZ σ n) o)) : vaV σ n o < 0 := by unfold vaV; rw [if_neg (fun z => h (zb_1.mp z))]; omega
theorem vaV_yes {σ : Sto} {n o : Int} (h : σ.I 601 o = 1 ∧ 0 < vaZ σ n ∧ mHT σ (σ.I 614 n) (σ.I (src σ)) (σ.I 555 75 + σ.I 615 n) (vaZ σ n) o) : vaV σ n o = vaS σ n := by unfold vaV; rw [if_pos (zb_t h)]
theorem cn_imp {p q : Int → Prop} (h : ∀ o, p o → q o) : ∀ (n : Nat), cn p (n : Int) ≤ cn q (n : Int) := by
  intro n
  induction n with
  | zero => rw [cn_0 p _ (by omega), cn_0 q _ (by omega)]; exact Int.le_refl _
  | succ n ih =>
    rw [cn_s p (n : Int) ((n + 1 : Nat) : Int) (by omega) (by omega), cn_s q (n : Int) ((n + 1 : Nat) : Int) (by omega) (by omega)]
    have : zb (p n) ≤ zb (q n) := by
      by_cases z : p n
      · rw [zb_t z, zb_t (h _ z)]; exact Int.le_refl _
      · rw [zb_f z]; exact (zb_in _).1
    omega
theorem mHT_HV {σ : Sto} {f i n o : Int} {A : Int → Int} (h : mHT σ f A i n o) : mHV σ f o := by
  obtain ⟨j, a, b, c⟩ := h
  exact ⟨j, a, b, c.1⟩

theorem vaS_in (σ : Sto) (n : Int) : 0 ≤ vaS σ n ∧ vaS σ n ≤ 5376 := by
  unfold vaS
  split
  · omega
  · exact lgR_in _ _

theorem sp_X9_workValue {E : XE} {d : Nat} {σ : Sto} {x1 : Int} (hd : 6 ≤ d) (hL : Lay σ)  (p0 : 0 ≤ x1 ∧ x1 < σ.I 555 80) (p1 : σ.I 555 80 ≤ 130) (p2 : σ.I 609 x1 = 8) (p3 : CLR σ x1) (p4 : SRC σ) (p5 : TN σ x1) (p6 : bd_0_1 σ 601 601) (p7 : OB σ 595 596) (p8 : VT σ (σ.I 555 30)) (p9 : σ.I 555 30 ≤ 6000) (p10 : WOB σ) (p11 : bd_0_20 σ 587 24000) : CC E mX9_workValue d [aO 555, aI (x1)] σ (RV (fun τ => (ROW τ x1 601 (vaV σ x1)) ∧ (KRw x1 σ τ))) := by sorry
/-- what a node that is worked out object by object is worth -/
noncomputable def foV (σ : Sto) (n o : Int) : Int := if σ.I 609 n ≤ 3 then mbV σ (vlA σ) n o else if σ.I 609 n = 6 then 64 else if zb (hlM σ n o) = 1 then 64 else -1
def wsEo (x o : Int) (c : Nat) (i : Int) : Prop := wsQ c i ∨ ((c = 621 ∨ c = 622) ∧ i = 601 * x + o)
abbrev KEo (x o : Int) (σ τ : Sto) : Prop := Ch (wsEo x o) σ τ
theorem KEo_rf {x o : Int} {σ : Sto} : KEo x o σ σ := Ch.rf
theorem KEo_of_KQ {x o : Int} {σ τ : Sto} (h : KQ σ τ) : KEo x o σ τ := Ch.mono h (fun c i q => Or.inl q)
theorem KEo_rd {x o : Int} {σ τ : Sto} {F : Nat → Int → Int} (r : τ.R = σ.R) (s : τ.sh = σ.sh) (n : τ.n = σ.n) (e : τ.I = F) (h : ∀ c i, ¬ wsEo x o c i → F c i = σ.I c i) : KEo x o σ τ := ⟨⟨r, s, n⟩, fun c i q => by rw [e]; exact h c i q⟩
theorem foV_in {σ : Sto} {n o : Int} (h : ¬ σ.I 609 n ≤ 3) : foV σ n o = 64 ∨ foV σ n o = -1 := by
  unfold foV; rw [if_neg h]; split
  · exact Or.inl rfl
  · split
    · exact Or.inl rfl
    · exact Or.inr rfl

theorem sp_X9_workFor {E : XE} {d : Nat} {σ : Sto} {pa : Int → Int} {x1 : Int} {x2 : Int} (hd : 7 ≤ d) (hL : Lay σ)  (p0 : 0 ≤ x1 ∧ x1 < σ.I 555 80) (p1 : σ.I 555 80 ≤ 130) (p2 : 0 ≤ x2 ∧ x2 < 601) (p3 : σ.I 609 x1 ≤ 3 ∨ σ.I 609 x1 = 6 ∨ 9 ≤ σ.I 609 x1) (p4 : TP σ pa) (p5 : bd_0_1000000000000000 σ 622 78130) (p6 : TW σ) (p7 : SRC σ) (p8 : bd_0_20 σ 587 24000) (p9 : VT σ (σ.I 555 30)) (p10 : NB σ) (p11 : OB σ 595 596) (p12 : σ.I 595 x2 + σ.I 596 x2 ≤ σ.I 555 30 ∧ σ.I 555 30 ≤ 6000) : CC E mX9_workFor d [aO 555, aI (x1), aI (x2)] σ (RV (fun τ => (τ.I 621 (601 * x1 + x2) = (if 0 ≤ (foV σ x1 x2) then 1 else 0) ∧ τ.I 622 (601 * x1 + x2) = (if 0 ≤ (foV σ x1 x2) then (foV σ x1 x2) else 0)) ∧ (KEo x1 x2 σ τ))) := by sorry
end
section
/-! contracts: printed by tools/mk.py out of s47q_scoX.py -/
set_option maxRecDepth 100000
set_option maxHeartbeats 1500000
/-- what a text leaf scores: f the formula, s the sum of its places, c how often, t all tokens of the field, l those of the object, n how many have the field -/
def wgh (f s c t l n : Int) : Int := if f = 1 then s * rt (64 * c) 0 else if f = 2 then 64 * c else td (1408 * s * c * t) (10 * c * t + 3 * t + 9 * l * n)
theorem mul_in {a b x y : Int} (h0 : 0 ≤ a) (h1 : a ≤ x) (h2 : 0 ≤ b) (h3 : b ≤ y) : 0 ≤ a * b ∧ a * b ≤ x * y := ⟨Int.mul_nonneg h0 h2, Int.mul_le_mul h1 h3 h2 (by omega)⟩
/-- bounds of what goes into a score -/
theorem wgh_in {s c t l n : Int} (hs : 0 ≤ s ∧ s ≤ 100000) (hc : 1 ≤ c ∧ c ≤ 12000) (ht : 1 ≤ t ∧ t ≤ 3700000) (hl : 0 ≤ l ∧ l ≤ 6000) (hn : 0 ≤ n ∧ n ≤ 601) :
    (0 ≤ 1408 * s * c * t ∧ 1408 * s * c * t ≤ 6251520000000000000) ∧ (1 ≤ 10 * c * t + 3 * t + 9 * l * n ∧ 10 * c * t + 3 * t + 9 * l * n ≤ 500000000000) ∧ (0 ≤ 1408 * s ∧ 1408 * s ≤ 140800000) ∧ (0 ≤ 1408 * s * c ∧ 1408 * s * c ≤ 1689600000000) ∧ (0 ≤ 10 * c * t ∧ 10 * c * t ≤ 444000000000) ∧ (0 ≤ 9 * l * n ∧ 9 * l * n ≤ 32454000) := by
  have a1 := mul_in (a := 1408 * s) (b := c) (x := 140800000) (y := 12000) (by omega) (by omega) (by omega) (by omega)
  have a2 := mul_in (a := 1408 * s * c) (b := t) (x := 1689600000000) (y := 3700000) (by omega) (by omega) (by omega) (by omega)
  have a3 := mul_in (a := 10 * c) (b := t) (x := 120000) (y := 3700000) (by omega) (by omega) (by omega) (by omega)
  have a4 := mul_in (a := 9 * l) (b := n) (x := 54000) (y := 601) (by omega) (by omega) (by omega) (by omega)
  omega

theorem sp_X5_idf {E : XE} {d : Nat} {σ : Sto} {o0 : Nat} {x1 : Int} {x2 : Int} (hd : 2 ≤ d) (hL : Lay σ) (ho0 : At5 σ o0) (p0 : 0 ≤ x1 ∧ x1 < 12) (p1 : 0 ≤ x2 ∧ x2 ≤ σ.I (o0 + 17) x1 ∧ σ.I (o0 + 17) x1 ≤ 601) : CC E mX5_idf d [aO o0, aI (x1), aI (x2)] σ (RI σ (lgR (2 * σ.I (o0 + 17) x1 + 2) (2 * x2 + 1))) := by sorry
theorem rtN_in (v : Int) : ∀ (k : Nat) (r : Int), r ≤ rtN v k r ∧ rtN v k r ≤ r + k := by
  intro k
  induction k with
  | zero => intro r; exact ⟨Int.le_refl _, by show r ≤ r + ((0 : Nat) : Int); omega⟩
  | succ k ih =>
    intro r
    have := ih (r + 1)
    unfold rtN
    split <;> omega
theorem rt_in (v : Int) : 0 ≤ rt v 0 ∧ rt v 0 ≤ 1001 := by
  have := rtN_in v 1001 0
  have e : rt v 0 = rtN v 1001 0 := rfl
  omega
theorem td_bd {a b m : Int} (h0 : 0 ≤ a) (h1 : a ≤ m) (hb : 1 ≤ b) : 0 ≤ td a b ∧ td a b ≤ m := by
  have e : td a b = a.tdiv b := rfl
  rw [e, Int.tdiv_eq_ediv_of_nonneg h0]
  exact ⟨Int.ediv_nonneg h0 (by omega), Int.le_trans (Int.ediv_le_self _ h0) h1⟩

theorem sp_X5_weigh {E : XE} {d : Nat} {σ : Sto} {o0 : Nat} {y1 : Int} {y3 : Int} {x5 : Int} {x6 : Int} (hd : 2 ≤ d) (hL : Lay σ) (ho0 : At5 σ o0) (p0 : 0 ≤ x5 ∧ x5 < 601) (p1 : 0 ≤ x6 ∧ x6 < 12) (p2 : 0 ≤ y1 ∧ y1 ≤ 100000) (p3 : 1 ≤ y3 ∧ y3 ≤ 12000) (p4 : 1 ≤ (σ.I (o0 + 18) x6) ∧ (σ.I (o0 + 18) x6) ≤ 3700000) (p5 : 0 ≤ (xTO σ x6 x5) ∧ (xTO σ x6 x5) ≤ 6000) (p6 : 0 ≤ (σ.I (o0 + 17) x6) ∧ (σ.I (o0 + 17) x6) ≤ 601) (p7 : OB σ 42 43) (p8 : bd_0_250 σ 32 6000) : CC E mX5_weigh d [aO o0, aL (y1), aL (y3), aI (x5), aI (x6)] σ (RL σ (wgh (σ.I o0 2) y1 y3 (σ.I (o0 + 18) x6) (xTO σ x6 x5) (σ.I (o0 + 17) x6))) := by sorry
/-- what a leaf of the program is worth for an object -/
noncomputable def lfX (σ : Sto) (o : Nat) (x k : Int) : Int := if σ.I (o + 23) (601 * σ.I (o + 21) x + k) = 0 then -1 else if σ.I (o + 3) x = 8 then (if σ.I o 2 = 2 then 64 else σ.I (o + 22) x) else if σ.I (o + 3) x = 7 then wgh (σ.I o 2) (σ.I (o + 22) x) (σ.I (o + 23) (601 * σ.I (o + 21) x + k)) (σ.I (o + 18) (σ.I (o + 8) x)) (xTO σ (σ.I (o + 8) x) k) (σ.I (o + 17) (σ.I (o + 8) x)) else 64

theorem sp_X5_leafScore {E : XE} {d : Nat} {σ : Sto} {o0 : Nat} {x1 : Int} {x2 : Int} (hd : 3 ≤ d) (hL : Lay σ) (ho0 : At5 σ o0) (p0 : 0 ≤ x1 ∧ x1 < 200) (p1 : 0 ≤ x2 ∧ x2 < 601) (p2 : bd_0_59 σ (o0 + 21) 200) (p3 : 0 ≤ (σ.I (o0 + 8) x1) ∧ (σ.I (o0 + 8) x1) < 12) (p4 : 7 ≤ (σ.I (o0 + 3) x1)) (p5 : 0 ≤ (σ.I (o0 + 23) (601 * σ.I (o0 + 21) x1 + x2)) ∧ (σ.I (o0 + 23) (601 * σ.I (o0 + 21) x1 + x2)) ≤ 12000) (p6 : 0 ≤ σ.I (o0 + 22) x1 ∧ σ.I (o0 + 22) x1 ≤ 100000) (p7 : (σ.I (o0 + 3) x1) = 7 → (σ.I (o0 + 23) (601 * σ.I (o0 + 21) x1 + x2)) ≠ 0 → 1 ≤ σ.I (o0 + 18) (σ.I (o0 + 8) x1)) (p8 : σ.I (o0 + 18) (σ.I (o0 + 8) x1) ≤ 3700000) (p9 : 0 ≤ xTO σ (σ.I (o0 + 8) x1) x2 ∧ xTO σ (σ.I (o0 + 8) x1) x2 ≤ 6000) (p10 : 0 ≤ σ.I (o0 + 17) (σ.I (o0 + 8) x1) ∧ σ.I (o0 + 17) (σ.I (o0 + 8) x1) ≤ 601) (p11 : OB σ 42 43) (p12 : bd_0_250 σ 32 6000) : CC E mX5_leafScore d [aO o0, aI (x1), aI (x2)] σ (RL σ (lfX σ o0 x1 x2)) := by sorry
end
section
/-! contracts: printed by tools/mk.py out of s47qa_count.py -/
set_option maxRecDepth 100000
set_option maxHeartbeats 1500000
/-! what the program counts of a world: how many objects have a field, how many tokens -/
def qvX (σ : Sto) (k f j : Int) : Prop := σ.I 26 (σ.I 42 k + j) = f
def hxV (σ : Sto) (f k : Int) : Prop := exN (qvX σ k f) (σ.I 43 k)
noncomputable def tvX (σ : Sto) (k f m : Int) : Int := smP (qvX σ k f) (fun j => σ.I 32 (σ.I 42 k + j)) m
def swX (σ : Sto) (o : Nat) (k : Int) : Prop := σ.I o 6 ≤ k ∧ σ.I (o + 1) k = 1
noncomputable def hvX (σ : Sto) (o : Nat) (f n : Int) : Int := cn (fun k => swX σ o k ∧ hxV σ f k) n
noncomputable def tkX (σ : Sto) (o : Nat) (f n : Int) : Int := smP (swX σ o) (fun k => xTO σ f k) n
theorem tv_TO {σ : Sto} {k f : Int} : tvX σ k f (σ.I 43 k) = xTO σ f k := rfl
theorem cn_no {p : Int → Prop} : ∀ (n : Nat), (∀ j, 0 ≤ j → j < (n : Int) → ¬ p j) → cn p (n : Int) = 0 := by
  intro n
  induction n with
  | zero => intro _; exact cn_0 p _ (by omega)
  | succ n ih => intro h; rw [cn_s p (n : Int) ((n + 1 : Nat) : Int) (by omega) (by omega), ih (fun j a b => h j a (by omega)), zb_f (h n (by omega) (by omega))]; omega
theorem sm_no {p : Int → Prop} {g : Int → Int} : ∀ (n : Nat), (∀ j, 0 ≤ j → j < (n : Int) → ¬ p j) → smP p g (n : Int) = 0 := by
  intro n
  induction n with
  | zero => intro _; exact smP_0 p g _ (by omega)
  | succ n ih => intro h; rw [smP_f p g (n : Int) ((n + 1 : Nat) : Int) (by omega) (by omega) (h n (by omega) (by omega)), ih (fun j a b => h j a (by omega))]
theorem hvX_0 {σ : Sto} {o : Nat} {f n : Int} (h : n ≤ σ.I o 6) (h0 : 0 ≤ n) : hvX σ o f n = 0 ∧ tkX σ o f n = 0 := by
  obtain ⟨m, rfl⟩ : ∃ m : Nat, n = m := ⟨n.toNat, by omega⟩
  exact ⟨cn_no m (fun j a b z => by have := z.1.1; omega), sm_no m (fun j a b z => by have := z.1; omega)⟩
theorem hvX_f {σ : Sto} {o : Nat} {f n : Int} (h0 : 0 ≤ n) (h : ¬ σ.I (o + 1) n = 1) : hvX σ o f (n + 1) = hvX σ o f n ∧ tkX σ o f (n + 1) = tkX σ o f n := by
  refine ⟨?_, smP_f _ _ n (n + 1) h0 rfl (fun z => h z.2)⟩
  unfold hvX
  rw [cn_s _ n (n + 1) h0 rfl, zb_f (fun z => h z.1.2)]; omega
theorem hvX_t {σ : Sto} {o : Nat} {f n : Int} (h0 : 0 ≤ n) (h1 : σ.I o 6 ≤ n) (h : σ.I (o + 1) n = 1) : hvX σ o f (n + 1) = hvX σ o f n + zb (hxV σ f n) ∧ tkX σ o f (n + 1) = tkX σ o f n + xTO σ f n := by
  refine ⟨?_, smP_t _ _ n (n + 1) h0 rfl ⟨h1, h⟩⟩
  unfold hvX
  rw [cn_s _ n (n + 1) h0 rfl, zb_iff (show (swX σ o n ∧ hxV σ f n) ↔ hxV σ f n from ⟨fun z => z.2, fun z => ⟨⟨h1, h⟩, z⟩⟩)]
def CNT (σ τ : Sto) (o : Nat) (n : Int) : Prop := ∀ f, 0 ≤ f → f < σ.I 0 9 → τ.I (o + 2) f = hvX σ o f n ∧ τ.I (o + 3) f = tkX σ o f n
def CNV (σ τ : Sto) (o : Nat) (k m b : Int) : Prop := ∀ f, 0 ≤ f → f < σ.I 0 9 → τ.I (o + 2) f = hvX σ o f k + zb (exN (qvX σ k f) m) ∧ τ.I (o + 3) f = tkX σ o f k + tvX σ k f m ∧ (bt32 b f ↔ exN (qvX σ k f) m)
theorem CNV_0 {σ τ : Sto} {o : Nat} {k : Int} (h : CNT σ τ o k) : CNV σ τ o k 0 0 := by
  intro f f0 f1
  obtain ⟨a, b⟩ := h f f0 f1
  have e1 : tvX σ k f 0 = 0 := smP_0 _ _ _ (Int.le_refl _)
  refine ⟨by rw [zb_f (exN_0 _ _ (Int.le_refl _)), a]; omega, by rw [e1, b]; omega, ⟨fun z => absurd z (bt32_0 f), fun z => absurd z (exN_0 _ _ (Int.le_refl _))⟩⟩
theorem CNT_V {σ τ : Sto} {o : Nat} {k b : Int} (h : CNV σ τ o k (σ.I 43 k) b) (h0 : 0 ≤ k) (h1 : σ.I o 6 ≤ k) (hs : σ.I (o + 1) k = 1) : CNT σ τ o (k + 1) := by
  intro f f0 f1
  obtain ⟨a1, a2, _⟩ := h f f0 f1
  obtain ⟨b1, b2⟩ := hvX_t (f := f) h0 h1 hs
  exact ⟨by rw [b1]; exact a1, by rw [b2, ← tv_TO]; exact a2⟩
theorem CNT_f {σ τ : Sto} {o : Nat} {k : Int} (h : CNT σ τ o k) (h0 : 0 ≤ k) (hs : ¬ σ.I (o + 1) k = 1) : CNT σ τ o (k + 1) := by
  intro f f0 f1
  obtain ⟨b1, b2⟩ := hvX_f (f := f) h0 hs
  rw [b1, b2]; exact h f f0 f1
theorem CNV_s {σ τ υ : Sto} {o : Nat} {k m b g b' : Int} (h : CNV σ τ o k m b) (hm : 0 ≤ m) (hg : σ.I 26 (σ.I 42 k + m) = g) (g0 : 0 ≤ g ∧ g < 12)
    (e3 : ∀ i, υ.I (o + 3) i = if i = g then τ.I (o + 3) g + σ.I 32 (σ.I 42 k + m) else τ.I (o + 3) i) (e2t : bt32 b g → ∀ i, υ.I (o + 2) i = τ.I (o + 2) i) (e2f : ¬ bt32 b g → ∀ i, υ.I (o + 2) i = if i = g then τ.I (o + 2) g + 1 else τ.I (o + 2) i) (hb : b' = b32or b (b32shl 1 g)) (hfc : σ.I 0 9 ≤ 12) : CNV σ υ o k (m + 1) b' := by
  intro f f0 f1
  obtain ⟨a1, a2, a3⟩ := h f f0 f1
  have hx := exN_s (qvX σ k f) m (m + 1) hm rfl
  have hq : qvX σ k f m ↔ f = g := ⟨fun z => by have z : σ.I 26 (σ.I 42 k + m) = f := z; omega, fun z => by show σ.I 26 (σ.I 42 k + m) = f; omega⟩
  have hbt : bt32 b' f ↔ bt32 b f ∨ f = g := by rw [hb, bt32_or, bt32_1 (by omega) (by omega)]
  refine ⟨?_, ?_, ?_⟩
  · by_cases z : f = g
    · subst z
      have y : exN (qvX σ k f) (m + 1) := hx.mpr (Or.inr (hq.mpr rfl))
      rw [zb_t y]
      by_cases w : bt32 b f
      · rw [e2t w, a1, zb_t (a3.mp w)]
      · rw [e2f w, if_pos rfl, a1, zb_f (fun q => w (a3.mpr q))]; omega
    · have y : υ.I (o + 2) f = τ.I (o + 2) f := by
        by_cases w : bt32 b g
        · exact e2t w f
        · rw [e2f w, if_neg z]
      rw [y, a1, zb_iff (show exN (qvX σ k f) m ↔ exN (qvX σ k f) (m + 1) from ⟨fun q => hx.mpr (Or.inl q), fun q => (hx.mp q).elim id (fun w => absurd (hq.mp w) z)⟩)]
  · rw [e3]
    by_cases z : f = g
    · subst z
      have y : tvX σ k f (m + 1) = tvX σ k f m + σ.I 32 (σ.I 42 k + m) := smP_t _ _ m (m + 1) hm rfl (hq.mpr rfl)
      rw [if_pos rfl, y, a2]; omega
    · have y : tvX σ k f (m + 1) = tvX σ k f m := smP_f _ _ m (m + 1) hm rfl (fun w => z (hq.mp w))
      rw [if_neg z, y, a2]
  · rw [hbt, hx, hq, a3]
def wsCn (o c : Nat) (i : Int) : Prop := (c = o + 2 ∨ c = o + 3) ∧ i = i
abbrev KCn (o : Nat) (σ τ : Sto) : Prop := Ch (wsCn o) σ τ
theorem KCn_rf {o : Nat} {σ : Sto} : KCn o σ σ := Ch.rf
theorem KCn_w {o : Nat} {σ τ : Sto} {a : Nat} {i v : Int} (e : τ = σ.wI a i v) (h : wsCn o a i) : KCn o σ τ := by subst e; exact Ch.wI Ch.rf h
theorem kcn {o : Nat} {σ τ : Sto} (h : KCn o σ τ) {c : Nat} (q : c ≠ o + 2 ∧ c ≠ o + 3) : τ.I c = σ.I c := funext fun i => h.2 c i (fun z => z.1.elim q.1 q.2)

theorem smP_b {p : Int → Prop} {g : Int → Int} {B : Int} (hB : 0 ≤ B) : ∀ (n : Nat), (∀ j, 0 ≤ j → j < (n : Int) → p j → 0 ≤ g j ∧ g j ≤ B) → 0 ≤ smP p g (n : Int) ∧ smP p g (n : Int) ≤ B * n := by
  intro n
  induction n with
  | zero => intro _; rw [smP_0 p g _ (by omega)]; exact ⟨Int.le_refl _, by rw [show ((0 : Nat) : Int) = 0 from rfl, Int.mul_zero]; exact Int.le_refl _⟩
  | succ n ih =>
    intro h
    obtain ⟨a, b⟩ := ih (fun j x y => h j x (by omega))
    have e : B * ((n + 1 : Nat) : Int) = B * n + B := by rw [show ((n + 1 : Nat) : Int) = (n : Int) + 1 from rfl, Int.mul_add, Int.mul_one]
    by_cases z : p n
    · have := h n (by omega) (by omega) z
      rw [smP_t p g (n : Int) ((n + 1 : Nat) : Int) (by omega) (by omega) z, e]; omega
    · rw [smP_f p g (n : Int) ((n + 1 : Nat) : Int) (by omega) (by omega) z, e]; omega
theorem tvX_in {σ : Sto} {k f m : Int} (hb : bd_0_250 σ 32 6000) (h0 : 0 ≤ σ.I 42 k) (hm : 0 ≤ m) (h1 : σ.I 42 k + m ≤ 6000) : 0 ≤ tvX σ k f m ∧ tvX σ k f m ≤ 250 * m := by
  obtain ⟨n, rfl⟩ : ∃ n : Nat, m = n := ⟨m.toNat, by omega⟩
  exact smP_b (by decide) n (fun j a b _ => hb (σ.I 42 k + j) (by omega) (by omega))
theorem tkX_in {σ : Sto} {o : Nat} {f n : Int} (hb : bd_0_250 σ 32 6000) (ho : OB σ 42 43) (hn : 0 ≤ n) (h1 : n ≤ 601) : 0 ≤ tkX σ o f n ∧ tkX σ o f n ≤ 6000 * n := by
  obtain ⟨m, rfl⟩ : ∃ m : Nat, n = m := ⟨n.toNat, by omega⟩
  refine smP_b (by decide) m (fun j a b _ => ?_)
  have q := ho j a (by omega)
  have := tvX_in (f := f) (m := σ.I 43 j) hb q.1 q.2.1 q.2.2.2
  rw [tv_TO] at this
  omega
def VFX (σ : Sto) (o : Nat) : Prop := ∀ k, 0 ≤ k → k < σ.I o 7 → σ.I (o + 1) k = 1 → ∀ j, 0 ≤ j → j < σ.I 43 k → 0 ≤ σ.I 26 (σ.I 42 k + j) ∧ σ.I 26 (σ.I 42 k + j) < σ.I 0 9

theorem sp_X6_count {E : XE} {d : Nat} {σ : Sto} {o0 : Nat} (hd : 1 ≤ d) (hL : Lay σ) (ho0 : At6 σ o0) (p0 : o0 = 102 ∨ o0 = 136 ∨ o0 = 170) (p1 : 0 ≤ σ.I 0 9 ∧ σ.I 0 9 ≤ 12) (p2 : 0 ≤ σ.I o0 6 ∧ σ.I o0 6 ≤ σ.I o0 7 ∧ σ.I o0 7 ≤ 601) (p3 : OB σ 42 43) (p4 : bd_0_250 σ 32 6000) (p5 : VFX σ o0) : CC E mX6_count d [aO o0] σ (RV (fun τ => (CNT σ τ o0 (σ.I o0 7)) ∧ (KCn o0 σ τ))) := by sorry
end
section
/-! contracts: printed by tools/mk.py out of s47r_wfx.py -/
set_option maxRecDepth 100000
set_option maxHeartbeats 1500000
/-! the program's table of nodes, read as far as it goes: no order of the nodes is asked for, only that the reading ends -/
def GX (σ : Sto) (o : Nat) : Nat → Int → Int := fun c i => if c = 0 then σ.I (o + 3) i else if c = 1 then σ.I (o + 4) i else if c = 2 then σ.I (o + 5) i else if c = 3 then σ.I (o + 6) i else if c = 4 then σ.I (o + 7) i else if c = 6 then σ.I (o + 11) i else 0
def WFX (G : Nat → Int → Int) (R : Int → Prop) : Nat → Int → Prop
  | 0, _ => False
  | f + 1, x => x = -1 ∨ ((0 ≤ x ∧ x < 200) ∧ R x ∧ WFX G R f (G 1 x) ∧ WFX G R f (G 2 x))
section WFX
variable {G : Nat → Int → Int} {R : Int → Prop}
theorem WFX_m : ∀ {f : Nat} {x : Int}, WFX G R f x → WFX G R (f + 1) x := by
  intro f
  induction f with
  | zero => intro x h; exact h.elim
  | succ f ih =>
    intro x h
    rcases h with h | ⟨h1, h2, h3, h4⟩
    · exact Or.inl h
    · exact Or.inr ⟨h1, h2, ih h3, ih h4⟩
theorem WFX_le {f g : Nat} {x : Int} (h : WFX G R f x) (hg : f ≤ g) : WFX G R g x := by
  induction hg with
  | refl => exact h
  | step _ ih => exact WFX_m ih
theorem WFX_at {f : Nat} {x : Int} (h : WFX G R f x) (h0 : 0 ≤ x) : 0 < f ∧ x < 200 ∧ R x ∧ WFX G R (Nat.pred f) (G 1 x) ∧ WFX G R (Nat.pred f) (G 2 x) := by
  cases f with
  | zero => exact h.elim
  | succ f =>
    rcases h with h | ⟨h1, h2, h3, h4⟩
    · omega
    · exact ⟨by omega, h1.2, h2, h3, h4⟩
theorem WFX_v {f : Nat} {x : Int} (h : WFX G R f x) : x = -1 ∨ (0 ≤ x ∧ x < 200) := by
  cases f with
  | zero => exact h.elim
  | succ f => rcases h with h | h; (exact Or.inl h); (exact Or.inr h.1)
/-- a member's next one is read with the same fuel -/
theorem WFX_n {f : Nat} {x : Int} (h : WFX G R f x) (h0 : 0 ≤ x) : WFX G R f (G 2 x) := WFX_le (WFX_at h h0).2.2.2.2 (Nat.pred_le f)
/-- how long a chain of members is -/
def clX (G : Nat → Int → Int) : Nat → Int → Nat
  | 0, _ => 0
  | f + 1, x => if x < 0 then 0 else 1 + clX G f (G 2 x)
theorem clX_m : ∀ {f : Nat} {x : Int}, WFX G R f x → clX G (f + 1) x = clX G f x := by
  intro f
  induction f with
  | zero => intro x h; exact h.elim
  | succ f ih =>
    intro x h
    show (if x < 0 then 0 else 1 + clX G (f + 1) (G 2 x)) = (if x < 0 then 0 else 1 + clX G f (G 2 x))
    by_cases q : x < 0
    · rw [if_pos q, if_pos q]
    · rw [if_neg q, if_neg q]
      rcases h with h | ⟨_, _, _, h4⟩
      · omega
      · rw [ih h4]
theorem clX_s {f : Nat} {x : Int} (h : WFX G R f x) (h0 : 0 ≤ x) : clX G f (G 2 x) < clX G f x := by
  cases f with
  | zero => exact h.elim
  | succ f =>
    have h4 := (WFX_at h h0).2.2.2.2
    have h4 : WFX G R f (G 2 x) := h4
    rw [clX_m h4]
    show clX G f (G 2 x) < (if x < 0 then 0 else 1 + clX G f (G 2 x))
    rw [if_neg (by omega)]
    omega
end WFX
/-- what is asked of a node: what it is worth, and that its row is well made -/
def NWX (G : Nat → Int → Int) (W : Int → Prop) (P : Int → Int) (Lf V : Int → Int → Int) (x : Int) : Prop :=
  (∀ o, 0 ≤ o → o < 601 → W o → V x o = vB G W P 600 Lf V x o) ∧ (0 ≤ G 0 x ∧ G 0 x ≤ 12) ∧ (0 ≤ G 3 x ∧ G 3 x ≤ 2) ∧ (1 ≤ G 4 x ∧ G 4 x ≤ 10000000000000) ∧ (4 ≤ G 0 x → G 0 x ≤ 5 → 0 ≤ G 1 x) ∧ (G 0 x = 3 → 0 ≤ G 6 x ∧ G 6 x ≤ 1000) ∧ ∀ o, 0 ≤ o → o < 601 → W o → V x o = -1 ∨ (0 ≤ V x o ∧ V x o ≤ 1000000000000000)
theorem CHL_WFX {T G : Nat → Int → Int} {R : Int → Prop} {f : Nat} : ∀ {k x : Int}, prN T G f k x → (∀ k x, CHL T G k x → 0 ≤ k → R x) → WFX G R f x := by
  induction f with
  | zero => intro k x h _; exact h.elim
  | succ f ih =>
    intro k x h hR
    rcases h with ⟨_, h⟩ | ⟨h1, h2, h3, h4⟩
    · exact Or.inl h
    · exact Or.inr ⟨⟨h1.2.1, h1.2.2⟩, hR k x ⟨f + 1, Or.inr ⟨h1, h2, h3, h4⟩⟩ h1.1, ih h3 hR, ih h4 hR⟩
end
section
/-! contracts: printed by tools/mk.py out of s47t_chgX.py -/
set_option maxRecDepth 100000
set_option maxHeartbeats 1500000
/-- the cell of analyser k -/
def anC (σ : Sto) (k : Int) : Nat := (σ.R 3 k).getD 0
def AN (σ : Sto) : Prop := ∀ k, 0 ≤ k → k < σ.I 0 4 → σ.R 3 k = some (anC σ k) ∧ At10 σ (anC σ k) ∧ 675 ≤ anC σ k
theorem AN_R {σ : Sto} {k : Int} (h : AN σ) (h0 : 0 ≤ k) (h1 : k < σ.I 0 4) : σ.R 3 k = some (anC σ k) := (h k h0 h1).1
theorem AN_g {σ : Sto} {k : Int} (h : AN σ) (h0 : 0 ≤ k) (h1 : k < σ.I 0 4) : 675 ≤ anC σ k := (h k h0 h1).2.2
theorem AN_c {σ τ : Sto} {k : Int} {b : Nat} (h : AN σ) (hR : τ.R = σ.R) (h0 : 0 ≤ k) (h1 : k < σ.I 0 4) (r : τ.R 3 k = some b) : b = anC σ k := by
  rw [hR, (h k h0 h1).1] at r
  cases r
  rfl
theorem AN_b {σ τ : Sto} {k : Int} {b : Nat} (h : AN σ) (hR : τ.R = σ.R) (g : SF σ τ) (h0 : 0 ≤ k) (h1 : k < σ.I 0 4) (r : τ.R 3 k = some b) : At10 τ b := by
  rw [AN_c h hR h0 h1 r]; exact (h k h0 h1).2.1.sf g
theorem AN_n {σ τ : Sto} {k : Int} (h : AN σ) (hR : τ.R = σ.R) (h0 : 0 ≤ k) (h1 : k < σ.I 0 4) : τ.R 3 k ≠ none := by
  rw [hR, (h k h0 h1).1]; exact fun z => by cases z
theorem AN_k {σ τ : Sto} (h : AN σ) (hR : τ.R = σ.R) (hs : τ.sh = σ.sh) (hn : τ.n = σ.n) (hc : τ.I 0 4 = σ.I 0 4) : AN τ := by
  have g : SF σ τ := ⟨fun a k b _ q => by rw [hR]; exact q, fun a t z q _ => by rw [hs]; exact q, by rw [hn]; exact Nat.le_refl _⟩
  intro k h0 h1
  rw [hc] at h1
  have q := h k h0 h1
  have e : anC τ k = anC σ k := by unfold anC; rw [hR]
  rw [e, hR]
  exact ⟨q.1, q.2.1.sf g, q.2.2⟩

theorem sp_X5_wild {E : XE} {d : Nat} {σ : Sto} {o0 : Nat} {x1 : Int} (hd : 1 ≤ d) (hL : Lay σ) (ho0 : At5 σ o0) (p0 : 0 ≤ x1 ∧ x1 < 36500) (p1 : bd_0_20 σ 21 36500) (p2 : 0 ≤ (σ.I o0 16) ∧ (σ.I o0 16) ≤ 20) : CC E mX5_wild d [aO o0, aI (x1)] σ (RZ σ (wd (σ.I (o0 + 30)) (σ.I o0 16) (σ.I 19) (20 * x1) (σ.I 21 x1) 0 0 (-1) 0 = 1)) := by sorry
/-- the table of changes alone is written -/
def wsC (c : Nat) (i : Int) : Prop := c = 81 ∧ i = i
abbrev KC (σ τ : Sto) : Prop := Ch wsC σ τ
theorem KC_rf {σ : Sto} : KC σ σ := Ch.rf
theorem KC_w {σ τ : Sto} {a : Nat} {i v : Int} (e : τ = σ.wI a i v) (h : wsC a i) : KC σ τ := by subst e; exact Ch.wI Ch.rf h
theorem kc {σ τ : Sto} (h : KC σ τ) {c : Nat} (q : c ≠ 81) : τ.I c = σ.I c := funext fun i => h.2 c i (fun z => q z.1)

theorem GR_cell {G A B : Int → Int} {a b m i j : Int} (h : GR G 22 A a B b m i j) (h1 : 0 < i) (h2 : 0 < j) (hj : j ≤ m) (hi : i ≤ 20) (hm : m ≤ 20) :
    ((0 ≤ G (22 * (i - 1) + j) ∧ G (22 * (i - 1) + j) ≤ 60) ∧ (0 ≤ G (22 * i + j - 1) ∧ G (22 * i + j - 1) ≤ 60) ∧ (0 ≤ G (22 * (i - 1) + j - 1) ∧ G (22 * (i - 1) + j - 1) ≤ 60) ∧ (1 < i → 1 < j → 0 ≤ G (22 * (i - 2) + j - 2) ∧ G (22 * (i - 2) + j - 2) ≤ 60)) ∧
    ed A a B b i j = if 1 < i ∧ 1 < j ∧ A (a + i - 1) = B (b + j - 2) ∧ A (a + i - 2) = B (b + j - 1) then min (min (min (G (22 * (i - 1) + j)) (G (22 * i + j - 1)) + 1) (G (22 * (i - 1) + j - 1) + (if A (a + i - 1) = B (b + j - 1) then 0 else 1))) (G (22 * (i - 2) + j - 2) + 1) else min (min (G (22 * (i - 1) + j)) (G (22 * i + j - 1)) + 1) (G (22 * (i - 1) + j - 1) + (if A (a + i - 1) = B (b + j - 1) then 0 else 1)) := by
  have q1 := GR_at h (k := i - 1) (l := j) (by omega) (by omega) (by omega) (by omega)
  have q2 := GR_at h (k := i) (l := j - 1) (by omega) (by omega) (by omega) (by omega)
  have q3 := GR_at h (k := i - 1) (l := j - 1) (by omega) (by omega) (by omega) (by omega)
  have q4 := fun (z1 : 1 < i) (z2 : 1 < j) => GR_at h (k := i - 2) (l := j - 2) (by omega) (by omega) (by omega) (by omega)
  rw [show 22 * i + (j - 1) = 22 * i + j - 1 by omega] at q2
  rw [show 22 * (i - 1) + (j - 1) = 22 * (i - 1) + j - 1 by omega] at q3
  rw [show 22 * (i - 2) + (j - 2) = 22 * (i - 2) + j - 2 by omega] at q4
  have b1 := ed_b A a B b (i - 1) j (by omega) (by omega)
  have b2 := ed_b A a B b i (j - 1) (by omega) (by omega)
  have b3 := ed_b A a B b (i - 1) (j - 1) (by omega) (by omega)
  have b4 := fun (z1 : 1 < i) (z2 : 1 < j) => ed_b A a B b (i - 2) (j - 2) (by omega) (by omega)
  refine ⟨⟨by rw [q1]; omega, by rw [q2]; omega, by rw [q3]; omega, fun z1 z2 => by have := b4 z1 z2; rw [q4 z1 z2]; omega⟩, ?_⟩
  rw [ed_s A a B b i j h1 h2, q1, q2, q3]
  by_cases c : 1 < i ∧ 1 < j ∧ A (a + i - 1) = B (b + j - 2) ∧ A (a + i - 2) = B (b + j - 1)
  · rw [if_pos c, if_pos c, q4 c.1 c.2.1]
  · rw [if_neg c, if_neg c]

theorem sp_X0_changes {E : XE} {d : Nat} {σ : Sto} {o1 : Nat} {n1 : Nat} {x2 : Int} {x3 : Int} {x4 : Int} {x5 : Int} (hd : 2 ≤ d) (hL : Lay σ) (ho1 : σ.sh o1 = (1, n1)) (p0 : 0 ≤ x2 ∧ 0 ≤ x3 ∧ x3 ≤ 20 ∧ x2 + x3 ≤ n1 ∧ (n1 : Int) ≤ 1000000) (p1 : 0 ≤ x4 ∧ x4 < 36500) (p2 : bd_0_20 σ 21 36500) (p3 : 0 ≤ x5 ∧ x5 ≤ 9) (p4 : o1 ≠ 81 ∧ o1 ≠ 19) : CC E mX0_changes d [aO 0, aO o1, aI (x2), aI (x3), aI (x4), aI (x5)] σ (RVI (fun y τ => (y = min (ed (σ.I o1) x2 (σ.I 19) (20 * x4) x3 (σ.I 21 x4)) (x5 + 1)) ∧ (KC σ τ))) := by sorry
end
section
/-! contracts: printed by tools/mk.py out of s47ta_patX.py -/
set_option maxRecDepth 100000
set_option maxHeartbeats 1500000
/-- a byte of a node's pattern, folded as its field is -/
def ptX (σ : Sto) (o : Nat) (n k : Int) : Int := if σ.I 16 (σ.I (o + 8) n) = 0 ∧ σ.I (anC σ (σ.I 17 (σ.I (o + 8) n))) 0 = 1 then fo (σ.I (o + 2) (σ.I (o + 9) n + k)) else σ.I (o + 2) (σ.I (o + 9) n + k)
def fitX (σ : Sto) (o : Nat) (n t : Int) : Prop := (σ.I (o + 3) n = 11 ∧ wd (ptX σ o n) (σ.I (o + 10) n - σ.I (o + 9) n) (σ.I 19) (20 * t) (σ.I 21 t) 0 0 (-1) 0 = 1) ∨ (σ.I (o + 3) n ≠ 11 ∧ ed (ptX σ o n) 0 (σ.I 19) (20 * t) (σ.I (o + 10) n - σ.I (o + 9) n) (σ.I 21 t) ≤ σ.I (o + 11) n)
def wsXp (o c : Nat) (i : Int) : Prop := c = 81 ∨ c = o + 30 ∨ (c = o ∧ i = 16)
abbrev KXp (o : Nat) (σ τ : Sto) : Prop := Ch (wsXp o) σ τ
theorem KXp_rf {o : Nat} {σ : Sto} : KXp o σ σ := Ch.rf
theorem KXp_w {o : Nat} {σ τ : Sto} {a : Nat} {i v : Int} (e : τ = σ.wI a i v) (h : wsXp o a i) : KXp o σ τ := by subst e; exact Ch.wI Ch.rf h
theorem KXp_of_KC {o : Nat} {σ τ : Sto} (h : KC σ τ) : KXp o σ τ := Ch.mono h (fun c i z => Or.inl z.1)
theorem KXp_rd {o : Nat} {σ τ : Sto} {F : Nat → Int → Int} (r : τ.R = σ.R) (s : τ.sh = σ.sh) (n : τ.n = σ.n) (e : τ.I = F) (h : ∀ c i, ¬ wsXp o c i → F c i = σ.I c i) : KXp o σ τ := ⟨⟨r, s, n⟩, fun c i q => by rw [e]; exact h c i q⟩
/-- a leaf with a pattern of X's is well made -/
def TNX (σ : Sto) (o : Nat) (n : Int) : Prop := (0 ≤ σ.I (o + 8) n ∧ σ.I (o + 8) n < σ.I 0 9 ∧ σ.I 0 9 ≤ 12) ∧ (0 ≤ σ.I (o + 9) n ∧ σ.I (o + 9) n ≤ σ.I (o + 10) n ∧ σ.I (o + 10) n ≤ σ.I (o + 9) n + 20 ∧ σ.I (o + 10) n ≤ 400) ∧ (0 ≤ σ.I (o + 11) n ∧ σ.I (o + 11) n ≤ 9) ∧ (σ.I 16 (σ.I (o + 8) n) = 0 → 0 ≤ σ.I 17 (σ.I (o + 8) n) ∧ σ.I 17 (σ.I (o + 8) n) < σ.I 0 4 ∧ σ.I 0 4 ≤ 6)
theorem fo_u {c : Prop} [Decidable c] (x : Int) (h1 : -128 ≤ x) (h2 : x ≤ 127) : sx8 (if c ∧ 65 ≤ x % 256 ∧ x % 256 ≤ 90 then x % 256 + 32 else x % 256) = if c then fo x else x := by
  by_cases hc : c
  · rw [if_pos hc]
    by_cases q : 65 ≤ x % 256 ∧ x % 256 ≤ 90
    · rw [if_pos ⟨hc, q⟩, sx8_eq]; unfold fo; rw [if_pos (by omega)]; omega
    · rw [if_neg (fun z => q z.2), sx8_eq]; unfold fo; rw [if_neg (by omega)]; omega
  · rw [if_neg (fun z => hc z.1), if_neg hc, sx8_eq]; omega
theorem ptX_b {σ : Sto} {o : Nat} {n k : Int} {x : Int} (hx : -128 ≤ σ.I (o + 2) (σ.I (o + 9) n + k) ∧ σ.I (o + 2) (σ.I (o + 9) n + k) ≤ 127) (ht : σ.I 16 (σ.I (o + 8) n) = 0)
    (e : x = if σ.I (anC σ (σ.I 17 (σ.I (o + 8) n))) 0 = 1 ∧ 65 ≤ σ.I (o + 2) (σ.I (o + 9) n + k) % 256 ∧ σ.I (o + 2) (σ.I (o + 9) n + k) % 256 ≤ 90 then σ.I (o + 2) (σ.I (o + 9) n + k) % 256 + 32 else σ.I (o + 2) (σ.I (o + 9) n + k) % 256) : sx8 x = ptX σ o n k := by
  rw [e, fo_u _ hx.1 hx.2]
  unfold ptX
  by_cases c : σ.I (anC σ (σ.I 17 (σ.I (o + 8) n))) 0 = 1
  · rw [if_pos c, if_pos ⟨ht, c⟩]
  · rw [if_neg c, if_neg (fun z => c z.2)]
theorem ptX_c {σ : Sto} {o : Nat} {n k : Int} (hx : -128 ≤ σ.I (o + 2) (σ.I (o + 9) n + k) ∧ σ.I (o + 2) (σ.I (o + 9) n + k) ≤ 127) (ht : ¬ σ.I 16 (σ.I (o + 8) n) = 0) : sx8 (σ.I (o + 2) (σ.I (o + 9) n + k) % 256) = ptX σ o n k := by
  unfold ptX
  rw [if_neg (fun z => ht z.1), sx8_eq]; omega

theorem FD_step {σ τ υ : Sto} {o : Nat} {n k v m : Int} (h : τ.I = fun c i => if rg c i (o + 30) 0 k then ptX σ o n i else if at2 c i o 16 then m else σ.I c i) (hk : 0 ≤ k) (hu : υ = τ.wI (o + 30) k v) (hv : v = ptX σ o n k) : υ.I = fun c i => if rg c i (o + 30) 0 (k + 1) then ptX σ o n i else if at2 c i o 16 then m else σ.I c i := by
  funext c i
  rw [hu, I_wI, h]
  show (if c = o + 30 ∧ i = k then v else if rg c i (o + 30) 0 k then ptX σ o n i else if at2 c i o 16 then m else σ.I c i) = _
  by_cases q : c = o + 30 ∧ i = k
  · rw [if_pos q, if_pos ⟨q.1, by omega, by omega⟩, q.2]; exact hv
  · rw [if_neg q]
    by_cases r : rg c i (o + 30) 0 k
    · rw [if_pos r, if_pos ⟨r.1, r.2.1, by omega⟩]
    · rw [if_neg r, if_neg (c := rg c i (o + 30) 0 (k + 1)) (fun z => r ⟨z.1, z.2.1, by have : i ≠ k := fun y => q ⟨z.1, y⟩; have := z.2.2; omega⟩)]

theorem sp_X5_fold {E : XE} {d : Nat} {σ : Sto} {o0 : Nat} {x1 : Int} (hd : 2 ≤ d) (hL : Lay σ) (ho0 : At5 σ o0) (p0 : o0 = 87 ∨ o0 = 121 ∨ o0 = 155) (p1 : 0 ≤ x1 ∧ x1 < 200) (p2 : TNX σ o0 x1) (p3 : AN σ) : CC E mX5_fold d [aO o0, aI (x1)] σ (RV (fun τ => (RD σ τ (fun c i => if rg c i (o0 + 30) 0 (σ.I (o0 + 10) x1 - σ.I (o0 + 9) x1) then ptX σ o0 x1 i else if at2 c i o0 16 then (σ.I (o0 + 10) x1 - σ.I (o0 + 9) x1) else σ.I c i)))) := by sorry
end
section
/-! contracts: printed by tools/mk.py out of s47tb_fitX.py -/
set_option maxRecDepth 100000
set_option maxHeartbeats 1500000
theorem fitX_w {σ : Sto} {o : Nat} {n t : Int} (h : σ.I (o + 3) n = 11) : fitX σ o n t ↔ wd (ptX σ o n) (σ.I (o + 10) n - σ.I (o + 9) n) (σ.I 19) (20 * t) (σ.I 21 t) 0 0 (-1) 0 = 1 := ⟨fun z => z.elim (fun y => y.2) (fun y => absurd h y.1), fun z => Or.inl ⟨h, z⟩⟩
theorem fitX_f {σ : Sto} {o : Nat} {n t : Int} (h : σ.I (o + 3) n ≠ 11) : fitX σ o n t ↔ ed (ptX σ o n) 0 (σ.I 19) (20 * t) (σ.I (o + 10) n - σ.I (o + 9) n) (σ.I 21 t) ≤ σ.I (o + 11) n := ⟨fun z => z.elim (fun y => absurd y.1 h) (fun y => y.2), fun z => Or.inr ⟨h, z⟩⟩

theorem sp_X5_fitsTerm {E : XE} {d : Nat} {σ : Sto} {o0 : Nat} {x1 : Int} {x2 : Int} (hd : 3 ≤ d) (hL : Lay σ) (ho0 : At5 σ o0) (p0 : o0 = 87 ∨ o0 = 121 ∨ o0 = 155) (p1 : 0 ≤ x1 ∧ x1 < 200) (p2 : TNX σ o0 x1) (p3 : AN σ) (p4 : 0 ≤ x2 ∧ x2 < 36500) (p5 : bd_0_20 σ 21 36500) : CC E mX5_fitsTerm d [aO o0, aI (x1), aI (x2)] σ (RVZ (fun y τ => (y = 1 ↔ fitX σ o0 x1 x2) ∧ (KXp o0 σ τ))) := by sorry
end
section
/-! contracts: printed by tools/mk.py out of s47tc_fits.py -/
set_option maxRecDepth 100000
set_option maxHeartbeats 1500000
/-- a value that a RANGE or CIRCLE fits -/
def lvX (σ : Sto) (o : Nat) (x v : Int) : Prop := σ.I 26 v = σ.I (o + 8) x ∧ ((σ.I (o + 3) x = 9 ∧ σ.I (o + 12) x ≤ σ.I 30 v ∧ σ.I 30 v ≤ σ.I (o + 13) x) ∨ (σ.I (o + 3) x ≠ 9 ∧ (b64shr (σ.I 30 v) 32 - σ.I (o + 12) x) * (b64shr (σ.I 30 v) 32 - σ.I (o + 12) x) + (w32 (σ.I 30 v) - σ.I (o + 13) x) * (w32 (σ.I 30 v) - σ.I (o + 13) x) ≤ σ.I (o + 14) x * σ.I (o + 14) x))
/-- points lie within bounds -/
def PTX (σ : Sto) (f : Int) : Prop := ∀ v, 0 ≤ v → v < σ.I 0 20 → σ.I 26 v = f → (-1000000000 ≤ b64shr (σ.I 30 v) 32 ∧ b64shr (σ.I 30 v) 32 ≤ 1000000000) ∧ (-1000000000 ≤ w32 (σ.I 30 v) ∧ w32 (σ.I 30 v) ≤ 1000000000)
theorem lvX_9 {σ : Sto} {o : Nat} {x v : Int} (h : σ.I (o + 3) x = 9) : lvX σ o x v ↔ σ.I 26 v = σ.I (o + 8) x ∧ σ.I (o + 12) x ≤ σ.I 30 v ∧ σ.I 30 v ≤ σ.I (o + 13) x := ⟨fun z => ⟨z.1, z.2.elim (fun y => y.2) (fun y => absurd h y.1)⟩, fun z => ⟨z.1, Or.inl ⟨h, z.2⟩⟩⟩
theorem lvX_0 {σ : Sto} {o : Nat} {x v : Int} (h : σ.I (o + 3) x ≠ 9) : lvX σ o x v ↔ σ.I 26 v = σ.I (o + 8) x ∧ (b64shr (σ.I 30 v) 32 - σ.I (o + 12) x) * (b64shr (σ.I 30 v) 32 - σ.I (o + 12) x) + (w32 (σ.I 30 v) - σ.I (o + 13) x) * (w32 (σ.I 30 v) - σ.I (o + 13) x) ≤ σ.I (o + 14) x * σ.I (o + 14) x := ⟨fun z => ⟨z.1, z.2.elim (fun y => absurd y.1 h) (fun y => y.2)⟩, fun z => ⟨z.1, Or.inr ⟨h, z.2⟩⟩⟩

theorem sp_X5_fits {E : XE} {d : Nat} {σ : Sto} {o0 : Nat} {x1 : Int} {x2 : Int} (hd : 2 ≤ d) (hL : Lay σ) (ho0 : At5 σ o0) (p0 : 0 ≤ x1 ∧ x1 < 200) (p1 : 0 ≤ x2 ∧ x2 < 601) (p2 : OB σ 42 43) (p3 : σ.I (o0 + 3) x1 ≠ 9 → (-1000000000 ≤ σ.I (o0 + 12) x1 ∧ σ.I (o0 + 12) x1 ≤ 1000000000) ∧ (-1000000000 ≤ σ.I (o0 + 13) x1 ∧ σ.I (o0 + 13) x1 ≤ 1000000000) ∧ (0 ≤ σ.I (o0 + 14) x1 ∧ σ.I (o0 + 14) x1 ≤ 1000000000)) (p4 : σ.I (o0 + 3) x1 ≠ 9 → PTX σ (σ.I (o0 + 8) x1)) (p5 : σ.I (o0 + 3) x1 ≠ 9 → σ.I 42 x2 + σ.I 43 x2 ≤ σ.I 0 20) : CC E mX5_fits d [aO o0, aI (x1), aI (x2)] σ (RZ σ (exN (fun j => lvX σ o0 x1 ((σ.I 42 x2) + j)) (σ.I 43 x2))) := by sorry
end
